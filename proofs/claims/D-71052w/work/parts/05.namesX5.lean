/-! LaneCymbalsModel -/
set_option maxRecDepth 100000
def RX5 : String := "LaneCymbalsModel"
def TX5 : u_T := fun k => match k with
  | 0 => ("LaneCymbalsModel", "row", "[I", true)
  | 1 => ("LaneCymbalsModel", "isKept", "[Z", true)
  | 2 => ("LaneCymbalsModel", "refused", "[I", true)
  | 3 => ("LaneCymbalsModel", "above", "J", false)
  | 4 => ("LaneCymbalsModel", "below", "J", false)
  | 5 => ("LaneCymbalsModel", "text", "[I", true)
  | 6 => ("LaneCymbalsModel", "length", "I", false)
  | 7 => ("LaneCymbalsModel", "words", "[I", true)
  | 8 => ("LaneCymbalsModel", "at", "I", false)
  | 9 => ("LaneCymbalsModel", "behind", "I", false)
  | 10 => ("LaneCymbalsModel", "readPeople", "I", false)
  | 11 => ("LaneCymbalsModel", "readAunts", "I", false)
  | 12 => ("LaneCymbalsModel", "doing", "Z", false)
  | 13 => ("LaneCymbalsModel", "leanings", "[I", true)
  | 14 => ("LaneCymbalsModel", "left", "[I", true)
  | 15 => ("LaneCymbalsModel", "right", "[I", true)
  | 16 => ("LaneCymbalsModel", "lefts", "I", false)
  | 17 => ("LaneCymbalsModel", "rights", "I", false)
  | 18 => ("LaneCymbalsModel", "mates", "[I", true)
  | 19 => ("LaneCymbalsModel", "best", "[I", true)
  | 20 => ("LaneCymbalsModel", "comes", "[I", true)
  | _ => ("LaneCymbalsModel", "both", "[I", true)
def tyX5 : Nat → FieldType := fun k => match k with
  | 0 => .array .int
  | 1 => .array .boolean
  | 2 => .array .int
  | 3 => .long
  | 4 => .long
  | 5 => .array .int
  | 6 => .int
  | 7 => .array .int
  | 8 => .int
  | 9 => .int
  | 10 => .int
  | 11 => .int
  | 12 => .boolean
  | 13 => .array .int
  | 14 => .array .int
  | 15 => .array .int
  | 16 => .int
  | 17 => .int
  | 18 => .array .int
  | 19 => .array .int
  | 20 => .array .int
  | _ => .array .int
abbrev wsX50 : List Cond := u_ws RX5 TX5 22
set_option maxRecDepth 100000 in
theorem nmX5 : ∀ a, a < 22 → ∀ b, b < 22 → a ≠ b → (TX5 a).2.1 ≠ (TX5 b).2.1 := by decide +kernel
set_option maxRecDepth 100000 in
theorem tyX5_ok : ∀ k, k < 22 → parseFieldDescriptor (TX5 k).2.2.1 = some (tyX5 k) := by decide +kernel
abbrev cX5_init : ByteArray := prog_20_method_1_code
def yX5_init : MethodName := ⟨RX5, "<init>", "()V"⟩
def dkwX5_init_11 : List UInt8 := [16, 20, 188, 10, 181, 0, 48, 42, 180, 0, 7, 16, 10, 16, 12, 79, 177]
abbrev dktX5_init_11 : List UInt8 := dkwX5_init_11 ++ []
def dkwX5_init_10 : List UInt8 := [16, 7, 188, 10, 181, 0, 39, 42, 16, 7, 188, 10, 181, 0, 42, 42, 16, 6, 188, 10, 181, 0, 45, 42]
abbrev dktX5_init_10 : List UInt8 := dkwX5_init_10 ++ dktX5_init_11
def dkwX5_init_9 : List UInt8 := [16, 7, 188, 10, 181, 0, 30, 42, 16, 7, 188, 10, 181, 0, 33, 42, 16, 7, 188, 10, 181, 0, 36, 42]
abbrev dktX5_init_9 : List UInt8 := dkwX5_init_9 ++ dktX5_init_10
def dkwX5_init_8 : List UInt8 := [79, 89, 16, 27, 16, 110, 79, 89, 16, 28, 16, 116, 79, 89, 16, 29, 16, 115, 79, 181, 0, 27, 42]
abbrev dktX5_init_8 : List UInt8 := dkwX5_init_8 ++ dktX5_init_9
def dkwX5_init_7 : List UInt8 := [3, 79, 89, 16, 23, 3, 79, 89, 16, 24, 16, 99, 79, 89, 16, 25, 16, 111, 79, 89, 16, 26, 16, 117]
abbrev dktX5_init_7 : List UInt8 := dkwX5_init_7 ++ dktX5_init_8
def dkwX5_init_6 : List UInt8 := [16, 97, 79, 89, 16, 19, 16, 119, 79, 89, 16, 20, 16, 97, 79, 89, 16, 21, 16, 121, 79, 89, 16, 22]
abbrev dktX5_init_6 : List UInt8 := dkwX5_init_6 ++ dktX5_init_7
def dkwX5_init_5 : List UInt8 := [16, 14, 16, 110, 79, 89, 16, 15, 16, 116, 79, 89, 16, 16, 3, 79, 89, 16, 17, 3, 79, 89, 16, 18]
abbrev dktX5_init_5 : List UInt8 := dkwX5_init_5 ++ dktX5_init_6
def dkwX5_init_4 : List UInt8 := [79, 89, 16, 10, 3, 79, 89, 16, 11, 3, 79, 89, 16, 12, 16, 97, 79, 89, 16, 13, 16, 117, 79, 89]
abbrev dktX5_init_4 : List UInt8 := dkwX5_init_4 ++ dktX5_init_5
def dkwX5_init_3 : List UInt8 := [3, 79, 89, 16, 6, 16, 111, 79, 89, 16, 7, 16, 110, 79, 89, 16, 8, 16, 101, 79, 89, 16, 9, 3]
abbrev dktX5_init_3 : List UInt8 := dkwX5_init_3 ++ dktX5_init_4
def dkwX5_init_2 : List UInt8 := [16, 108, 79, 89, 4, 16, 97, 79, 89, 5, 16, 110, 79, 89, 6, 16, 101, 79, 89, 7, 3, 79, 89, 8]
abbrev dktX5_init_2 : List UInt8 := dkwX5_init_2 ++ dktX5_init_3
def dkwX5_init_1 : List UInt8 := [181, 0, 17, 42, 10, 181, 0, 20, 42, 17, 0, 150, 188, 10, 181, 0, 24, 42, 16, 30, 188, 10, 89, 3]
abbrev dktX5_init_1 : List UInt8 := dkwX5_init_1 ++ dktX5_init_2
def dkwX5_init_0 : List UInt8 := [42, 183, 0, 1, 42, 17, 2, 35, 188, 10, 181, 0, 7, 42, 5, 188, 4, 181, 0, 13, 42, 6, 188, 10]
abbrev dktX5_init_0 : List UInt8 := dkwX5_init_0 ++ dktX5_init_1
theorem dksX5_init_0 : cX5_init.data.toList.drop 0 = dktX5_init_0 := by decide +kernel
theorem dksX5_init_1 : cX5_init.data.toList.drop 24 = dktX5_init_1 := dk_seg dksX5_init_0 24 rfl rfl
theorem dksX5_init_2 : cX5_init.data.toList.drop 48 = dktX5_init_2 := dk_seg dksX5_init_1 24 rfl rfl
theorem dksX5_init_3 : cX5_init.data.toList.drop 72 = dktX5_init_3 := dk_seg dksX5_init_2 24 rfl rfl
theorem dksX5_init_4 : cX5_init.data.toList.drop 96 = dktX5_init_4 := dk_seg dksX5_init_3 24 rfl rfl
theorem dksX5_init_5 : cX5_init.data.toList.drop 120 = dktX5_init_5 := dk_seg dksX5_init_4 24 rfl rfl
theorem dksX5_init_6 : cX5_init.data.toList.drop 144 = dktX5_init_6 := dk_seg dksX5_init_5 24 rfl rfl
theorem dksX5_init_7 : cX5_init.data.toList.drop 168 = dktX5_init_7 := dk_seg dksX5_init_6 24 rfl rfl
theorem dksX5_init_8 : cX5_init.data.toList.drop 192 = dktX5_init_8 := dk_seg dksX5_init_7 24 rfl rfl
theorem dksX5_init_9 : cX5_init.data.toList.drop 215 = dktX5_init_9 := dk_seg dksX5_init_8 23 rfl rfl
theorem dksX5_init_10 : cX5_init.data.toList.drop 239 = dktX5_init_10 := dk_seg dksX5_init_9 24 rfl rfl
theorem dksX5_init_11 : cX5_init.data.toList.drop 263 = dktX5_init_11 := dk_seg dksX5_init_10 24 rfl rfl
theorem dX5_init_0 : decode cX5_init 0 = .ok (.aload_n 0, 1) := dk_42 (dk_at dksX5_init_0 0 rfl rfl)
theorem dX5_init_1 : decode cX5_init 1 = .ok (.invokespecial 1, 3) := dk_183 0 1 (dk_at dksX5_init_0 1 rfl rfl)
theorem dX5_init_4 : decode cX5_init 4 = .ok (.aload_n 0, 1) := dk_42 (dk_at dksX5_init_0 4 rfl rfl)
theorem dX5_init_5 : decode cX5_init 5 = .ok (.sipush 547, 3) := dk_17 2 35 (dk_at dksX5_init_0 5 rfl rfl)
theorem dX5_init_8 : decode cX5_init 8 = .ok (.newarray .int, 2) := dk_188_10 (dk_at dksX5_init_0 8 rfl rfl)
theorem dX5_init_10 : decode cX5_init 10 = .ok (.putfield 7, 3) := dk_181 0 7 (dk_at dksX5_init_0 10 rfl rfl)
theorem dX5_init_13 : decode cX5_init 13 = .ok (.aload_n 0, 1) := dk_42 (dk_at dksX5_init_0 13 rfl rfl)
theorem dX5_init_14 : decode cX5_init 14 = .ok (.iconst 2, 1) := dk_5 (dk_at dksX5_init_0 14 rfl rfl)
theorem dX5_init_15 : decode cX5_init 15 = .ok (.newarray .boolean, 2) := dk_188_4 (dk_at dksX5_init_0 15 rfl rfl)
theorem dX5_init_17 : decode cX5_init 17 = .ok (.putfield 13, 3) := dk_181 0 13 (dk_at dksX5_init_0 17 rfl rfl)
theorem dX5_init_20 : decode cX5_init 20 = .ok (.aload_n 0, 1) := dk_42 (dk_at dksX5_init_0 20 rfl rfl)
theorem dX5_init_21 : decode cX5_init 21 = .ok (.iconst 3, 1) := dk_6 (dk_at dksX5_init_0 21 rfl rfl)
theorem dX5_init_22 : decode cX5_init 22 = .ok (.newarray .int, 2) := dk_188_10 (dk_at dksX5_init_0 22 rfl rfl)
theorem dX5_init_24 : decode cX5_init 24 = .ok (.putfield 17, 3) := dk_181 0 17 (dk_at dksX5_init_1 0 rfl rfl)
theorem dX5_init_27 : decode cX5_init 27 = .ok (.aload_n 0, 1) := dk_42 (dk_at dksX5_init_1 3 rfl rfl)
theorem dX5_init_28 : decode cX5_init 28 = .ok (.lconst 1, 1) := dk_10 (dk_at dksX5_init_1 4 rfl rfl)
theorem dX5_init_29 : decode cX5_init 29 = .ok (.putfield 20, 3) := dk_181 0 20 (dk_at dksX5_init_1 5 rfl rfl)
theorem dX5_init_32 : decode cX5_init 32 = .ok (.aload_n 0, 1) := dk_42 (dk_at dksX5_init_1 8 rfl rfl)
theorem dX5_init_33 : decode cX5_init 33 = .ok (.sipush 150, 3) := dk_17 0 150 (dk_at dksX5_init_1 9 rfl rfl)
theorem dX5_init_36 : decode cX5_init 36 = .ok (.newarray .int, 2) := dk_188_10 (dk_at dksX5_init_1 12 rfl rfl)
theorem dX5_init_38 : decode cX5_init 38 = .ok (.putfield 24, 3) := dk_181 0 24 (dk_at dksX5_init_1 14 rfl rfl)
theorem dX5_init_41 : decode cX5_init 41 = .ok (.aload_n 0, 1) := dk_42 (dk_at dksX5_init_1 17 rfl rfl)
theorem dX5_init_42 : decode cX5_init 42 = .ok (.bipush 30, 2) := dk_16 30 (dk_at dksX5_init_1 18 rfl rfl)
theorem dX5_init_44 : decode cX5_init 44 = .ok (.newarray .int, 2) := dk_188_10 (dk_at dksX5_init_1 20 rfl rfl)
theorem dX5_init_46 : decode cX5_init 46 = .ok (.dup, 1) := dk_89 (dk_at dksX5_init_1 22 rfl rfl)
theorem dX5_init_47 : decode cX5_init 47 = .ok (.iconst 0, 1) := dk_3 (dk_at dksX5_init_1 23 rfl rfl)
theorem dX5_init_48 : decode cX5_init 48 = .ok (.bipush 108, 2) := dk_16 108 (dk_at dksX5_init_2 0 rfl rfl)
theorem dX5_init_50 : decode cX5_init 50 = .ok (.iastore, 1) := dk_79 (dk_at dksX5_init_2 2 rfl rfl)
theorem dX5_init_51 : decode cX5_init 51 = .ok (.dup, 1) := dk_89 (dk_at dksX5_init_2 3 rfl rfl)
theorem dX5_init_52 : decode cX5_init 52 = .ok (.iconst 1, 1) := dk_4 (dk_at dksX5_init_2 4 rfl rfl)
theorem dX5_init_53 : decode cX5_init 53 = .ok (.bipush 97, 2) := dk_16 97 (dk_at dksX5_init_2 5 rfl rfl)
theorem dX5_init_55 : decode cX5_init 55 = .ok (.iastore, 1) := dk_79 (dk_at dksX5_init_2 7 rfl rfl)
theorem dX5_init_56 : decode cX5_init 56 = .ok (.dup, 1) := dk_89 (dk_at dksX5_init_2 8 rfl rfl)
theorem dX5_init_57 : decode cX5_init 57 = .ok (.iconst 2, 1) := dk_5 (dk_at dksX5_init_2 9 rfl rfl)
theorem dX5_init_58 : decode cX5_init 58 = .ok (.bipush 110, 2) := dk_16 110 (dk_at dksX5_init_2 10 rfl rfl)
theorem dX5_init_60 : decode cX5_init 60 = .ok (.iastore, 1) := dk_79 (dk_at dksX5_init_2 12 rfl rfl)
theorem dX5_init_61 : decode cX5_init 61 = .ok (.dup, 1) := dk_89 (dk_at dksX5_init_2 13 rfl rfl)
theorem dX5_init_62 : decode cX5_init 62 = .ok (.iconst 3, 1) := dk_6 (dk_at dksX5_init_2 14 rfl rfl)
theorem dX5_init_63 : decode cX5_init 63 = .ok (.bipush 101, 2) := dk_16 101 (dk_at dksX5_init_2 15 rfl rfl)
theorem dX5_init_65 : decode cX5_init 65 = .ok (.iastore, 1) := dk_79 (dk_at dksX5_init_2 17 rfl rfl)
theorem dX5_init_66 : decode cX5_init 66 = .ok (.dup, 1) := dk_89 (dk_at dksX5_init_2 18 rfl rfl)
theorem dX5_init_67 : decode cX5_init 67 = .ok (.iconst 4, 1) := dk_7 (dk_at dksX5_init_2 19 rfl rfl)
theorem dX5_init_68 : decode cX5_init 68 = .ok (.iconst 0, 1) := dk_3 (dk_at dksX5_init_2 20 rfl rfl)
theorem dX5_init_69 : decode cX5_init 69 = .ok (.iastore, 1) := dk_79 (dk_at dksX5_init_2 21 rfl rfl)
theorem dX5_init_70 : decode cX5_init 70 = .ok (.dup, 1) := dk_89 (dk_at dksX5_init_2 22 rfl rfl)
theorem dX5_init_71 : decode cX5_init 71 = .ok (.iconst 5, 1) := dk_8 (dk_at dksX5_init_2 23 rfl rfl)
theorem dX5_init_72 : decode cX5_init 72 = .ok (.iconst 0, 1) := dk_3 (dk_at dksX5_init_3 0 rfl rfl)
theorem dX5_init_73 : decode cX5_init 73 = .ok (.iastore, 1) := dk_79 (dk_at dksX5_init_3 1 rfl rfl)
theorem dX5_init_74 : decode cX5_init 74 = .ok (.dup, 1) := dk_89 (dk_at dksX5_init_3 2 rfl rfl)
theorem dX5_init_75 : decode cX5_init 75 = .ok (.bipush 6, 2) := dk_16 6 (dk_at dksX5_init_3 3 rfl rfl)
theorem dX5_init_77 : decode cX5_init 77 = .ok (.bipush 111, 2) := dk_16 111 (dk_at dksX5_init_3 5 rfl rfl)
theorem dX5_init_79 : decode cX5_init 79 = .ok (.iastore, 1) := dk_79 (dk_at dksX5_init_3 7 rfl rfl)
theorem dX5_init_80 : decode cX5_init 80 = .ok (.dup, 1) := dk_89 (dk_at dksX5_init_3 8 rfl rfl)
theorem dX5_init_81 : decode cX5_init 81 = .ok (.bipush 7, 2) := dk_16 7 (dk_at dksX5_init_3 9 rfl rfl)
theorem dX5_init_83 : decode cX5_init 83 = .ok (.bipush 110, 2) := dk_16 110 (dk_at dksX5_init_3 11 rfl rfl)
theorem dX5_init_85 : decode cX5_init 85 = .ok (.iastore, 1) := dk_79 (dk_at dksX5_init_3 13 rfl rfl)
theorem dX5_init_86 : decode cX5_init 86 = .ok (.dup, 1) := dk_89 (dk_at dksX5_init_3 14 rfl rfl)
theorem dX5_init_87 : decode cX5_init 87 = .ok (.bipush 8, 2) := dk_16 8 (dk_at dksX5_init_3 15 rfl rfl)
theorem dX5_init_89 : decode cX5_init 89 = .ok (.bipush 101, 2) := dk_16 101 (dk_at dksX5_init_3 17 rfl rfl)
theorem dX5_init_91 : decode cX5_init 91 = .ok (.iastore, 1) := dk_79 (dk_at dksX5_init_3 19 rfl rfl)
theorem dX5_init_92 : decode cX5_init 92 = .ok (.dup, 1) := dk_89 (dk_at dksX5_init_3 20 rfl rfl)
theorem dX5_init_93 : decode cX5_init 93 = .ok (.bipush 9, 2) := dk_16 9 (dk_at dksX5_init_3 21 rfl rfl)
theorem dX5_init_95 : decode cX5_init 95 = .ok (.iconst 0, 1) := dk_3 (dk_at dksX5_init_3 23 rfl rfl)
theorem dX5_init_96 : decode cX5_init 96 = .ok (.iastore, 1) := dk_79 (dk_at dksX5_init_4 0 rfl rfl)
theorem dX5_init_97 : decode cX5_init 97 = .ok (.dup, 1) := dk_89 (dk_at dksX5_init_4 1 rfl rfl)
theorem dX5_init_98 : decode cX5_init 98 = .ok (.bipush 10, 2) := dk_16 10 (dk_at dksX5_init_4 2 rfl rfl)
theorem dX5_init_100 : decode cX5_init 100 = .ok (.iconst 0, 1) := dk_3 (dk_at dksX5_init_4 4 rfl rfl)
theorem dX5_init_101 : decode cX5_init 101 = .ok (.iastore, 1) := dk_79 (dk_at dksX5_init_4 5 rfl rfl)
theorem dX5_init_102 : decode cX5_init 102 = .ok (.dup, 1) := dk_89 (dk_at dksX5_init_4 6 rfl rfl)
theorem dX5_init_103 : decode cX5_init 103 = .ok (.bipush 11, 2) := dk_16 11 (dk_at dksX5_init_4 7 rfl rfl)
theorem dX5_init_105 : decode cX5_init 105 = .ok (.iconst 0, 1) := dk_3 (dk_at dksX5_init_4 9 rfl rfl)
theorem dX5_init_106 : decode cX5_init 106 = .ok (.iastore, 1) := dk_79 (dk_at dksX5_init_4 10 rfl rfl)
theorem dX5_init_107 : decode cX5_init 107 = .ok (.dup, 1) := dk_89 (dk_at dksX5_init_4 11 rfl rfl)
theorem dX5_init_108 : decode cX5_init 108 = .ok (.bipush 12, 2) := dk_16 12 (dk_at dksX5_init_4 12 rfl rfl)
theorem dX5_init_110 : decode cX5_init 110 = .ok (.bipush 97, 2) := dk_16 97 (dk_at dksX5_init_4 14 rfl rfl)
theorem dX5_init_112 : decode cX5_init 112 = .ok (.iastore, 1) := dk_79 (dk_at dksX5_init_4 16 rfl rfl)
theorem dX5_init_113 : decode cX5_init 113 = .ok (.dup, 1) := dk_89 (dk_at dksX5_init_4 17 rfl rfl)
theorem dX5_init_114 : decode cX5_init 114 = .ok (.bipush 13, 2) := dk_16 13 (dk_at dksX5_init_4 18 rfl rfl)
theorem dX5_init_116 : decode cX5_init 116 = .ok (.bipush 117, 2) := dk_16 117 (dk_at dksX5_init_4 20 rfl rfl)
theorem dX5_init_118 : decode cX5_init 118 = .ok (.iastore, 1) := dk_79 (dk_at dksX5_init_4 22 rfl rfl)
theorem dX5_init_119 : decode cX5_init 119 = .ok (.dup, 1) := dk_89 (dk_at dksX5_init_4 23 rfl rfl)
theorem dX5_init_120 : decode cX5_init 120 = .ok (.bipush 14, 2) := dk_16 14 (dk_at dksX5_init_5 0 rfl rfl)
theorem dX5_init_122 : decode cX5_init 122 = .ok (.bipush 110, 2) := dk_16 110 (dk_at dksX5_init_5 2 rfl rfl)
theorem dX5_init_124 : decode cX5_init 124 = .ok (.iastore, 1) := dk_79 (dk_at dksX5_init_5 4 rfl rfl)
theorem dX5_init_125 : decode cX5_init 125 = .ok (.dup, 1) := dk_89 (dk_at dksX5_init_5 5 rfl rfl)
theorem dX5_init_126 : decode cX5_init 126 = .ok (.bipush 15, 2) := dk_16 15 (dk_at dksX5_init_5 6 rfl rfl)
theorem dX5_init_128 : decode cX5_init 128 = .ok (.bipush 116, 2) := dk_16 116 (dk_at dksX5_init_5 8 rfl rfl)
theorem dX5_init_130 : decode cX5_init 130 = .ok (.iastore, 1) := dk_79 (dk_at dksX5_init_5 10 rfl rfl)
theorem dX5_init_131 : decode cX5_init 131 = .ok (.dup, 1) := dk_89 (dk_at dksX5_init_5 11 rfl rfl)
theorem dX5_init_132 : decode cX5_init 132 = .ok (.bipush 16, 2) := dk_16 16 (dk_at dksX5_init_5 12 rfl rfl)
theorem dX5_init_134 : decode cX5_init 134 = .ok (.iconst 0, 1) := dk_3 (dk_at dksX5_init_5 14 rfl rfl)
theorem dX5_init_135 : decode cX5_init 135 = .ok (.iastore, 1) := dk_79 (dk_at dksX5_init_5 15 rfl rfl)
theorem dX5_init_136 : decode cX5_init 136 = .ok (.dup, 1) := dk_89 (dk_at dksX5_init_5 16 rfl rfl)
theorem dX5_init_137 : decode cX5_init 137 = .ok (.bipush 17, 2) := dk_16 17 (dk_at dksX5_init_5 17 rfl rfl)
theorem dX5_init_139 : decode cX5_init 139 = .ok (.iconst 0, 1) := dk_3 (dk_at dksX5_init_5 19 rfl rfl)
theorem dX5_init_140 : decode cX5_init 140 = .ok (.iastore, 1) := dk_79 (dk_at dksX5_init_5 20 rfl rfl)
theorem dX5_init_141 : decode cX5_init 141 = .ok (.dup, 1) := dk_89 (dk_at dksX5_init_5 21 rfl rfl)
theorem dX5_init_142 : decode cX5_init 142 = .ok (.bipush 18, 2) := dk_16 18 (dk_at dksX5_init_5 22 rfl rfl)
theorem dX5_init_144 : decode cX5_init 144 = .ok (.bipush 97, 2) := dk_16 97 (dk_at dksX5_init_6 0 rfl rfl)
theorem dX5_init_146 : decode cX5_init 146 = .ok (.iastore, 1) := dk_79 (dk_at dksX5_init_6 2 rfl rfl)
theorem dX5_init_147 : decode cX5_init 147 = .ok (.dup, 1) := dk_89 (dk_at dksX5_init_6 3 rfl rfl)
theorem dX5_init_148 : decode cX5_init 148 = .ok (.bipush 19, 2) := dk_16 19 (dk_at dksX5_init_6 4 rfl rfl)
theorem dX5_init_150 : decode cX5_init 150 = .ok (.bipush 119, 2) := dk_16 119 (dk_at dksX5_init_6 6 rfl rfl)
theorem dX5_init_152 : decode cX5_init 152 = .ok (.iastore, 1) := dk_79 (dk_at dksX5_init_6 8 rfl rfl)
theorem dX5_init_153 : decode cX5_init 153 = .ok (.dup, 1) := dk_89 (dk_at dksX5_init_6 9 rfl rfl)
theorem dX5_init_154 : decode cX5_init 154 = .ok (.bipush 20, 2) := dk_16 20 (dk_at dksX5_init_6 10 rfl rfl)
theorem dX5_init_156 : decode cX5_init 156 = .ok (.bipush 97, 2) := dk_16 97 (dk_at dksX5_init_6 12 rfl rfl)
theorem dX5_init_158 : decode cX5_init 158 = .ok (.iastore, 1) := dk_79 (dk_at dksX5_init_6 14 rfl rfl)
theorem dX5_init_159 : decode cX5_init 159 = .ok (.dup, 1) := dk_89 (dk_at dksX5_init_6 15 rfl rfl)
theorem dX5_init_160 : decode cX5_init 160 = .ok (.bipush 21, 2) := dk_16 21 (dk_at dksX5_init_6 16 rfl rfl)
theorem dX5_init_162 : decode cX5_init 162 = .ok (.bipush 121, 2) := dk_16 121 (dk_at dksX5_init_6 18 rfl rfl)
theorem dX5_init_164 : decode cX5_init 164 = .ok (.iastore, 1) := dk_79 (dk_at dksX5_init_6 20 rfl rfl)
theorem dX5_init_165 : decode cX5_init 165 = .ok (.dup, 1) := dk_89 (dk_at dksX5_init_6 21 rfl rfl)
theorem dX5_init_166 : decode cX5_init 166 = .ok (.bipush 22, 2) := dk_16 22 (dk_at dksX5_init_6 22 rfl rfl)
theorem dX5_init_168 : decode cX5_init 168 = .ok (.iconst 0, 1) := dk_3 (dk_at dksX5_init_7 0 rfl rfl)
theorem dX5_init_169 : decode cX5_init 169 = .ok (.iastore, 1) := dk_79 (dk_at dksX5_init_7 1 rfl rfl)
theorem dX5_init_170 : decode cX5_init 170 = .ok (.dup, 1) := dk_89 (dk_at dksX5_init_7 2 rfl rfl)
theorem dX5_init_171 : decode cX5_init 171 = .ok (.bipush 23, 2) := dk_16 23 (dk_at dksX5_init_7 3 rfl rfl)
theorem dX5_init_173 : decode cX5_init 173 = .ok (.iconst 0, 1) := dk_3 (dk_at dksX5_init_7 5 rfl rfl)
theorem dX5_init_174 : decode cX5_init 174 = .ok (.iastore, 1) := dk_79 (dk_at dksX5_init_7 6 rfl rfl)
theorem dX5_init_175 : decode cX5_init 175 = .ok (.dup, 1) := dk_89 (dk_at dksX5_init_7 7 rfl rfl)
theorem dX5_init_176 : decode cX5_init 176 = .ok (.bipush 24, 2) := dk_16 24 (dk_at dksX5_init_7 8 rfl rfl)
theorem dX5_init_178 : decode cX5_init 178 = .ok (.bipush 99, 2) := dk_16 99 (dk_at dksX5_init_7 10 rfl rfl)
theorem dX5_init_180 : decode cX5_init 180 = .ok (.iastore, 1) := dk_79 (dk_at dksX5_init_7 12 rfl rfl)
theorem dX5_init_181 : decode cX5_init 181 = .ok (.dup, 1) := dk_89 (dk_at dksX5_init_7 13 rfl rfl)
theorem dX5_init_182 : decode cX5_init 182 = .ok (.bipush 25, 2) := dk_16 25 (dk_at dksX5_init_7 14 rfl rfl)
theorem dX5_init_184 : decode cX5_init 184 = .ok (.bipush 111, 2) := dk_16 111 (dk_at dksX5_init_7 16 rfl rfl)
theorem dX5_init_186 : decode cX5_init 186 = .ok (.iastore, 1) := dk_79 (dk_at dksX5_init_7 18 rfl rfl)
theorem dX5_init_187 : decode cX5_init 187 = .ok (.dup, 1) := dk_89 (dk_at dksX5_init_7 19 rfl rfl)
theorem dX5_init_188 : decode cX5_init 188 = .ok (.bipush 26, 2) := dk_16 26 (dk_at dksX5_init_7 20 rfl rfl)
theorem dX5_init_190 : decode cX5_init 190 = .ok (.bipush 117, 2) := dk_16 117 (dk_at dksX5_init_7 22 rfl rfl)
theorem dX5_init_192 : decode cX5_init 192 = .ok (.iastore, 1) := dk_79 (dk_at dksX5_init_8 0 rfl rfl)
theorem dX5_init_193 : decode cX5_init 193 = .ok (.dup, 1) := dk_89 (dk_at dksX5_init_8 1 rfl rfl)
theorem dX5_init_194 : decode cX5_init 194 = .ok (.bipush 27, 2) := dk_16 27 (dk_at dksX5_init_8 2 rfl rfl)
theorem dX5_init_196 : decode cX5_init 196 = .ok (.bipush 110, 2) := dk_16 110 (dk_at dksX5_init_8 4 rfl rfl)
theorem dX5_init_198 : decode cX5_init 198 = .ok (.iastore, 1) := dk_79 (dk_at dksX5_init_8 6 rfl rfl)
theorem dX5_init_199 : decode cX5_init 199 = .ok (.dup, 1) := dk_89 (dk_at dksX5_init_8 7 rfl rfl)
theorem dX5_init_200 : decode cX5_init 200 = .ok (.bipush 28, 2) := dk_16 28 (dk_at dksX5_init_8 8 rfl rfl)
theorem dX5_init_202 : decode cX5_init 202 = .ok (.bipush 116, 2) := dk_16 116 (dk_at dksX5_init_8 10 rfl rfl)
theorem dX5_init_204 : decode cX5_init 204 = .ok (.iastore, 1) := dk_79 (dk_at dksX5_init_8 12 rfl rfl)
theorem dX5_init_205 : decode cX5_init 205 = .ok (.dup, 1) := dk_89 (dk_at dksX5_init_8 13 rfl rfl)
theorem dX5_init_206 : decode cX5_init 206 = .ok (.bipush 29, 2) := dk_16 29 (dk_at dksX5_init_8 14 rfl rfl)
theorem dX5_init_208 : decode cX5_init 208 = .ok (.bipush 115, 2) := dk_16 115 (dk_at dksX5_init_8 16 rfl rfl)
theorem dX5_init_210 : decode cX5_init 210 = .ok (.iastore, 1) := dk_79 (dk_at dksX5_init_8 18 rfl rfl)
theorem dX5_init_211 : decode cX5_init 211 = .ok (.putfield 27, 3) := dk_181 0 27 (dk_at dksX5_init_8 19 rfl rfl)
theorem dX5_init_214 : decode cX5_init 214 = .ok (.aload_n 0, 1) := dk_42 (dk_at dksX5_init_8 22 rfl rfl)
theorem dX5_init_215 : decode cX5_init 215 = .ok (.bipush 7, 2) := dk_16 7 (dk_at dksX5_init_9 0 rfl rfl)
theorem dX5_init_217 : decode cX5_init 217 = .ok (.newarray .int, 2) := dk_188_10 (dk_at dksX5_init_9 2 rfl rfl)
theorem dX5_init_219 : decode cX5_init 219 = .ok (.putfield 30, 3) := dk_181 0 30 (dk_at dksX5_init_9 4 rfl rfl)
theorem dX5_init_222 : decode cX5_init 222 = .ok (.aload_n 0, 1) := dk_42 (dk_at dksX5_init_9 7 rfl rfl)
theorem dX5_init_223 : decode cX5_init 223 = .ok (.bipush 7, 2) := dk_16 7 (dk_at dksX5_init_9 8 rfl rfl)
theorem dX5_init_225 : decode cX5_init 225 = .ok (.newarray .int, 2) := dk_188_10 (dk_at dksX5_init_9 10 rfl rfl)
theorem dX5_init_227 : decode cX5_init 227 = .ok (.putfield 33, 3) := dk_181 0 33 (dk_at dksX5_init_9 12 rfl rfl)
theorem dX5_init_230 : decode cX5_init 230 = .ok (.aload_n 0, 1) := dk_42 (dk_at dksX5_init_9 15 rfl rfl)
theorem dX5_init_231 : decode cX5_init 231 = .ok (.bipush 7, 2) := dk_16 7 (dk_at dksX5_init_9 16 rfl rfl)
theorem dX5_init_233 : decode cX5_init 233 = .ok (.newarray .int, 2) := dk_188_10 (dk_at dksX5_init_9 18 rfl rfl)
theorem dX5_init_235 : decode cX5_init 235 = .ok (.putfield 36, 3) := dk_181 0 36 (dk_at dksX5_init_9 20 rfl rfl)
theorem dX5_init_238 : decode cX5_init 238 = .ok (.aload_n 0, 1) := dk_42 (dk_at dksX5_init_9 23 rfl rfl)
theorem dX5_init_239 : decode cX5_init 239 = .ok (.bipush 7, 2) := dk_16 7 (dk_at dksX5_init_10 0 rfl rfl)
theorem dX5_init_241 : decode cX5_init 241 = .ok (.newarray .int, 2) := dk_188_10 (dk_at dksX5_init_10 2 rfl rfl)
theorem dX5_init_243 : decode cX5_init 243 = .ok (.putfield 39, 3) := dk_181 0 39 (dk_at dksX5_init_10 4 rfl rfl)
theorem dX5_init_246 : decode cX5_init 246 = .ok (.aload_n 0, 1) := dk_42 (dk_at dksX5_init_10 7 rfl rfl)
theorem dX5_init_247 : decode cX5_init 247 = .ok (.bipush 7, 2) := dk_16 7 (dk_at dksX5_init_10 8 rfl rfl)
theorem dX5_init_249 : decode cX5_init 249 = .ok (.newarray .int, 2) := dk_188_10 (dk_at dksX5_init_10 10 rfl rfl)
theorem dX5_init_251 : decode cX5_init 251 = .ok (.putfield 42, 3) := dk_181 0 42 (dk_at dksX5_init_10 12 rfl rfl)
theorem dX5_init_254 : decode cX5_init 254 = .ok (.aload_n 0, 1) := dk_42 (dk_at dksX5_init_10 15 rfl rfl)
theorem dX5_init_255 : decode cX5_init 255 = .ok (.bipush 6, 2) := dk_16 6 (dk_at dksX5_init_10 16 rfl rfl)
theorem dX5_init_257 : decode cX5_init 257 = .ok (.newarray .int, 2) := dk_188_10 (dk_at dksX5_init_10 18 rfl rfl)
theorem dX5_init_259 : decode cX5_init 259 = .ok (.putfield 45, 3) := dk_181 0 45 (dk_at dksX5_init_10 20 rfl rfl)
theorem dX5_init_262 : decode cX5_init 262 = .ok (.aload_n 0, 1) := dk_42 (dk_at dksX5_init_10 23 rfl rfl)
theorem dX5_init_263 : decode cX5_init 263 = .ok (.bipush 20, 2) := dk_16 20 (dk_at dksX5_init_11 0 rfl rfl)
theorem dX5_init_265 : decode cX5_init 265 = .ok (.newarray .int, 2) := dk_188_10 (dk_at dksX5_init_11 2 rfl rfl)
theorem dX5_init_267 : decode cX5_init 267 = .ok (.putfield 48, 3) := dk_181 0 48 (dk_at dksX5_init_11 4 rfl rfl)
theorem dX5_init_270 : decode cX5_init 270 = .ok (.aload_n 0, 1) := dk_42 (dk_at dksX5_init_11 7 rfl rfl)
theorem dX5_init_271 : decode cX5_init 271 = .ok (.getfield 7, 3) := dk_180 0 7 (dk_at dksX5_init_11 8 rfl rfl)
theorem dX5_init_274 : decode cX5_init 274 = .ok (.bipush 10, 2) := dk_16 10 (dk_at dksX5_init_11 11 rfl rfl)
theorem dX5_init_276 : decode cX5_init 276 = .ok (.bipush 12, 2) := dk_16 12 (dk_at dksX5_init_11 13 rfl rfl)
theorem dX5_init_278 : decode cX5_init 278 = .ok (.iastore, 1) := dk_79 (dk_at dksX5_init_11 15 rfl rfl)
theorem dX5_init_279 : decode cX5_init 279 = .ok (.return_, 1) := dk_177 (dk_at dksX5_init_11 16 rfl rfl)
abbrev cX5_lane : ByteArray := prog_20_method_7_code
def yX5_lane : MethodName := ⟨RX5, "lane", "(I)I"⟩
def dkwX5_lane_1 : List UInt8 := [61, 42, 27, 182, 0, 59, 28, 172]
abbrev dktX5_lane_1 : List UInt8 := dkwX5_lane_1 ++ []
def dkwX5_lane_0 : List UInt8 := [27, 7, 16, 30, 184, 0, 51, 154, 0, 10, 42, 16, 254, 182, 0, 55, 172, 42, 180, 0, 7, 16, 11, 46]
abbrev dktX5_lane_0 : List UInt8 := dkwX5_lane_0 ++ dktX5_lane_1
theorem dksX5_lane_0 : cX5_lane.data.toList.drop 0 = dktX5_lane_0 := by decide +kernel
theorem dksX5_lane_1 : cX5_lane.data.toList.drop 24 = dktX5_lane_1 := dk_seg dksX5_lane_0 24 rfl rfl
theorem dX5_lane_0 : decode cX5_lane 0 = .ok (.iload_n 1, 1) := dk_27 (dk_at dksX5_lane_0 0 rfl rfl)
theorem dX5_lane_1 : decode cX5_lane 1 = .ok (.iconst 4, 1) := dk_7 (dk_at dksX5_lane_0 1 rfl rfl)
theorem dX5_lane_2 : decode cX5_lane 2 = .ok (.bipush 30, 2) := dk_16 30 (dk_at dksX5_lane_0 2 rfl rfl)
theorem dX5_lane_4 : decode cX5_lane 4 = .ok (.invokestatic 51, 3) := dk_184 0 51 (dk_at dksX5_lane_0 4 rfl rfl)
theorem dX5_lane_7 : decode cX5_lane 7 = .ok (.ifCond .ne 10, 3) := dk_154 0 10 (dk_at dksX5_lane_0 7 rfl rfl)
theorem dX5_lane_10 : decode cX5_lane 10 = .ok (.aload_n 0, 1) := dk_42 (dk_at dksX5_lane_0 10 rfl rfl)
theorem dX5_lane_11 : decode cX5_lane 11 = .ok (.bipush (-2), 2) := dk_16 254 (dk_at dksX5_lane_0 11 rfl rfl)
theorem dX5_lane_13 : decode cX5_lane 13 = .ok (.invokevirtual 55, 3) := dk_182 0 55 (dk_at dksX5_lane_0 13 rfl rfl)
theorem dX5_lane_16 : decode cX5_lane 16 = .ok (.ireturn, 1) := dk_172 (dk_at dksX5_lane_0 16 rfl rfl)
theorem dX5_lane_17 : decode cX5_lane 17 = .ok (.aload_n 0, 1) := dk_42 (dk_at dksX5_lane_0 17 rfl rfl)
theorem dX5_lane_18 : decode cX5_lane 18 = .ok (.getfield 7, 3) := dk_180 0 7 (dk_at dksX5_lane_0 18 rfl rfl)
theorem dX5_lane_21 : decode cX5_lane 21 = .ok (.bipush 11, 2) := dk_16 11 (dk_at dksX5_lane_0 21 rfl rfl)
theorem dX5_lane_23 : decode cX5_lane 23 = .ok (.iaload, 1) := dk_46 (dk_at dksX5_lane_0 23 rfl rfl)
theorem dX5_lane_24 : decode cX5_lane 24 = .ok (.istore_n 2, 1) := dk_61 (dk_at dksX5_lane_1 0 rfl rfl)
theorem dX5_lane_25 : decode cX5_lane 25 = .ok (.aload_n 0, 1) := dk_42 (dk_at dksX5_lane_1 1 rfl rfl)
theorem dX5_lane_26 : decode cX5_lane 26 = .ok (.iload_n 1, 1) := dk_27 (dk_at dksX5_lane_1 2 rfl rfl)
theorem dX5_lane_27 : decode cX5_lane 27 = .ok (.invokevirtual 59, 3) := dk_182 0 59 (dk_at dksX5_lane_1 3 rfl rfl)
theorem dX5_lane_30 : decode cX5_lane 30 = .ok (.iload_n 2, 1) := dk_28 (dk_at dksX5_lane_1 6 rfl rfl)
theorem dX5_lane_31 : decode cX5_lane 31 = .ok (.ireturn, 1) := dk_172 (dk_at dksX5_lane_1 7 rfl rfl)
abbrev cX5_in : ByteArray := prog_20_method_2_code
def yX5_in : MethodName := ⟨RX5, "in", "(III)Z"⟩
def dkwX5_in_0 : List UInt8 := [26, 27, 161, 0, 12, 26, 28, 163, 0, 7, 4, 167, 0, 4, 3, 172]
abbrev dktX5_in_0 : List UInt8 := dkwX5_in_0 ++ []
theorem dksX5_in_0 : cX5_in.data.toList.drop 0 = dktX5_in_0 := by decide +kernel
theorem dX5_in_0 : decode cX5_in 0 = .ok (.iload_n 0, 1) := dk_26 (dk_at dksX5_in_0 0 rfl rfl)
theorem dX5_in_1 : decode cX5_in 1 = .ok (.iload_n 1, 1) := dk_27 (dk_at dksX5_in_0 1 rfl rfl)
theorem dX5_in_2 : decode cX5_in 2 = .ok (.if_icmp .lt 12, 3) := dk_161 0 12 (dk_at dksX5_in_0 2 rfl rfl)
theorem dX5_in_5 : decode cX5_in 5 = .ok (.iload_n 0, 1) := dk_26 (dk_at dksX5_in_0 5 rfl rfl)
theorem dX5_in_6 : decode cX5_in 6 = .ok (.iload_n 2, 1) := dk_28 (dk_at dksX5_in_0 6 rfl rfl)
theorem dX5_in_7 : decode cX5_in 7 = .ok (.if_icmp .gt 7, 3) := dk_163 0 7 (dk_at dksX5_in_0 7 rfl rfl)
theorem dX5_in_10 : decode cX5_in 10 = .ok (.iconst 1, 1) := dk_4 (dk_at dksX5_in_0 10 rfl rfl)
theorem dX5_in_11 : decode cX5_in 11 = .ok (.goto 4, 3) := dk_167 0 4 (dk_at dksX5_in_0 11 rfl rfl)
theorem dX5_in_14 : decode cX5_in 14 = .ok (.iconst 0, 1) := dk_3 (dk_at dksX5_in_0 14 rfl rfl)
theorem dX5_in_15 : decode cX5_in 15 = .ok (.ireturn, 1) := dk_172 (dk_at dksX5_in_0 15 rfl rfl)
abbrev cX5_refuse : ByteArray := prog_20_method_5_code
def yX5_refuse : MethodName := ⟨RX5, "refuse", "(I)I"⟩
def dkwX5_refuse_1 : List UInt8 := [3, 92, 46, 4, 96, 79, 27, 172]
abbrev dktX5_refuse_1 : List UInt8 := dkwX5_refuse_1 ++ []
def dkwX5_refuse_0 : List UInt8 := [42, 180, 0, 17, 27, 16, 253, 160, 0, 7, 4, 167, 0, 14, 27, 16, 252, 160, 0, 7, 5, 167, 0, 4]
abbrev dktX5_refuse_0 : List UInt8 := dkwX5_refuse_0 ++ dktX5_refuse_1
theorem dksX5_refuse_0 : cX5_refuse.data.toList.drop 0 = dktX5_refuse_0 := by decide +kernel
theorem dksX5_refuse_1 : cX5_refuse.data.toList.drop 24 = dktX5_refuse_1 := dk_seg dksX5_refuse_0 24 rfl rfl
theorem dX5_refuse_0 : decode cX5_refuse 0 = .ok (.aload_n 0, 1) := dk_42 (dk_at dksX5_refuse_0 0 rfl rfl)
theorem dX5_refuse_1 : decode cX5_refuse 1 = .ok (.getfield 17, 3) := dk_180 0 17 (dk_at dksX5_refuse_0 1 rfl rfl)
theorem dX5_refuse_4 : decode cX5_refuse 4 = .ok (.iload_n 1, 1) := dk_27 (dk_at dksX5_refuse_0 4 rfl rfl)
theorem dX5_refuse_5 : decode cX5_refuse 5 = .ok (.bipush (-3), 2) := dk_16 253 (dk_at dksX5_refuse_0 5 rfl rfl)
theorem dX5_refuse_7 : decode cX5_refuse 7 = .ok (.if_icmp .ne 7, 3) := dk_160 0 7 (dk_at dksX5_refuse_0 7 rfl rfl)
theorem dX5_refuse_10 : decode cX5_refuse 10 = .ok (.iconst 1, 1) := dk_4 (dk_at dksX5_refuse_0 10 rfl rfl)
theorem dX5_refuse_11 : decode cX5_refuse 11 = .ok (.goto 14, 3) := dk_167 0 14 (dk_at dksX5_refuse_0 11 rfl rfl)
theorem dX5_refuse_14 : decode cX5_refuse 14 = .ok (.iload_n 1, 1) := dk_27 (dk_at dksX5_refuse_0 14 rfl rfl)
theorem dX5_refuse_15 : decode cX5_refuse 15 = .ok (.bipush (-4), 2) := dk_16 252 (dk_at dksX5_refuse_0 15 rfl rfl)
theorem dX5_refuse_17 : decode cX5_refuse 17 = .ok (.if_icmp .ne 7, 3) := dk_160 0 7 (dk_at dksX5_refuse_0 17 rfl rfl)
theorem dX5_refuse_20 : decode cX5_refuse 20 = .ok (.iconst 2, 1) := dk_5 (dk_at dksX5_refuse_0 20 rfl rfl)
theorem dX5_refuse_21 : decode cX5_refuse 21 = .ok (.goto 4, 3) := dk_167 0 4 (dk_at dksX5_refuse_0 21 rfl rfl)
theorem dX5_refuse_24 : decode cX5_refuse 24 = .ok (.iconst 0, 1) := dk_3 (dk_at dksX5_refuse_1 0 rfl rfl)
theorem dX5_refuse_25 : decode cX5_refuse 25 = .ok (.dup2, 1) := dk_92 (dk_at dksX5_refuse_1 1 rfl rfl)
theorem dX5_refuse_26 : decode cX5_refuse 26 = .ok (.iaload, 1) := dk_46 (dk_at dksX5_refuse_1 2 rfl rfl)
theorem dX5_refuse_27 : decode cX5_refuse 27 = .ok (.iconst 1, 1) := dk_4 (dk_at dksX5_refuse_1 3 rfl rfl)
theorem dX5_refuse_28 : decode cX5_refuse 28 = .ok (.iadd, 1) := dk_96 (dk_at dksX5_refuse_1 4 rfl rfl)
theorem dX5_refuse_29 : decode cX5_refuse 29 = .ok (.iastore, 1) := dk_79 (dk_at dksX5_refuse_1 5 rfl rfl)
theorem dX5_refuse_30 : decode cX5_refuse 30 = .ok (.iload_n 1, 1) := dk_27 (dk_at dksX5_refuse_1 6 rfl rfl)
theorem dX5_refuse_31 : decode cX5_refuse 31 = .ok (.ireturn, 1) := dk_172 (dk_at dksX5_refuse_1 7 rfl rfl)
abbrev cX5_layHouses : ByteArray := prog_20_method_6_code
def yX5_layHouses : MethodName := ⟨RX5, "layHouses", "(I)V"⟩
def dkwX5_layHouses_1 : List UInt8 := [180, 0, 7, 16, 10, 27, 79, 177]
abbrev dktX5_layHouses_1 : List UInt8 := dkwX5_layHouses_1 ++ []
def dkwX5_layHouses_0 : List UInt8 := [3, 61, 28, 17, 0, 179, 162, 0, 16, 42, 180, 0, 7, 28, 3, 79, 132, 2, 1, 167, 255, 239, 42]
abbrev dktX5_layHouses_0 : List UInt8 := dkwX5_layHouses_0 ++ dktX5_layHouses_1
theorem dksX5_layHouses_0 : cX5_layHouses.data.toList.drop 0 = dktX5_layHouses_0 := by decide +kernel
theorem dksX5_layHouses_1 : cX5_layHouses.data.toList.drop 23 = dktX5_layHouses_1 := dk_seg dksX5_layHouses_0 23 rfl rfl
theorem dX5_layHouses_0 : decode cX5_layHouses 0 = .ok (.iconst 0, 1) := dk_3 (dk_at dksX5_layHouses_0 0 rfl rfl)
theorem dX5_layHouses_1 : decode cX5_layHouses 1 = .ok (.istore_n 2, 1) := dk_61 (dk_at dksX5_layHouses_0 1 rfl rfl)
theorem dX5_layHouses_2 : decode cX5_layHouses 2 = .ok (.iload_n 2, 1) := dk_28 (dk_at dksX5_layHouses_0 2 rfl rfl)
theorem dX5_layHouses_3 : decode cX5_layHouses 3 = .ok (.sipush 179, 3) := dk_17 0 179 (dk_at dksX5_layHouses_0 3 rfl rfl)
theorem dX5_layHouses_6 : decode cX5_layHouses 6 = .ok (.if_icmp .ge 16, 3) := dk_162 0 16 (dk_at dksX5_layHouses_0 6 rfl rfl)
theorem dX5_layHouses_9 : decode cX5_layHouses 9 = .ok (.aload_n 0, 1) := dk_42 (dk_at dksX5_layHouses_0 9 rfl rfl)
theorem dX5_layHouses_10 : decode cX5_layHouses 10 = .ok (.getfield 7, 3) := dk_180 0 7 (dk_at dksX5_layHouses_0 10 rfl rfl)
theorem dX5_layHouses_13 : decode cX5_layHouses 13 = .ok (.iload_n 2, 1) := dk_28 (dk_at dksX5_layHouses_0 13 rfl rfl)
theorem dX5_layHouses_14 : decode cX5_layHouses 14 = .ok (.iconst 0, 1) := dk_3 (dk_at dksX5_layHouses_0 14 rfl rfl)
theorem dX5_layHouses_15 : decode cX5_layHouses 15 = .ok (.iastore, 1) := dk_79 (dk_at dksX5_layHouses_0 15 rfl rfl)
theorem dX5_layHouses_16 : decode cX5_layHouses 16 = .ok (.iinc 2 1, 3) := dk_132 2 1 (dk_at dksX5_layHouses_0 16 rfl rfl)
theorem dX5_layHouses_19 : decode cX5_layHouses 19 = .ok (.goto (-17), 3) := dk_167 255 239 (dk_at dksX5_layHouses_0 19 rfl rfl)
theorem dX5_layHouses_22 : decode cX5_layHouses 22 = .ok (.aload_n 0, 1) := dk_42 (dk_at dksX5_layHouses_0 22 rfl rfl)
theorem dX5_layHouses_23 : decode cX5_layHouses 23 = .ok (.getfield 7, 3) := dk_180 0 7 (dk_at dksX5_layHouses_1 0 rfl rfl)
theorem dX5_layHouses_26 : decode cX5_layHouses 26 = .ok (.bipush 10, 2) := dk_16 10 (dk_at dksX5_layHouses_1 3 rfl rfl)
theorem dX5_layHouses_28 : decode cX5_layHouses 28 = .ok (.iload_n 1, 1) := dk_27 (dk_at dksX5_layHouses_1 5 rfl rfl)
theorem dX5_layHouses_29 : decode cX5_layHouses 29 = .ok (.iastore, 1) := dk_79 (dk_at dksX5_layHouses_1 6 rfl rfl)
theorem dX5_layHouses_30 : decode cX5_layHouses 30 = .ok (.return_, 1) := dk_177 (dk_at dksX5_layHouses_1 7 rfl rfl)
abbrev cX5_wide : ByteArray := prog_20_method_8_code
def yX5_wide : MethodName := ⟨RX5, "wide", "(I)I"⟩
def dkwX5_wide_1 : List UInt8 := [61, 42, 180, 0, 7, 16, 10, 27, 79, 42, 180, 0, 7, 16, 98, 3, 79, 28, 172]
abbrev dktX5_wide_1 : List UInt8 := dkwX5_wide_1 ++ []
def dkwX5_wide_0 : List UInt8 := [27, 7, 16, 30, 184, 0, 51, 154, 0, 10, 42, 16, 254, 182, 0, 55, 172, 42, 180, 0, 7, 16, 10, 46]
abbrev dktX5_wide_0 : List UInt8 := dkwX5_wide_0 ++ dktX5_wide_1
theorem dksX5_wide_0 : cX5_wide.data.toList.drop 0 = dktX5_wide_0 := by decide +kernel
theorem dksX5_wide_1 : cX5_wide.data.toList.drop 24 = dktX5_wide_1 := dk_seg dksX5_wide_0 24 rfl rfl
theorem dX5_wide_0 : decode cX5_wide 0 = .ok (.iload_n 1, 1) := dk_27 (dk_at dksX5_wide_0 0 rfl rfl)
theorem dX5_wide_1 : decode cX5_wide 1 = .ok (.iconst 4, 1) := dk_7 (dk_at dksX5_wide_0 1 rfl rfl)
theorem dX5_wide_2 : decode cX5_wide 2 = .ok (.bipush 30, 2) := dk_16 30 (dk_at dksX5_wide_0 2 rfl rfl)
theorem dX5_wide_4 : decode cX5_wide 4 = .ok (.invokestatic 51, 3) := dk_184 0 51 (dk_at dksX5_wide_0 4 rfl rfl)
theorem dX5_wide_7 : decode cX5_wide 7 = .ok (.ifCond .ne 10, 3) := dk_154 0 10 (dk_at dksX5_wide_0 7 rfl rfl)
theorem dX5_wide_10 : decode cX5_wide 10 = .ok (.aload_n 0, 1) := dk_42 (dk_at dksX5_wide_0 10 rfl rfl)
theorem dX5_wide_11 : decode cX5_wide 11 = .ok (.bipush (-2), 2) := dk_16 254 (dk_at dksX5_wide_0 11 rfl rfl)
theorem dX5_wide_13 : decode cX5_wide 13 = .ok (.invokevirtual 55, 3) := dk_182 0 55 (dk_at dksX5_wide_0 13 rfl rfl)
theorem dX5_wide_16 : decode cX5_wide 16 = .ok (.ireturn, 1) := dk_172 (dk_at dksX5_wide_0 16 rfl rfl)
theorem dX5_wide_17 : decode cX5_wide 17 = .ok (.aload_n 0, 1) := dk_42 (dk_at dksX5_wide_0 17 rfl rfl)
theorem dX5_wide_18 : decode cX5_wide 18 = .ok (.getfield 7, 3) := dk_180 0 7 (dk_at dksX5_wide_0 18 rfl rfl)
theorem dX5_wide_21 : decode cX5_wide 21 = .ok (.bipush 10, 2) := dk_16 10 (dk_at dksX5_wide_0 21 rfl rfl)
theorem dX5_wide_23 : decode cX5_wide 23 = .ok (.iaload, 1) := dk_46 (dk_at dksX5_wide_0 23 rfl rfl)
theorem dX5_wide_24 : decode cX5_wide 24 = .ok (.istore_n 2, 1) := dk_61 (dk_at dksX5_wide_1 0 rfl rfl)
theorem dX5_wide_25 : decode cX5_wide 25 = .ok (.aload_n 0, 1) := dk_42 (dk_at dksX5_wide_1 1 rfl rfl)
theorem dX5_wide_26 : decode cX5_wide 26 = .ok (.getfield 7, 3) := dk_180 0 7 (dk_at dksX5_wide_1 2 rfl rfl)
theorem dX5_wide_29 : decode cX5_wide 29 = .ok (.bipush 10, 2) := dk_16 10 (dk_at dksX5_wide_1 5 rfl rfl)
theorem dX5_wide_31 : decode cX5_wide 31 = .ok (.iload_n 1, 1) := dk_27 (dk_at dksX5_wide_1 7 rfl rfl)
theorem dX5_wide_32 : decode cX5_wide 32 = .ok (.iastore, 1) := dk_79 (dk_at dksX5_wide_1 8 rfl rfl)
theorem dX5_wide_33 : decode cX5_wide 33 = .ok (.aload_n 0, 1) := dk_42 (dk_at dksX5_wide_1 9 rfl rfl)
theorem dX5_wide_34 : decode cX5_wide 34 = .ok (.getfield 7, 3) := dk_180 0 7 (dk_at dksX5_wide_1 10 rfl rfl)
theorem dX5_wide_37 : decode cX5_wide 37 = .ok (.bipush 98, 2) := dk_16 98 (dk_at dksX5_wide_1 13 rfl rfl)
theorem dX5_wide_39 : decode cX5_wide 39 = .ok (.iconst 0, 1) := dk_3 (dk_at dksX5_wide_1 15 rfl rfl)
theorem dX5_wide_40 : decode cX5_wide 40 = .ok (.iastore, 1) := dk_79 (dk_at dksX5_wide_1 16 rfl rfl)
theorem dX5_wide_41 : decode cX5_wide 41 = .ok (.iload_n 2, 1) := dk_28 (dk_at dksX5_wide_1 17 rfl rfl)
theorem dX5_wide_42 : decode cX5_wide 42 = .ok (.ireturn, 1) := dk_172 (dk_at dksX5_wide_1 18 rfl rfl)
abbrev cX5_one : ByteArray := prog_20_method_10_code
def yX5_one : MethodName := ⟨RX5, "one", "(III)I"⟩
def dkwX5_one_3 : List UInt8 := [4, 100, 172]
abbrev dktX5_one_3 : List UInt8 := dkwX5_one_3 ++ []
def dkwX5_one_2 : List UInt8 := [160, 0, 10, 42, 16, 252, 182, 0, 55, 172, 42, 27, 28, 29, 182, 0, 63, 42, 180, 0, 7, 16, 11, 46]
abbrev dktX5_one_2 : List UInt8 := dkwX5_one_2 ++ dktX5_one_3
def dkwX5_one_1 : List UInt8 := [184, 0, 51, 154, 0, 10, 42, 16, 254, 182, 0, 55, 172, 42, 180, 0, 7, 16, 11, 46, 16, 7]
abbrev dktX5_one_1 : List UInt8 := dkwX5_one_1 ++ dktX5_one_2
def dkwX5_one_0 : List UInt8 := [27, 3, 8, 184, 0, 51, 153, 0, 22, 28, 3, 4, 184, 0, 51, 153, 0, 13, 29, 3, 16, 9]
abbrev dktX5_one_0 : List UInt8 := dkwX5_one_0 ++ dktX5_one_1
theorem dksX5_one_0 : cX5_one.data.toList.drop 0 = dktX5_one_0 := by decide +kernel
theorem dksX5_one_1 : cX5_one.data.toList.drop 22 = dktX5_one_1 := dk_seg dksX5_one_0 22 rfl rfl
theorem dksX5_one_2 : cX5_one.data.toList.drop 44 = dktX5_one_2 := dk_seg dksX5_one_1 22 rfl rfl
theorem dksX5_one_3 : cX5_one.data.toList.drop 68 = dktX5_one_3 := dk_seg dksX5_one_2 24 rfl rfl
theorem dX5_one_0 : decode cX5_one 0 = .ok (.iload_n 1, 1) := dk_27 (dk_at dksX5_one_0 0 rfl rfl)
theorem dX5_one_1 : decode cX5_one 1 = .ok (.iconst 0, 1) := dk_3 (dk_at dksX5_one_0 1 rfl rfl)
theorem dX5_one_2 : decode cX5_one 2 = .ok (.iconst 5, 1) := dk_8 (dk_at dksX5_one_0 2 rfl rfl)
theorem dX5_one_3 : decode cX5_one 3 = .ok (.invokestatic 51, 3) := dk_184 0 51 (dk_at dksX5_one_0 3 rfl rfl)
theorem dX5_one_6 : decode cX5_one 6 = .ok (.ifCond .eq 22, 3) := dk_153 0 22 (dk_at dksX5_one_0 6 rfl rfl)
theorem dX5_one_9 : decode cX5_one 9 = .ok (.iload_n 2, 1) := dk_28 (dk_at dksX5_one_0 9 rfl rfl)
theorem dX5_one_10 : decode cX5_one 10 = .ok (.iconst 0, 1) := dk_3 (dk_at dksX5_one_0 10 rfl rfl)
theorem dX5_one_11 : decode cX5_one 11 = .ok (.iconst 1, 1) := dk_4 (dk_at dksX5_one_0 11 rfl rfl)
theorem dX5_one_12 : decode cX5_one 12 = .ok (.invokestatic 51, 3) := dk_184 0 51 (dk_at dksX5_one_0 12 rfl rfl)
theorem dX5_one_15 : decode cX5_one 15 = .ok (.ifCond .eq 13, 3) := dk_153 0 13 (dk_at dksX5_one_0 15 rfl rfl)
theorem dX5_one_18 : decode cX5_one 18 = .ok (.iload_n 3, 1) := dk_29 (dk_at dksX5_one_0 18 rfl rfl)
theorem dX5_one_19 : decode cX5_one 19 = .ok (.iconst 0, 1) := dk_3 (dk_at dksX5_one_0 19 rfl rfl)
theorem dX5_one_20 : decode cX5_one 20 = .ok (.bipush 9, 2) := dk_16 9 (dk_at dksX5_one_0 20 rfl rfl)
theorem dX5_one_22 : decode cX5_one 22 = .ok (.invokestatic 51, 3) := dk_184 0 51 (dk_at dksX5_one_1 0 rfl rfl)
theorem dX5_one_25 : decode cX5_one 25 = .ok (.ifCond .ne 10, 3) := dk_154 0 10 (dk_at dksX5_one_1 3 rfl rfl)
theorem dX5_one_28 : decode cX5_one 28 = .ok (.aload_n 0, 1) := dk_42 (dk_at dksX5_one_1 6 rfl rfl)
theorem dX5_one_29 : decode cX5_one 29 = .ok (.bipush (-2), 2) := dk_16 254 (dk_at dksX5_one_1 7 rfl rfl)
theorem dX5_one_31 : decode cX5_one 31 = .ok (.invokevirtual 55, 3) := dk_182 0 55 (dk_at dksX5_one_1 9 rfl rfl)
theorem dX5_one_34 : decode cX5_one 34 = .ok (.ireturn, 1) := dk_172 (dk_at dksX5_one_1 12 rfl rfl)
theorem dX5_one_35 : decode cX5_one 35 = .ok (.aload_n 0, 1) := dk_42 (dk_at dksX5_one_1 13 rfl rfl)
theorem dX5_one_36 : decode cX5_one 36 = .ok (.getfield 7, 3) := dk_180 0 7 (dk_at dksX5_one_1 14 rfl rfl)
theorem dX5_one_39 : decode cX5_one 39 = .ok (.bipush 11, 2) := dk_16 11 (dk_at dksX5_one_1 17 rfl rfl)
theorem dX5_one_41 : decode cX5_one 41 = .ok (.iaload, 1) := dk_46 (dk_at dksX5_one_1 19 rfl rfl)
theorem dX5_one_42 : decode cX5_one 42 = .ok (.bipush 7, 2) := dk_16 7 (dk_at dksX5_one_1 20 rfl rfl)
theorem dX5_one_44 : decode cX5_one 44 = .ok (.if_icmp .ne 10, 3) := dk_160 0 10 (dk_at dksX5_one_2 0 rfl rfl)
theorem dX5_one_47 : decode cX5_one 47 = .ok (.aload_n 0, 1) := dk_42 (dk_at dksX5_one_2 3 rfl rfl)
theorem dX5_one_48 : decode cX5_one 48 = .ok (.bipush (-4), 2) := dk_16 252 (dk_at dksX5_one_2 4 rfl rfl)
theorem dX5_one_50 : decode cX5_one 50 = .ok (.invokevirtual 55, 3) := dk_182 0 55 (dk_at dksX5_one_2 6 rfl rfl)
theorem dX5_one_53 : decode cX5_one 53 = .ok (.ireturn, 1) := dk_172 (dk_at dksX5_one_2 9 rfl rfl)
theorem dX5_one_54 : decode cX5_one 54 = .ok (.aload_n 0, 1) := dk_42 (dk_at dksX5_one_2 10 rfl rfl)
theorem dX5_one_55 : decode cX5_one 55 = .ok (.iload_n 1, 1) := dk_27 (dk_at dksX5_one_2 11 rfl rfl)
theorem dX5_one_56 : decode cX5_one 56 = .ok (.iload_n 2, 1) := dk_28 (dk_at dksX5_one_2 12 rfl rfl)
theorem dX5_one_57 : decode cX5_one 57 = .ok (.iload_n 3, 1) := dk_29 (dk_at dksX5_one_2 13 rfl rfl)
theorem dX5_one_58 : decode cX5_one 58 = .ok (.invokevirtual 63, 3) := dk_182 0 63 (dk_at dksX5_one_2 14 rfl rfl)
theorem dX5_one_61 : decode cX5_one 61 = .ok (.aload_n 0, 1) := dk_42 (dk_at dksX5_one_2 17 rfl rfl)
theorem dX5_one_62 : decode cX5_one 62 = .ok (.getfield 7, 3) := dk_180 0 7 (dk_at dksX5_one_2 18 rfl rfl)
theorem dX5_one_65 : decode cX5_one 65 = .ok (.bipush 11, 2) := dk_16 11 (dk_at dksX5_one_2 21 rfl rfl)
theorem dX5_one_67 : decode cX5_one 67 = .ok (.iaload, 1) := dk_46 (dk_at dksX5_one_2 23 rfl rfl)
theorem dX5_one_68 : decode cX5_one 68 = .ok (.iconst 1, 1) := dk_4 (dk_at dksX5_one_3 0 rfl rfl)
theorem dX5_one_69 : decode cX5_one 69 = .ok (.isub, 1) := dk_100 (dk_at dksX5_one_3 1 rfl rfl)
theorem dX5_one_70 : decode cX5_one 70 = .ok (.ireturn, 1) := dk_172 (dk_at dksX5_one_3 2 rfl rfl)
abbrev cX5_addOne : ByteArray := prog_20_method_9_code
def yX5_addOne : MethodName := ⟨RX5, "addOne", "(III)V"⟩
def dkwX5_addOne_2 : List UInt8 := [46, 4, 96, 79, 42, 180, 0, 7, 16, 98, 3, 79, 177]
abbrev dktX5_addOne_2 : List UInt8 := dkwX5_addOne_2 ++ []
def dkwX5_addOne_1 : List UInt8 := [16, 19, 21, 4, 96, 28, 79, 42, 180, 0, 7, 3, 21, 4, 96, 29, 79, 42, 180, 0, 7, 16, 11, 92]
abbrev dktX5_addOne_1 : List UInt8 := dkwX5_addOne_1 ++ dktX5_addOne_2
def dkwX5_addOne_0 : List UInt8 := [42, 180, 0, 7, 16, 11, 46, 54, 4, 42, 180, 0, 7, 16, 12, 21, 4, 96, 27, 79, 42, 180, 0, 7]
abbrev dktX5_addOne_0 : List UInt8 := dkwX5_addOne_0 ++ dktX5_addOne_1
theorem dksX5_addOne_0 : cX5_addOne.data.toList.drop 0 = dktX5_addOne_0 := by decide +kernel
theorem dksX5_addOne_1 : cX5_addOne.data.toList.drop 24 = dktX5_addOne_1 := dk_seg dksX5_addOne_0 24 rfl rfl
theorem dksX5_addOne_2 : cX5_addOne.data.toList.drop 48 = dktX5_addOne_2 := dk_seg dksX5_addOne_1 24 rfl rfl
theorem dX5_addOne_0 : decode cX5_addOne 0 = .ok (.aload_n 0, 1) := dk_42 (dk_at dksX5_addOne_0 0 rfl rfl)
theorem dX5_addOne_1 : decode cX5_addOne 1 = .ok (.getfield 7, 3) := dk_180 0 7 (dk_at dksX5_addOne_0 1 rfl rfl)
theorem dX5_addOne_4 : decode cX5_addOne 4 = .ok (.bipush 11, 2) := dk_16 11 (dk_at dksX5_addOne_0 4 rfl rfl)
theorem dX5_addOne_6 : decode cX5_addOne 6 = .ok (.iaload, 1) := dk_46 (dk_at dksX5_addOne_0 6 rfl rfl)
theorem dX5_addOne_7 : decode cX5_addOne 7 = .ok (.istore 4, 2) := dk_54 4 (dk_at dksX5_addOne_0 7 rfl rfl)
theorem dX5_addOne_9 : decode cX5_addOne 9 = .ok (.aload_n 0, 1) := dk_42 (dk_at dksX5_addOne_0 9 rfl rfl)
theorem dX5_addOne_10 : decode cX5_addOne 10 = .ok (.getfield 7, 3) := dk_180 0 7 (dk_at dksX5_addOne_0 10 rfl rfl)
theorem dX5_addOne_13 : decode cX5_addOne 13 = .ok (.bipush 12, 2) := dk_16 12 (dk_at dksX5_addOne_0 13 rfl rfl)
theorem dX5_addOne_15 : decode cX5_addOne 15 = .ok (.iload 4, 2) := dk_21 4 (dk_at dksX5_addOne_0 15 rfl rfl)
theorem dX5_addOne_17 : decode cX5_addOne 17 = .ok (.iadd, 1) := dk_96 (dk_at dksX5_addOne_0 17 rfl rfl)
theorem dX5_addOne_18 : decode cX5_addOne 18 = .ok (.iload_n 1, 1) := dk_27 (dk_at dksX5_addOne_0 18 rfl rfl)
theorem dX5_addOne_19 : decode cX5_addOne 19 = .ok (.iastore, 1) := dk_79 (dk_at dksX5_addOne_0 19 rfl rfl)
theorem dX5_addOne_20 : decode cX5_addOne 20 = .ok (.aload_n 0, 1) := dk_42 (dk_at dksX5_addOne_0 20 rfl rfl)
theorem dX5_addOne_21 : decode cX5_addOne 21 = .ok (.getfield 7, 3) := dk_180 0 7 (dk_at dksX5_addOne_0 21 rfl rfl)
theorem dX5_addOne_24 : decode cX5_addOne 24 = .ok (.bipush 19, 2) := dk_16 19 (dk_at dksX5_addOne_1 0 rfl rfl)
theorem dX5_addOne_26 : decode cX5_addOne 26 = .ok (.iload 4, 2) := dk_21 4 (dk_at dksX5_addOne_1 2 rfl rfl)
theorem dX5_addOne_28 : decode cX5_addOne 28 = .ok (.iadd, 1) := dk_96 (dk_at dksX5_addOne_1 4 rfl rfl)
theorem dX5_addOne_29 : decode cX5_addOne 29 = .ok (.iload_n 2, 1) := dk_28 (dk_at dksX5_addOne_1 5 rfl rfl)
theorem dX5_addOne_30 : decode cX5_addOne 30 = .ok (.iastore, 1) := dk_79 (dk_at dksX5_addOne_1 6 rfl rfl)
theorem dX5_addOne_31 : decode cX5_addOne 31 = .ok (.aload_n 0, 1) := dk_42 (dk_at dksX5_addOne_1 7 rfl rfl)
theorem dX5_addOne_32 : decode cX5_addOne 32 = .ok (.getfield 7, 3) := dk_180 0 7 (dk_at dksX5_addOne_1 8 rfl rfl)
theorem dX5_addOne_35 : decode cX5_addOne 35 = .ok (.iconst 0, 1) := dk_3 (dk_at dksX5_addOne_1 11 rfl rfl)
theorem dX5_addOne_36 : decode cX5_addOne 36 = .ok (.iload 4, 2) := dk_21 4 (dk_at dksX5_addOne_1 12 rfl rfl)
theorem dX5_addOne_38 : decode cX5_addOne 38 = .ok (.iadd, 1) := dk_96 (dk_at dksX5_addOne_1 14 rfl rfl)
theorem dX5_addOne_39 : decode cX5_addOne 39 = .ok (.iload_n 3, 1) := dk_29 (dk_at dksX5_addOne_1 15 rfl rfl)
theorem dX5_addOne_40 : decode cX5_addOne 40 = .ok (.iastore, 1) := dk_79 (dk_at dksX5_addOne_1 16 rfl rfl)
theorem dX5_addOne_41 : decode cX5_addOne 41 = .ok (.aload_n 0, 1) := dk_42 (dk_at dksX5_addOne_1 17 rfl rfl)
theorem dX5_addOne_42 : decode cX5_addOne 42 = .ok (.getfield 7, 3) := dk_180 0 7 (dk_at dksX5_addOne_1 18 rfl rfl)
theorem dX5_addOne_45 : decode cX5_addOne 45 = .ok (.bipush 11, 2) := dk_16 11 (dk_at dksX5_addOne_1 21 rfl rfl)
theorem dX5_addOne_47 : decode cX5_addOne 47 = .ok (.dup2, 1) := dk_92 (dk_at dksX5_addOne_1 23 rfl rfl)
theorem dX5_addOne_48 : decode cX5_addOne 48 = .ok (.iaload, 1) := dk_46 (dk_at dksX5_addOne_2 0 rfl rfl)
theorem dX5_addOne_49 : decode cX5_addOne 49 = .ok (.iconst 1, 1) := dk_4 (dk_at dksX5_addOne_2 1 rfl rfl)
theorem dX5_addOne_50 : decode cX5_addOne 50 = .ok (.iadd, 1) := dk_96 (dk_at dksX5_addOne_2 2 rfl rfl)
theorem dX5_addOne_51 : decode cX5_addOne 51 = .ok (.iastore, 1) := dk_79 (dk_at dksX5_addOne_2 3 rfl rfl)
theorem dX5_addOne_52 : decode cX5_addOne 52 = .ok (.aload_n 0, 1) := dk_42 (dk_at dksX5_addOne_2 4 rfl rfl)
theorem dX5_addOne_53 : decode cX5_addOne 53 = .ok (.getfield 7, 3) := dk_180 0 7 (dk_at dksX5_addOne_2 5 rfl rfl)
theorem dX5_addOne_56 : decode cX5_addOne 56 = .ok (.bipush 98, 2) := dk_16 98 (dk_at dksX5_addOne_2 8 rfl rfl)
theorem dX5_addOne_58 : decode cX5_addOne 58 = .ok (.iconst 0, 1) := dk_3 (dk_at dksX5_addOne_2 10 rfl rfl)
theorem dX5_addOne_59 : decode cX5_addOne 59 = .ok (.iastore, 1) := dk_79 (dk_at dksX5_addOne_2 11 rfl rfl)
theorem dX5_addOne_60 : decode cX5_addOne 60 = .ok (.return_, 1) := dk_177 (dk_at dksX5_addOne_2 12 rfl rfl)
abbrev cX5_aunt : ByteArray := prog_20_method_12_code
def yX5_aunt : MethodName := ⟨RX5, "aunt", "(II)I"⟩
def dkwX5_aunt_2 : List UInt8 := [182, 0, 67, 42, 180, 0, 7, 16, 26, 46, 4, 100, 172]
abbrev dktX5_aunt_2 : List UInt8 := dkwX5_aunt_2 ++ []
def dkwX5_aunt_1 : List UInt8 := [172, 42, 180, 0, 7, 16, 26, 46, 7, 160, 0, 10, 42, 16, 252, 182, 0, 55, 172, 42, 27, 28]
abbrev dktX5_aunt_1 : List UInt8 := dkwX5_aunt_1 ++ dktX5_aunt_2
def dkwX5_aunt_0 : List UInt8 := [27, 3, 8, 184, 0, 51, 153, 0, 12, 28, 3, 4, 184, 0, 51, 154, 0, 10, 42, 16, 254, 182, 0, 55]
abbrev dktX5_aunt_0 : List UInt8 := dkwX5_aunt_0 ++ dktX5_aunt_1
theorem dksX5_aunt_0 : cX5_aunt.data.toList.drop 0 = dktX5_aunt_0 := by decide +kernel
theorem dksX5_aunt_1 : cX5_aunt.data.toList.drop 24 = dktX5_aunt_1 := dk_seg dksX5_aunt_0 24 rfl rfl
theorem dksX5_aunt_2 : cX5_aunt.data.toList.drop 46 = dktX5_aunt_2 := dk_seg dksX5_aunt_1 22 rfl rfl
theorem dX5_aunt_0 : decode cX5_aunt 0 = .ok (.iload_n 1, 1) := dk_27 (dk_at dksX5_aunt_0 0 rfl rfl)
theorem dX5_aunt_1 : decode cX5_aunt 1 = .ok (.iconst 0, 1) := dk_3 (dk_at dksX5_aunt_0 1 rfl rfl)
theorem dX5_aunt_2 : decode cX5_aunt 2 = .ok (.iconst 5, 1) := dk_8 (dk_at dksX5_aunt_0 2 rfl rfl)
theorem dX5_aunt_3 : decode cX5_aunt 3 = .ok (.invokestatic 51, 3) := dk_184 0 51 (dk_at dksX5_aunt_0 3 rfl rfl)
theorem dX5_aunt_6 : decode cX5_aunt 6 = .ok (.ifCond .eq 12, 3) := dk_153 0 12 (dk_at dksX5_aunt_0 6 rfl rfl)
theorem dX5_aunt_9 : decode cX5_aunt 9 = .ok (.iload_n 2, 1) := dk_28 (dk_at dksX5_aunt_0 9 rfl rfl)
theorem dX5_aunt_10 : decode cX5_aunt 10 = .ok (.iconst 0, 1) := dk_3 (dk_at dksX5_aunt_0 10 rfl rfl)
theorem dX5_aunt_11 : decode cX5_aunt 11 = .ok (.iconst 1, 1) := dk_4 (dk_at dksX5_aunt_0 11 rfl rfl)
theorem dX5_aunt_12 : decode cX5_aunt 12 = .ok (.invokestatic 51, 3) := dk_184 0 51 (dk_at dksX5_aunt_0 12 rfl rfl)
theorem dX5_aunt_15 : decode cX5_aunt 15 = .ok (.ifCond .ne 10, 3) := dk_154 0 10 (dk_at dksX5_aunt_0 15 rfl rfl)
theorem dX5_aunt_18 : decode cX5_aunt 18 = .ok (.aload_n 0, 1) := dk_42 (dk_at dksX5_aunt_0 18 rfl rfl)
theorem dX5_aunt_19 : decode cX5_aunt 19 = .ok (.bipush (-2), 2) := dk_16 254 (dk_at dksX5_aunt_0 19 rfl rfl)
theorem dX5_aunt_21 : decode cX5_aunt 21 = .ok (.invokevirtual 55, 3) := dk_182 0 55 (dk_at dksX5_aunt_0 21 rfl rfl)
theorem dX5_aunt_24 : decode cX5_aunt 24 = .ok (.ireturn, 1) := dk_172 (dk_at dksX5_aunt_1 0 rfl rfl)
theorem dX5_aunt_25 : decode cX5_aunt 25 = .ok (.aload_n 0, 1) := dk_42 (dk_at dksX5_aunt_1 1 rfl rfl)
theorem dX5_aunt_26 : decode cX5_aunt 26 = .ok (.getfield 7, 3) := dk_180 0 7 (dk_at dksX5_aunt_1 2 rfl rfl)
theorem dX5_aunt_29 : decode cX5_aunt 29 = .ok (.bipush 26, 2) := dk_16 26 (dk_at dksX5_aunt_1 5 rfl rfl)
theorem dX5_aunt_31 : decode cX5_aunt 31 = .ok (.iaload, 1) := dk_46 (dk_at dksX5_aunt_1 7 rfl rfl)
theorem dX5_aunt_32 : decode cX5_aunt 32 = .ok (.iconst 4, 1) := dk_7 (dk_at dksX5_aunt_1 8 rfl rfl)
theorem dX5_aunt_33 : decode cX5_aunt 33 = .ok (.if_icmp .ne 10, 3) := dk_160 0 10 (dk_at dksX5_aunt_1 9 rfl rfl)
theorem dX5_aunt_36 : decode cX5_aunt 36 = .ok (.aload_n 0, 1) := dk_42 (dk_at dksX5_aunt_1 12 rfl rfl)
theorem dX5_aunt_37 : decode cX5_aunt 37 = .ok (.bipush (-4), 2) := dk_16 252 (dk_at dksX5_aunt_1 13 rfl rfl)
theorem dX5_aunt_39 : decode cX5_aunt 39 = .ok (.invokevirtual 55, 3) := dk_182 0 55 (dk_at dksX5_aunt_1 15 rfl rfl)
theorem dX5_aunt_42 : decode cX5_aunt 42 = .ok (.ireturn, 1) := dk_172 (dk_at dksX5_aunt_1 18 rfl rfl)
theorem dX5_aunt_43 : decode cX5_aunt 43 = .ok (.aload_n 0, 1) := dk_42 (dk_at dksX5_aunt_1 19 rfl rfl)
theorem dX5_aunt_44 : decode cX5_aunt 44 = .ok (.iload_n 1, 1) := dk_27 (dk_at dksX5_aunt_1 20 rfl rfl)
theorem dX5_aunt_45 : decode cX5_aunt 45 = .ok (.iload_n 2, 1) := dk_28 (dk_at dksX5_aunt_1 21 rfl rfl)
theorem dX5_aunt_46 : decode cX5_aunt 46 = .ok (.invokevirtual 67, 3) := dk_182 0 67 (dk_at dksX5_aunt_2 0 rfl rfl)
theorem dX5_aunt_49 : decode cX5_aunt 49 = .ok (.aload_n 0, 1) := dk_42 (dk_at dksX5_aunt_2 3 rfl rfl)
theorem dX5_aunt_50 : decode cX5_aunt 50 = .ok (.getfield 7, 3) := dk_180 0 7 (dk_at dksX5_aunt_2 4 rfl rfl)
theorem dX5_aunt_53 : decode cX5_aunt 53 = .ok (.bipush 26, 2) := dk_16 26 (dk_at dksX5_aunt_2 7 rfl rfl)
theorem dX5_aunt_55 : decode cX5_aunt 55 = .ok (.iaload, 1) := dk_46 (dk_at dksX5_aunt_2 9 rfl rfl)
theorem dX5_aunt_56 : decode cX5_aunt 56 = .ok (.iconst 1, 1) := dk_4 (dk_at dksX5_aunt_2 10 rfl rfl)
theorem dX5_aunt_57 : decode cX5_aunt 57 = .ok (.isub, 1) := dk_100 (dk_at dksX5_aunt_2 11 rfl rfl)
theorem dX5_aunt_58 : decode cX5_aunt 58 = .ok (.ireturn, 1) := dk_172 (dk_at dksX5_aunt_2 12 rfl rfl)
abbrev cX5_addAunt : ByteArray := prog_20_method_11_code
def yX5_addAunt : MethodName := ⟨RX5, "addAunt", "(II)V"⟩
def dkwX5_addAunt_2 : List UInt8 := [46, 4, 96, 79, 42, 180, 0, 7, 16, 98, 3, 79, 177]
abbrev dktX5_addAunt_2 : List UInt8 := dkwX5_addAunt_2 ++ []
def dkwX5_addAunt_1 : List UInt8 := [29, 96, 28, 79, 42, 180, 0, 7, 16, 7, 92, 46, 4, 29, 120, 128, 79, 42, 180, 0, 7, 16, 26, 92]
abbrev dktX5_addAunt_1 : List UInt8 := dkwX5_addAunt_1 ++ dktX5_addAunt_2
def dkwX5_addAunt_0 : List UInt8 := [42, 180, 0, 7, 16, 26, 46, 62, 42, 180, 0, 7, 16, 27, 29, 96, 27, 79, 42, 180, 0, 7, 16, 31]
abbrev dktX5_addAunt_0 : List UInt8 := dkwX5_addAunt_0 ++ dktX5_addAunt_1
theorem dksX5_addAunt_0 : cX5_addAunt.data.toList.drop 0 = dktX5_addAunt_0 := by decide +kernel
theorem dksX5_addAunt_1 : cX5_addAunt.data.toList.drop 24 = dktX5_addAunt_1 := dk_seg dksX5_addAunt_0 24 rfl rfl
theorem dksX5_addAunt_2 : cX5_addAunt.data.toList.drop 48 = dktX5_addAunt_2 := dk_seg dksX5_addAunt_1 24 rfl rfl
theorem dX5_addAunt_0 : decode cX5_addAunt 0 = .ok (.aload_n 0, 1) := dk_42 (dk_at dksX5_addAunt_0 0 rfl rfl)
theorem dX5_addAunt_1 : decode cX5_addAunt 1 = .ok (.getfield 7, 3) := dk_180 0 7 (dk_at dksX5_addAunt_0 1 rfl rfl)
theorem dX5_addAunt_4 : decode cX5_addAunt 4 = .ok (.bipush 26, 2) := dk_16 26 (dk_at dksX5_addAunt_0 4 rfl rfl)
theorem dX5_addAunt_6 : decode cX5_addAunt 6 = .ok (.iaload, 1) := dk_46 (dk_at dksX5_addAunt_0 6 rfl rfl)
theorem dX5_addAunt_7 : decode cX5_addAunt 7 = .ok (.istore_n 3, 1) := dk_62 (dk_at dksX5_addAunt_0 7 rfl rfl)
theorem dX5_addAunt_8 : decode cX5_addAunt 8 = .ok (.aload_n 0, 1) := dk_42 (dk_at dksX5_addAunt_0 8 rfl rfl)
theorem dX5_addAunt_9 : decode cX5_addAunt 9 = .ok (.getfield 7, 3) := dk_180 0 7 (dk_at dksX5_addAunt_0 9 rfl rfl)
theorem dX5_addAunt_12 : decode cX5_addAunt 12 = .ok (.bipush 27, 2) := dk_16 27 (dk_at dksX5_addAunt_0 12 rfl rfl)
theorem dX5_addAunt_14 : decode cX5_addAunt 14 = .ok (.iload_n 3, 1) := dk_29 (dk_at dksX5_addAunt_0 14 rfl rfl)
theorem dX5_addAunt_15 : decode cX5_addAunt 15 = .ok (.iadd, 1) := dk_96 (dk_at dksX5_addAunt_0 15 rfl rfl)
theorem dX5_addAunt_16 : decode cX5_addAunt 16 = .ok (.iload_n 1, 1) := dk_27 (dk_at dksX5_addAunt_0 16 rfl rfl)
theorem dX5_addAunt_17 : decode cX5_addAunt 17 = .ok (.iastore, 1) := dk_79 (dk_at dksX5_addAunt_0 17 rfl rfl)
theorem dX5_addAunt_18 : decode cX5_addAunt 18 = .ok (.aload_n 0, 1) := dk_42 (dk_at dksX5_addAunt_0 18 rfl rfl)
theorem dX5_addAunt_19 : decode cX5_addAunt 19 = .ok (.getfield 7, 3) := dk_180 0 7 (dk_at dksX5_addAunt_0 19 rfl rfl)
theorem dX5_addAunt_22 : decode cX5_addAunt 22 = .ok (.bipush 31, 2) := dk_16 31 (dk_at dksX5_addAunt_0 22 rfl rfl)
theorem dX5_addAunt_24 : decode cX5_addAunt 24 = .ok (.iload_n 3, 1) := dk_29 (dk_at dksX5_addAunt_1 0 rfl rfl)
theorem dX5_addAunt_25 : decode cX5_addAunt 25 = .ok (.iadd, 1) := dk_96 (dk_at dksX5_addAunt_1 1 rfl rfl)
theorem dX5_addAunt_26 : decode cX5_addAunt 26 = .ok (.iload_n 2, 1) := dk_28 (dk_at dksX5_addAunt_1 2 rfl rfl)
theorem dX5_addAunt_27 : decode cX5_addAunt 27 = .ok (.iastore, 1) := dk_79 (dk_at dksX5_addAunt_1 3 rfl rfl)
theorem dX5_addAunt_28 : decode cX5_addAunt 28 = .ok (.aload_n 0, 1) := dk_42 (dk_at dksX5_addAunt_1 4 rfl rfl)
theorem dX5_addAunt_29 : decode cX5_addAunt 29 = .ok (.getfield 7, 3) := dk_180 0 7 (dk_at dksX5_addAunt_1 5 rfl rfl)
theorem dX5_addAunt_32 : decode cX5_addAunt 32 = .ok (.bipush 7, 2) := dk_16 7 (dk_at dksX5_addAunt_1 8 rfl rfl)
theorem dX5_addAunt_34 : decode cX5_addAunt 34 = .ok (.dup2, 1) := dk_92 (dk_at dksX5_addAunt_1 10 rfl rfl)
theorem dX5_addAunt_35 : decode cX5_addAunt 35 = .ok (.iaload, 1) := dk_46 (dk_at dksX5_addAunt_1 11 rfl rfl)
theorem dX5_addAunt_36 : decode cX5_addAunt 36 = .ok (.iconst 1, 1) := dk_4 (dk_at dksX5_addAunt_1 12 rfl rfl)
theorem dX5_addAunt_37 : decode cX5_addAunt 37 = .ok (.iload_n 3, 1) := dk_29 (dk_at dksX5_addAunt_1 13 rfl rfl)
theorem dX5_addAunt_38 : decode cX5_addAunt 38 = .ok (.ishl, 1) := dk_120 (dk_at dksX5_addAunt_1 14 rfl rfl)
theorem dX5_addAunt_39 : decode cX5_addAunt 39 = .ok (.ior, 1) := dk_128 (dk_at dksX5_addAunt_1 15 rfl rfl)
theorem dX5_addAunt_40 : decode cX5_addAunt 40 = .ok (.iastore, 1) := dk_79 (dk_at dksX5_addAunt_1 16 rfl rfl)
theorem dX5_addAunt_41 : decode cX5_addAunt 41 = .ok (.aload_n 0, 1) := dk_42 (dk_at dksX5_addAunt_1 17 rfl rfl)
theorem dX5_addAunt_42 : decode cX5_addAunt 42 = .ok (.getfield 7, 3) := dk_180 0 7 (dk_at dksX5_addAunt_1 18 rfl rfl)
theorem dX5_addAunt_45 : decode cX5_addAunt 45 = .ok (.bipush 26, 2) := dk_16 26 (dk_at dksX5_addAunt_1 21 rfl rfl)
theorem dX5_addAunt_47 : decode cX5_addAunt 47 = .ok (.dup2, 1) := dk_92 (dk_at dksX5_addAunt_1 23 rfl rfl)
theorem dX5_addAunt_48 : decode cX5_addAunt 48 = .ok (.iaload, 1) := dk_46 (dk_at dksX5_addAunt_2 0 rfl rfl)
theorem dX5_addAunt_49 : decode cX5_addAunt 49 = .ok (.iconst 1, 1) := dk_4 (dk_at dksX5_addAunt_2 1 rfl rfl)
theorem dX5_addAunt_50 : decode cX5_addAunt 50 = .ok (.iadd, 1) := dk_96 (dk_at dksX5_addAunt_2 2 rfl rfl)
theorem dX5_addAunt_51 : decode cX5_addAunt 51 = .ok (.iastore, 1) := dk_79 (dk_at dksX5_addAunt_2 3 rfl rfl)
theorem dX5_addAunt_52 : decode cX5_addAunt 52 = .ok (.aload_n 0, 1) := dk_42 (dk_at dksX5_addAunt_2 4 rfl rfl)
theorem dX5_addAunt_53 : decode cX5_addAunt 53 = .ok (.getfield 7, 3) := dk_180 0 7 (dk_at dksX5_addAunt_2 5 rfl rfl)
theorem dX5_addAunt_56 : decode cX5_addAunt 56 = .ok (.bipush 98, 2) := dk_16 98 (dk_at dksX5_addAunt_2 8 rfl rfl)
theorem dX5_addAunt_58 : decode cX5_addAunt 58 = .ok (.iconst 0, 1) := dk_3 (dk_at dksX5_addAunt_2 10 rfl rfl)
theorem dX5_addAunt_59 : decode cX5_addAunt 59 = .ok (.iastore, 1) := dk_79 (dk_at dksX5_addAunt_2 11 rfl rfl)
theorem dX5_addAunt_60 : decode cX5_addAunt 60 = .ok (.return_, 1) := dk_177 (dk_at dksX5_addAunt_2 12 rfl rfl)
abbrev cX5_type : ByteArray := prog_20_method_13_code
def yX5_type : MethodName := ⟨RX5, "type", "(I)I"⟩
def dkwX5_type_2 : List UInt8 := [180, 0, 71, 4, 96, 181, 0, 71, 42, 180, 0, 71, 172]
abbrev dktX5_type_2 : List UInt8 := dkwX5_type_2 ++ []
def dkwX5_type_1 : List UInt8 := [160, 0, 10, 42, 16, 252, 182, 0, 55, 172, 42, 180, 0, 24, 42, 180, 0, 71, 27, 79, 42, 89]
abbrev dktX5_type_1 : List UInt8 := dkwX5_type_1 ++ dktX5_type_2
def dkwX5_type_0 : List UInt8 := [27, 3, 16, 127, 184, 0, 51, 154, 0, 10, 42, 16, 254, 182, 0, 55, 172, 42, 180, 0, 71, 17, 0, 150]
abbrev dktX5_type_0 : List UInt8 := dkwX5_type_0 ++ dktX5_type_1
theorem dksX5_type_0 : cX5_type.data.toList.drop 0 = dktX5_type_0 := by decide +kernel
theorem dksX5_type_1 : cX5_type.data.toList.drop 24 = dktX5_type_1 := dk_seg dksX5_type_0 24 rfl rfl
theorem dksX5_type_2 : cX5_type.data.toList.drop 46 = dktX5_type_2 := dk_seg dksX5_type_1 22 rfl rfl
theorem dX5_type_0 : decode cX5_type 0 = .ok (.iload_n 1, 1) := dk_27 (dk_at dksX5_type_0 0 rfl rfl)
theorem dX5_type_1 : decode cX5_type 1 = .ok (.iconst 0, 1) := dk_3 (dk_at dksX5_type_0 1 rfl rfl)
theorem dX5_type_2 : decode cX5_type 2 = .ok (.bipush 127, 2) := dk_16 127 (dk_at dksX5_type_0 2 rfl rfl)
theorem dX5_type_4 : decode cX5_type 4 = .ok (.invokestatic 51, 3) := dk_184 0 51 (dk_at dksX5_type_0 4 rfl rfl)
theorem dX5_type_7 : decode cX5_type 7 = .ok (.ifCond .ne 10, 3) := dk_154 0 10 (dk_at dksX5_type_0 7 rfl rfl)
theorem dX5_type_10 : decode cX5_type 10 = .ok (.aload_n 0, 1) := dk_42 (dk_at dksX5_type_0 10 rfl rfl)
theorem dX5_type_11 : decode cX5_type 11 = .ok (.bipush (-2), 2) := dk_16 254 (dk_at dksX5_type_0 11 rfl rfl)
theorem dX5_type_13 : decode cX5_type 13 = .ok (.invokevirtual 55, 3) := dk_182 0 55 (dk_at dksX5_type_0 13 rfl rfl)
theorem dX5_type_16 : decode cX5_type 16 = .ok (.ireturn, 1) := dk_172 (dk_at dksX5_type_0 16 rfl rfl)
theorem dX5_type_17 : decode cX5_type 17 = .ok (.aload_n 0, 1) := dk_42 (dk_at dksX5_type_0 17 rfl rfl)
theorem dX5_type_18 : decode cX5_type 18 = .ok (.getfield 71, 3) := dk_180 0 71 (dk_at dksX5_type_0 18 rfl rfl)
theorem dX5_type_21 : decode cX5_type 21 = .ok (.sipush 150, 3) := dk_17 0 150 (dk_at dksX5_type_0 21 rfl rfl)
theorem dX5_type_24 : decode cX5_type 24 = .ok (.if_icmp .ne 10, 3) := dk_160 0 10 (dk_at dksX5_type_1 0 rfl rfl)
theorem dX5_type_27 : decode cX5_type 27 = .ok (.aload_n 0, 1) := dk_42 (dk_at dksX5_type_1 3 rfl rfl)
theorem dX5_type_28 : decode cX5_type 28 = .ok (.bipush (-4), 2) := dk_16 252 (dk_at dksX5_type_1 4 rfl rfl)
theorem dX5_type_30 : decode cX5_type 30 = .ok (.invokevirtual 55, 3) := dk_182 0 55 (dk_at dksX5_type_1 6 rfl rfl)
theorem dX5_type_33 : decode cX5_type 33 = .ok (.ireturn, 1) := dk_172 (dk_at dksX5_type_1 9 rfl rfl)
theorem dX5_type_34 : decode cX5_type 34 = .ok (.aload_n 0, 1) := dk_42 (dk_at dksX5_type_1 10 rfl rfl)
theorem dX5_type_35 : decode cX5_type 35 = .ok (.getfield 24, 3) := dk_180 0 24 (dk_at dksX5_type_1 11 rfl rfl)
theorem dX5_type_38 : decode cX5_type 38 = .ok (.aload_n 0, 1) := dk_42 (dk_at dksX5_type_1 14 rfl rfl)
theorem dX5_type_39 : decode cX5_type 39 = .ok (.getfield 71, 3) := dk_180 0 71 (dk_at dksX5_type_1 15 rfl rfl)
theorem dX5_type_42 : decode cX5_type 42 = .ok (.iload_n 1, 1) := dk_27 (dk_at dksX5_type_1 18 rfl rfl)
theorem dX5_type_43 : decode cX5_type 43 = .ok (.iastore, 1) := dk_79 (dk_at dksX5_type_1 19 rfl rfl)
theorem dX5_type_44 : decode cX5_type 44 = .ok (.aload_n 0, 1) := dk_42 (dk_at dksX5_type_1 20 rfl rfl)
theorem dX5_type_45 : decode cX5_type 45 = .ok (.dup, 1) := dk_89 (dk_at dksX5_type_1 21 rfl rfl)
theorem dX5_type_46 : decode cX5_type 46 = .ok (.getfield 71, 3) := dk_180 0 71 (dk_at dksX5_type_2 0 rfl rfl)
theorem dX5_type_49 : decode cX5_type 49 = .ok (.iconst 1, 1) := dk_4 (dk_at dksX5_type_2 3 rfl rfl)
theorem dX5_type_50 : decode cX5_type 50 = .ok (.iadd, 1) := dk_96 (dk_at dksX5_type_2 4 rfl rfl)
theorem dX5_type_51 : decode cX5_type 51 = .ok (.putfield 71, 3) := dk_181 0 71 (dk_at dksX5_type_2 5 rfl rfl)
theorem dX5_type_54 : decode cX5_type 54 = .ok (.aload_n 0, 1) := dk_42 (dk_at dksX5_type_2 8 rfl rfl)
theorem dX5_type_55 : decode cX5_type 55 = .ok (.getfield 71, 3) := dk_180 0 71 (dk_at dksX5_type_2 9 rfl rfl)
theorem dX5_type_58 : decode cX5_type 58 = .ok (.ireturn, 1) := dk_172 (dk_at dksX5_type_2 12 rfl rfl)
abbrev cX5_clear : ByteArray := prog_20_method_14_code
def yX5_clear : MethodName := ⟨RX5, "clear", "()I"⟩
def dkwX5_clear_0 : List UInt8 := [42, 180, 0, 71, 60, 42, 3, 181, 0, 71, 27, 172]
abbrev dktX5_clear_0 : List UInt8 := dkwX5_clear_0 ++ []
theorem dksX5_clear_0 : cX5_clear.data.toList.drop 0 = dktX5_clear_0 := by decide +kernel
theorem dX5_clear_0 : decode cX5_clear 0 = .ok (.aload_n 0, 1) := dk_42 (dk_at dksX5_clear_0 0 rfl rfl)
theorem dX5_clear_1 : decode cX5_clear 1 = .ok (.getfield 71, 3) := dk_180 0 71 (dk_at dksX5_clear_0 1 rfl rfl)
theorem dX5_clear_4 : decode cX5_clear 4 = .ok (.istore_n 1, 1) := dk_60 (dk_at dksX5_clear_0 4 rfl rfl)
theorem dX5_clear_5 : decode cX5_clear 5 = .ok (.aload_n 0, 1) := dk_42 (dk_at dksX5_clear_0 5 rfl rfl)
theorem dX5_clear_6 : decode cX5_clear 6 = .ok (.iconst 0, 1) := dk_3 (dk_at dksX5_clear_0 6 rfl rfl)
theorem dX5_clear_7 : decode cX5_clear 7 = .ok (.putfield 71, 3) := dk_181 0 71 (dk_at dksX5_clear_0 7 rfl rfl)
theorem dX5_clear_10 : decode cX5_clear 10 = .ok (.iload_n 1, 1) := dk_27 (dk_at dksX5_clear_0 10 rfl rfl)
theorem dX5_clear_11 : decode cX5_clear 11 = .ok (.ireturn, 1) := dk_172 (dk_at dksX5_clear_0 11 rfl rfl)
abbrev cX5_read : ByteArray := prog_20_method_26_code
def yX5_read : MethodName := ⟨RX5, "read", "()I"⟩
def dkwX5_read_1 : List UInt8 := [87, 42, 180, 0, 7, 16, 98, 3, 79, 27, 172]
abbrev dktX5_read_1 : List UInt8 := dkwX5_read_1 ++ []
def dkwX5_read_0 : List UInt8 := [42, 3, 182, 0, 128, 60, 27, 2, 160, 0, 11, 16, 246, 42, 180, 0, 78, 100, 172, 42, 4, 182, 0, 128]
abbrev dktX5_read_0 : List UInt8 := dkwX5_read_0 ++ dktX5_read_1
theorem dksX5_read_0 : cX5_read.data.toList.drop 0 = dktX5_read_0 := by decide +kernel
theorem dksX5_read_1 : cX5_read.data.toList.drop 24 = dktX5_read_1 := dk_seg dksX5_read_0 24 rfl rfl
theorem dX5_read_0 : decode cX5_read 0 = .ok (.aload_n 0, 1) := dk_42 (dk_at dksX5_read_0 0 rfl rfl)
theorem dX5_read_1 : decode cX5_read 1 = .ok (.iconst 0, 1) := dk_3 (dk_at dksX5_read_0 1 rfl rfl)
theorem dX5_read_2 : decode cX5_read 2 = .ok (.invokevirtual 128, 3) := dk_182 0 128 (dk_at dksX5_read_0 2 rfl rfl)
theorem dX5_read_5 : decode cX5_read 5 = .ok (.istore_n 1, 1) := dk_60 (dk_at dksX5_read_0 5 rfl rfl)
theorem dX5_read_6 : decode cX5_read 6 = .ok (.iload_n 1, 1) := dk_27 (dk_at dksX5_read_0 6 rfl rfl)
theorem dX5_read_7 : decode cX5_read 7 = .ok (.iconst (-1), 1) := dk_2 (dk_at dksX5_read_0 7 rfl rfl)
theorem dX5_read_8 : decode cX5_read 8 = .ok (.if_icmp .ne 11, 3) := dk_160 0 11 (dk_at dksX5_read_0 8 rfl rfl)
theorem dX5_read_11 : decode cX5_read 11 = .ok (.bipush (-10), 2) := dk_16 246 (dk_at dksX5_read_0 11 rfl rfl)
theorem dX5_read_13 : decode cX5_read 13 = .ok (.aload_n 0, 1) := dk_42 (dk_at dksX5_read_0 13 rfl rfl)
theorem dX5_read_14 : decode cX5_read 14 = .ok (.getfield 78, 3) := dk_180 0 78 (dk_at dksX5_read_0 14 rfl rfl)
theorem dX5_read_17 : decode cX5_read 17 = .ok (.isub, 1) := dk_100 (dk_at dksX5_read_0 17 rfl rfl)
theorem dX5_read_18 : decode cX5_read 18 = .ok (.ireturn, 1) := dk_172 (dk_at dksX5_read_0 18 rfl rfl)
theorem dX5_read_19 : decode cX5_read 19 = .ok (.aload_n 0, 1) := dk_42 (dk_at dksX5_read_0 19 rfl rfl)
theorem dX5_read_20 : decode cX5_read 20 = .ok (.iconst 1, 1) := dk_4 (dk_at dksX5_read_0 20 rfl rfl)
theorem dX5_read_21 : decode cX5_read 21 = .ok (.invokevirtual 128, 3) := dk_182 0 128 (dk_at dksX5_read_0 21 rfl rfl)
theorem dX5_read_24 : decode cX5_read 24 = .ok (.pop, 1) := dk_87 (dk_at dksX5_read_1 0 rfl rfl)
theorem dX5_read_25 : decode cX5_read 25 = .ok (.aload_n 0, 1) := dk_42 (dk_at dksX5_read_1 1 rfl rfl)
theorem dX5_read_26 : decode cX5_read 26 = .ok (.getfield 7, 3) := dk_180 0 7 (dk_at dksX5_read_1 2 rfl rfl)
theorem dX5_read_29 : decode cX5_read 29 = .ok (.bipush 98, 2) := dk_16 98 (dk_at dksX5_read_1 5 rfl rfl)
theorem dX5_read_31 : decode cX5_read 31 = .ok (.iconst 0, 1) := dk_3 (dk_at dksX5_read_1 7 rfl rfl)
theorem dX5_read_32 : decode cX5_read 32 = .ok (.iastore, 1) := dk_79 (dk_at dksX5_read_1 8 rfl rfl)
theorem dX5_read_33 : decode cX5_read 33 = .ok (.iload_n 1, 1) := dk_27 (dk_at dksX5_read_1 9 rfl rfl)
theorem dX5_read_34 : decode cX5_read 34 = .ok (.ireturn, 1) := dk_172 (dk_at dksX5_read_1 10 rfl rfl)
abbrev cX5_readItems : ByteArray := prog_20_method_25_code
def yX5_readItems : MethodName := ⟨RX5, "readItems", "(Z)I"⟩
def dkwX5_readItems_5 : List UInt8 := [132, 2, 1, 42, 182, 0, 91, 167, 255, 162, 28, 172]
abbrev dktX5_readItems_5 : List UInt8 := dkwX5_readItems_5 ++ []
def dkwX5_readItems_4 : List UInt8 := [180, 0, 71, 159, 0, 17, 42, 180, 0, 24, 42, 180, 0, 78, 46, 16, 59, 159, 0, 5, 2, 172]
abbrev dktX5_readItems_4 : List UInt8 := dkwX5_readItems_4 ++ dktX5_readItems_5
def dkwX5_readItems_3 : List UInt8 := [160, 0, 11, 42, 29, 182, 0, 125, 154, 0, 5, 2, 172, 42, 182, 0, 91, 42, 180, 0, 78, 42]
abbrev dktX5_readItems_3 : List UInt8 := dkwX5_readItems_3 ++ dktX5_readItems_4
def dkwX5_readItems_2 : List UInt8 := [2, 159, 0, 32, 29, 154, 0, 7, 4, 167, 0, 4, 3, 28, 154, 0, 7, 4, 167, 0, 4, 3]
abbrev dktX5_readItems_2 : List UInt8 := dkwX5_readItems_2 ++ dktX5_readItems_3
def dkwX5_readItems_1 : List UInt8 := [182, 0, 91, 28, 153, 0, 14, 42, 180, 0, 78, 42, 180, 0, 71, 162, 0, 85, 42, 182, 0, 121, 62, 29]
abbrev dktX5_readItems_1 : List UInt8 := dkwX5_readItems_1 ++ dktX5_readItems_2
def dkwX5_readItems_0 : List UInt8 := [42, 27, 181, 0, 98, 42, 3, 181, 0, 75, 42, 3, 181, 0, 102, 42, 3, 181, 0, 105, 3, 61, 42]
abbrev dktX5_readItems_0 : List UInt8 := dkwX5_readItems_0 ++ dktX5_readItems_1
theorem dksX5_readItems_0 : cX5_readItems.data.toList.drop 0 = dktX5_readItems_0 := by decide +kernel
theorem dksX5_readItems_1 : cX5_readItems.data.toList.drop 23 = dktX5_readItems_1 := dk_seg dksX5_readItems_0 23 rfl rfl
theorem dksX5_readItems_2 : cX5_readItems.data.toList.drop 47 = dktX5_readItems_2 := dk_seg dksX5_readItems_1 24 rfl rfl
theorem dksX5_readItems_3 : cX5_readItems.data.toList.drop 69 = dktX5_readItems_3 := dk_seg dksX5_readItems_2 22 rfl rfl
theorem dksX5_readItems_4 : cX5_readItems.data.toList.drop 91 = dktX5_readItems_4 := dk_seg dksX5_readItems_3 22 rfl rfl
theorem dksX5_readItems_5 : cX5_readItems.data.toList.drop 113 = dktX5_readItems_5 := dk_seg dksX5_readItems_4 22 rfl rfl
theorem dX5_readItems_0 : decode cX5_readItems 0 = .ok (.aload_n 0, 1) := dk_42 (dk_at dksX5_readItems_0 0 rfl rfl)
theorem dX5_readItems_1 : decode cX5_readItems 1 = .ok (.iload_n 1, 1) := dk_27 (dk_at dksX5_readItems_0 1 rfl rfl)
theorem dX5_readItems_2 : decode cX5_readItems 2 = .ok (.putfield 98, 3) := dk_181 0 98 (dk_at dksX5_readItems_0 2 rfl rfl)
theorem dX5_readItems_5 : decode cX5_readItems 5 = .ok (.aload_n 0, 1) := dk_42 (dk_at dksX5_readItems_0 5 rfl rfl)
theorem dX5_readItems_6 : decode cX5_readItems 6 = .ok (.iconst 0, 1) := dk_3 (dk_at dksX5_readItems_0 6 rfl rfl)
theorem dX5_readItems_7 : decode cX5_readItems 7 = .ok (.putfield 75, 3) := dk_181 0 75 (dk_at dksX5_readItems_0 7 rfl rfl)
theorem dX5_readItems_10 : decode cX5_readItems 10 = .ok (.aload_n 0, 1) := dk_42 (dk_at dksX5_readItems_0 10 rfl rfl)
theorem dX5_readItems_11 : decode cX5_readItems 11 = .ok (.iconst 0, 1) := dk_3 (dk_at dksX5_readItems_0 11 rfl rfl)
theorem dX5_readItems_12 : decode cX5_readItems 12 = .ok (.putfield 102, 3) := dk_181 0 102 (dk_at dksX5_readItems_0 12 rfl rfl)
theorem dX5_readItems_15 : decode cX5_readItems 15 = .ok (.aload_n 0, 1) := dk_42 (dk_at dksX5_readItems_0 15 rfl rfl)
theorem dX5_readItems_16 : decode cX5_readItems 16 = .ok (.iconst 0, 1) := dk_3 (dk_at dksX5_readItems_0 16 rfl rfl)
theorem dX5_readItems_17 : decode cX5_readItems 17 = .ok (.putfield 105, 3) := dk_181 0 105 (dk_at dksX5_readItems_0 17 rfl rfl)
theorem dX5_readItems_20 : decode cX5_readItems 20 = .ok (.iconst 0, 1) := dk_3 (dk_at dksX5_readItems_0 20 rfl rfl)
theorem dX5_readItems_21 : decode cX5_readItems 21 = .ok (.istore_n 2, 1) := dk_61 (dk_at dksX5_readItems_0 21 rfl rfl)
theorem dX5_readItems_22 : decode cX5_readItems 22 = .ok (.aload_n 0, 1) := dk_42 (dk_at dksX5_readItems_0 22 rfl rfl)
theorem dX5_readItems_23 : decode cX5_readItems 23 = .ok (.invokevirtual 91, 3) := dk_182 0 91 (dk_at dksX5_readItems_1 0 rfl rfl)
theorem dX5_readItems_26 : decode cX5_readItems 26 = .ok (.iload_n 2, 1) := dk_28 (dk_at dksX5_readItems_1 3 rfl rfl)
theorem dX5_readItems_27 : decode cX5_readItems 27 = .ok (.ifCond .eq 14, 3) := dk_153 0 14 (dk_at dksX5_readItems_1 4 rfl rfl)
theorem dX5_readItems_30 : decode cX5_readItems 30 = .ok (.aload_n 0, 1) := dk_42 (dk_at dksX5_readItems_1 7 rfl rfl)
theorem dX5_readItems_31 : decode cX5_readItems 31 = .ok (.getfield 78, 3) := dk_180 0 78 (dk_at dksX5_readItems_1 8 rfl rfl)
theorem dX5_readItems_34 : decode cX5_readItems 34 = .ok (.aload_n 0, 1) := dk_42 (dk_at dksX5_readItems_1 11 rfl rfl)
theorem dX5_readItems_35 : decode cX5_readItems 35 = .ok (.getfield 71, 3) := dk_180 0 71 (dk_at dksX5_readItems_1 12 rfl rfl)
theorem dX5_readItems_38 : decode cX5_readItems 38 = .ok (.if_icmp .ge 85, 3) := dk_162 0 85 (dk_at dksX5_readItems_1 15 rfl rfl)
theorem dX5_readItems_41 : decode cX5_readItems 41 = .ok (.aload_n 0, 1) := dk_42 (dk_at dksX5_readItems_1 18 rfl rfl)
theorem dX5_readItems_42 : decode cX5_readItems 42 = .ok (.invokevirtual 121, 3) := dk_182 0 121 (dk_at dksX5_readItems_1 19 rfl rfl)
theorem dX5_readItems_45 : decode cX5_readItems 45 = .ok (.istore_n 3, 1) := dk_62 (dk_at dksX5_readItems_1 22 rfl rfl)
theorem dX5_readItems_46 : decode cX5_readItems 46 = .ok (.iload_n 3, 1) := dk_29 (dk_at dksX5_readItems_1 23 rfl rfl)
theorem dX5_readItems_47 : decode cX5_readItems 47 = .ok (.iconst (-1), 1) := dk_2 (dk_at dksX5_readItems_2 0 rfl rfl)
theorem dX5_readItems_48 : decode cX5_readItems 48 = .ok (.if_icmp .eq 32, 3) := dk_159 0 32 (dk_at dksX5_readItems_2 1 rfl rfl)
theorem dX5_readItems_51 : decode cX5_readItems 51 = .ok (.iload_n 3, 1) := dk_29 (dk_at dksX5_readItems_2 4 rfl rfl)
theorem dX5_readItems_52 : decode cX5_readItems 52 = .ok (.ifCond .ne 7, 3) := dk_154 0 7 (dk_at dksX5_readItems_2 5 rfl rfl)
theorem dX5_readItems_55 : decode cX5_readItems 55 = .ok (.iconst 1, 1) := dk_4 (dk_at dksX5_readItems_2 8 rfl rfl)
theorem dX5_readItems_56 : decode cX5_readItems 56 = .ok (.goto 4, 3) := dk_167 0 4 (dk_at dksX5_readItems_2 9 rfl rfl)
theorem dX5_readItems_59 : decode cX5_readItems 59 = .ok (.iconst 0, 1) := dk_3 (dk_at dksX5_readItems_2 12 rfl rfl)
theorem dX5_readItems_60 : decode cX5_readItems 60 = .ok (.iload_n 2, 1) := dk_28 (dk_at dksX5_readItems_2 13 rfl rfl)
theorem dX5_readItems_61 : decode cX5_readItems 61 = .ok (.ifCond .ne 7, 3) := dk_154 0 7 (dk_at dksX5_readItems_2 14 rfl rfl)
theorem dX5_readItems_64 : decode cX5_readItems 64 = .ok (.iconst 1, 1) := dk_4 (dk_at dksX5_readItems_2 17 rfl rfl)
theorem dX5_readItems_65 : decode cX5_readItems 65 = .ok (.goto 4, 3) := dk_167 0 4 (dk_at dksX5_readItems_2 18 rfl rfl)
theorem dX5_readItems_68 : decode cX5_readItems 68 = .ok (.iconst 0, 1) := dk_3 (dk_at dksX5_readItems_2 21 rfl rfl)
theorem dX5_readItems_69 : decode cX5_readItems 69 = .ok (.if_icmp .ne 11, 3) := dk_160 0 11 (dk_at dksX5_readItems_3 0 rfl rfl)
theorem dX5_readItems_72 : decode cX5_readItems 72 = .ok (.aload_n 0, 1) := dk_42 (dk_at dksX5_readItems_3 3 rfl rfl)
theorem dX5_readItems_73 : decode cX5_readItems 73 = .ok (.iload_n 3, 1) := dk_29 (dk_at dksX5_readItems_3 4 rfl rfl)
theorem dX5_readItems_74 : decode cX5_readItems 74 = .ok (.invokevirtual 125, 3) := dk_182 0 125 (dk_at dksX5_readItems_3 5 rfl rfl)
theorem dX5_readItems_77 : decode cX5_readItems 77 = .ok (.ifCond .ne 5, 3) := dk_154 0 5 (dk_at dksX5_readItems_3 8 rfl rfl)
theorem dX5_readItems_80 : decode cX5_readItems 80 = .ok (.iconst (-1), 1) := dk_2 (dk_at dksX5_readItems_3 11 rfl rfl)
theorem dX5_readItems_81 : decode cX5_readItems 81 = .ok (.ireturn, 1) := dk_172 (dk_at dksX5_readItems_3 12 rfl rfl)
theorem dX5_readItems_82 : decode cX5_readItems 82 = .ok (.aload_n 0, 1) := dk_42 (dk_at dksX5_readItems_3 13 rfl rfl)
theorem dX5_readItems_83 : decode cX5_readItems 83 = .ok (.invokevirtual 91, 3) := dk_182 0 91 (dk_at dksX5_readItems_3 14 rfl rfl)
theorem dX5_readItems_86 : decode cX5_readItems 86 = .ok (.aload_n 0, 1) := dk_42 (dk_at dksX5_readItems_3 17 rfl rfl)
theorem dX5_readItems_87 : decode cX5_readItems 87 = .ok (.getfield 78, 3) := dk_180 0 78 (dk_at dksX5_readItems_3 18 rfl rfl)
theorem dX5_readItems_90 : decode cX5_readItems 90 = .ok (.aload_n 0, 1) := dk_42 (dk_at dksX5_readItems_3 21 rfl rfl)
theorem dX5_readItems_91 : decode cX5_readItems 91 = .ok (.getfield 71, 3) := dk_180 0 71 (dk_at dksX5_readItems_4 0 rfl rfl)
theorem dX5_readItems_94 : decode cX5_readItems 94 = .ok (.if_icmp .eq 17, 3) := dk_159 0 17 (dk_at dksX5_readItems_4 3 rfl rfl)
theorem dX5_readItems_97 : decode cX5_readItems 97 = .ok (.aload_n 0, 1) := dk_42 (dk_at dksX5_readItems_4 6 rfl rfl)
theorem dX5_readItems_98 : decode cX5_readItems 98 = .ok (.getfield 24, 3) := dk_180 0 24 (dk_at dksX5_readItems_4 7 rfl rfl)
theorem dX5_readItems_101 : decode cX5_readItems 101 = .ok (.aload_n 0, 1) := dk_42 (dk_at dksX5_readItems_4 10 rfl rfl)
theorem dX5_readItems_102 : decode cX5_readItems 102 = .ok (.getfield 78, 3) := dk_180 0 78 (dk_at dksX5_readItems_4 11 rfl rfl)
theorem dX5_readItems_105 : decode cX5_readItems 105 = .ok (.iaload, 1) := dk_46 (dk_at dksX5_readItems_4 14 rfl rfl)
theorem dX5_readItems_106 : decode cX5_readItems 106 = .ok (.bipush 59, 2) := dk_16 59 (dk_at dksX5_readItems_4 15 rfl rfl)
theorem dX5_readItems_108 : decode cX5_readItems 108 = .ok (.if_icmp .eq 5, 3) := dk_159 0 5 (dk_at dksX5_readItems_4 17 rfl rfl)
theorem dX5_readItems_111 : decode cX5_readItems 111 = .ok (.iconst (-1), 1) := dk_2 (dk_at dksX5_readItems_4 20 rfl rfl)
theorem dX5_readItems_112 : decode cX5_readItems 112 = .ok (.ireturn, 1) := dk_172 (dk_at dksX5_readItems_4 21 rfl rfl)
theorem dX5_readItems_113 : decode cX5_readItems 113 = .ok (.iinc 2 1, 3) := dk_132 2 1 (dk_at dksX5_readItems_5 0 rfl rfl)
theorem dX5_readItems_116 : decode cX5_readItems 116 = .ok (.aload_n 0, 1) := dk_42 (dk_at dksX5_readItems_5 3 rfl rfl)
theorem dX5_readItems_117 : decode cX5_readItems 117 = .ok (.invokevirtual 91, 3) := dk_182 0 91 (dk_at dksX5_readItems_5 4 rfl rfl)
theorem dX5_readItems_120 : decode cX5_readItems 120 = .ok (.goto (-94), 3) := dk_167 255 162 (dk_at dksX5_readItems_5 7 rfl rfl)
theorem dX5_readItems_123 : decode cX5_readItems 123 = .ok (.iload_n 2, 1) := dk_28 (dk_at dksX5_readItems_5 10 rfl rfl)
theorem dX5_readItems_124 : decode cX5_readItems 124 = .ok (.ireturn, 1) := dk_172 (dk_at dksX5_readItems_5 11 rfl rfl)
abbrev cX5_next : ByteArray := prog_20_method_17_code
def yX5_next : MethodName := ⟨RX5, "next", "()V"⟩
def dkwX5_next_6 : List UInt8 := [167, 255, 224, 177]
abbrev dktX5_next_6 : List UInt8 := dkwX5_next_6 ++ []
def dkwX5_next_5 : List UInt8 := [153, 0, 27, 42, 42, 180, 0, 75, 182, 0, 85, 153, 0, 16, 42, 89, 180, 0, 75, 4, 96, 181, 0, 75]
abbrev dktX5_next_5 : List UInt8 := dkwX5_next_5 ++ dktX5_next_6
def dkwX5_next_4 : List UInt8 := [153, 0, 16, 42, 89, 180, 0, 75, 4, 96, 181, 0, 75, 167, 255, 224, 42, 42, 180, 0, 78, 182, 0, 85]
abbrev dktX5_next_4 : List UInt8 := dkwX5_next_4 ++ dktX5_next_5
def dkwX5_next_3 : List UInt8 := [181, 0, 75, 42, 42, 180, 0, 78, 182, 0, 81, 153, 0, 27, 42, 42, 180, 0, 75, 182, 0, 81]
abbrev dktX5_next_3 : List UInt8 := dkwX5_next_3 ++ dktX5_next_4
def dkwX5_next_2 : List UInt8 := [180, 0, 78, 42, 180, 0, 71, 162, 0, 12, 42, 180, 0, 78, 4, 96, 167, 0, 7, 42, 180, 0, 78]
abbrev dktX5_next_2 : List UInt8 := dkwX5_next_2 ++ dktX5_next_3
def dkwX5_next_1 : List UInt8 := [180, 0, 78, 46, 16, 32, 160, 0, 16, 42, 89, 180, 0, 78, 4, 96, 181, 0, 78, 167, 255, 221, 42, 42]
abbrev dktX5_next_1 : List UInt8 := dkwX5_next_1 ++ dktX5_next_2
def dkwX5_next_0 : List UInt8 := [42, 42, 180, 0, 75, 181, 0, 78, 42, 180, 0, 78, 42, 180, 0, 71, 162, 0, 30, 42, 180, 0, 24, 42]
abbrev dktX5_next_0 : List UInt8 := dkwX5_next_0 ++ dktX5_next_1
theorem dksX5_next_0 : cX5_next.data.toList.drop 0 = dktX5_next_0 := by decide +kernel
theorem dksX5_next_1 : cX5_next.data.toList.drop 24 = dktX5_next_1 := dk_seg dksX5_next_0 24 rfl rfl
theorem dksX5_next_2 : cX5_next.data.toList.drop 48 = dktX5_next_2 := dk_seg dksX5_next_1 24 rfl rfl
theorem dksX5_next_3 : cX5_next.data.toList.drop 71 = dktX5_next_3 := dk_seg dksX5_next_2 23 rfl rfl
theorem dksX5_next_4 : cX5_next.data.toList.drop 93 = dktX5_next_4 := dk_seg dksX5_next_3 22 rfl rfl
theorem dksX5_next_5 : cX5_next.data.toList.drop 117 = dktX5_next_5 := dk_seg dksX5_next_4 24 rfl rfl
theorem dksX5_next_6 : cX5_next.data.toList.drop 141 = dktX5_next_6 := dk_seg dksX5_next_5 24 rfl rfl
theorem dX5_next_0 : decode cX5_next 0 = .ok (.aload_n 0, 1) := dk_42 (dk_at dksX5_next_0 0 rfl rfl)
theorem dX5_next_1 : decode cX5_next 1 = .ok (.aload_n 0, 1) := dk_42 (dk_at dksX5_next_0 1 rfl rfl)
theorem dX5_next_2 : decode cX5_next 2 = .ok (.getfield 75, 3) := dk_180 0 75 (dk_at dksX5_next_0 2 rfl rfl)
theorem dX5_next_5 : decode cX5_next 5 = .ok (.putfield 78, 3) := dk_181 0 78 (dk_at dksX5_next_0 5 rfl rfl)
theorem dX5_next_8 : decode cX5_next 8 = .ok (.aload_n 0, 1) := dk_42 (dk_at dksX5_next_0 8 rfl rfl)
theorem dX5_next_9 : decode cX5_next 9 = .ok (.getfield 78, 3) := dk_180 0 78 (dk_at dksX5_next_0 9 rfl rfl)
theorem dX5_next_12 : decode cX5_next 12 = .ok (.aload_n 0, 1) := dk_42 (dk_at dksX5_next_0 12 rfl rfl)
theorem dX5_next_13 : decode cX5_next 13 = .ok (.getfield 71, 3) := dk_180 0 71 (dk_at dksX5_next_0 13 rfl rfl)
theorem dX5_next_16 : decode cX5_next 16 = .ok (.if_icmp .ge 30, 3) := dk_162 0 30 (dk_at dksX5_next_0 16 rfl rfl)
theorem dX5_next_19 : decode cX5_next 19 = .ok (.aload_n 0, 1) := dk_42 (dk_at dksX5_next_0 19 rfl rfl)
theorem dX5_next_20 : decode cX5_next 20 = .ok (.getfield 24, 3) := dk_180 0 24 (dk_at dksX5_next_0 20 rfl rfl)
theorem dX5_next_23 : decode cX5_next 23 = .ok (.aload_n 0, 1) := dk_42 (dk_at dksX5_next_0 23 rfl rfl)
theorem dX5_next_24 : decode cX5_next 24 = .ok (.getfield 78, 3) := dk_180 0 78 (dk_at dksX5_next_1 0 rfl rfl)
theorem dX5_next_27 : decode cX5_next 27 = .ok (.iaload, 1) := dk_46 (dk_at dksX5_next_1 3 rfl rfl)
theorem dX5_next_28 : decode cX5_next 28 = .ok (.bipush 32, 2) := dk_16 32 (dk_at dksX5_next_1 4 rfl rfl)
theorem dX5_next_30 : decode cX5_next 30 = .ok (.if_icmp .ne 16, 3) := dk_160 0 16 (dk_at dksX5_next_1 6 rfl rfl)
theorem dX5_next_33 : decode cX5_next 33 = .ok (.aload_n 0, 1) := dk_42 (dk_at dksX5_next_1 9 rfl rfl)
theorem dX5_next_34 : decode cX5_next 34 = .ok (.dup, 1) := dk_89 (dk_at dksX5_next_1 10 rfl rfl)
theorem dX5_next_35 : decode cX5_next 35 = .ok (.getfield 78, 3) := dk_180 0 78 (dk_at dksX5_next_1 11 rfl rfl)
theorem dX5_next_38 : decode cX5_next 38 = .ok (.iconst 1, 1) := dk_4 (dk_at dksX5_next_1 14 rfl rfl)
theorem dX5_next_39 : decode cX5_next 39 = .ok (.iadd, 1) := dk_96 (dk_at dksX5_next_1 15 rfl rfl)
theorem dX5_next_40 : decode cX5_next 40 = .ok (.putfield 78, 3) := dk_181 0 78 (dk_at dksX5_next_1 16 rfl rfl)
theorem dX5_next_43 : decode cX5_next 43 = .ok (.goto (-35), 3) := dk_167 255 221 (dk_at dksX5_next_1 19 rfl rfl)
theorem dX5_next_46 : decode cX5_next 46 = .ok (.aload_n 0, 1) := dk_42 (dk_at dksX5_next_1 22 rfl rfl)
theorem dX5_next_47 : decode cX5_next 47 = .ok (.aload_n 0, 1) := dk_42 (dk_at dksX5_next_1 23 rfl rfl)
theorem dX5_next_48 : decode cX5_next 48 = .ok (.getfield 78, 3) := dk_180 0 78 (dk_at dksX5_next_2 0 rfl rfl)
theorem dX5_next_51 : decode cX5_next 51 = .ok (.aload_n 0, 1) := dk_42 (dk_at dksX5_next_2 3 rfl rfl)
theorem dX5_next_52 : decode cX5_next 52 = .ok (.getfield 71, 3) := dk_180 0 71 (dk_at dksX5_next_2 4 rfl rfl)
theorem dX5_next_55 : decode cX5_next 55 = .ok (.if_icmp .ge 12, 3) := dk_162 0 12 (dk_at dksX5_next_2 7 rfl rfl)
theorem dX5_next_58 : decode cX5_next 58 = .ok (.aload_n 0, 1) := dk_42 (dk_at dksX5_next_2 10 rfl rfl)
theorem dX5_next_59 : decode cX5_next 59 = .ok (.getfield 78, 3) := dk_180 0 78 (dk_at dksX5_next_2 11 rfl rfl)
theorem dX5_next_62 : decode cX5_next 62 = .ok (.iconst 1, 1) := dk_4 (dk_at dksX5_next_2 14 rfl rfl)
theorem dX5_next_63 : decode cX5_next 63 = .ok (.iadd, 1) := dk_96 (dk_at dksX5_next_2 15 rfl rfl)
theorem dX5_next_64 : decode cX5_next 64 = .ok (.goto 7, 3) := dk_167 0 7 (dk_at dksX5_next_2 16 rfl rfl)
theorem dX5_next_67 : decode cX5_next 67 = .ok (.aload_n 0, 1) := dk_42 (dk_at dksX5_next_2 19 rfl rfl)
theorem dX5_next_68 : decode cX5_next 68 = .ok (.getfield 78, 3) := dk_180 0 78 (dk_at dksX5_next_2 20 rfl rfl)
theorem dX5_next_71 : decode cX5_next 71 = .ok (.putfield 75, 3) := dk_181 0 75 (dk_at dksX5_next_3 0 rfl rfl)
theorem dX5_next_74 : decode cX5_next 74 = .ok (.aload_n 0, 1) := dk_42 (dk_at dksX5_next_3 3 rfl rfl)
theorem dX5_next_75 : decode cX5_next 75 = .ok (.aload_n 0, 1) := dk_42 (dk_at dksX5_next_3 4 rfl rfl)
theorem dX5_next_76 : decode cX5_next 76 = .ok (.getfield 78, 3) := dk_180 0 78 (dk_at dksX5_next_3 5 rfl rfl)
theorem dX5_next_79 : decode cX5_next 79 = .ok (.invokevirtual 81, 3) := dk_182 0 81 (dk_at dksX5_next_3 8 rfl rfl)
theorem dX5_next_82 : decode cX5_next 82 = .ok (.ifCond .eq 27, 3) := dk_153 0 27 (dk_at dksX5_next_3 11 rfl rfl)
theorem dX5_next_85 : decode cX5_next 85 = .ok (.aload_n 0, 1) := dk_42 (dk_at dksX5_next_3 14 rfl rfl)
theorem dX5_next_86 : decode cX5_next 86 = .ok (.aload_n 0, 1) := dk_42 (dk_at dksX5_next_3 15 rfl rfl)
theorem dX5_next_87 : decode cX5_next 87 = .ok (.getfield 75, 3) := dk_180 0 75 (dk_at dksX5_next_3 16 rfl rfl)
theorem dX5_next_90 : decode cX5_next 90 = .ok (.invokevirtual 81, 3) := dk_182 0 81 (dk_at dksX5_next_3 19 rfl rfl)
theorem dX5_next_93 : decode cX5_next 93 = .ok (.ifCond .eq 16, 3) := dk_153 0 16 (dk_at dksX5_next_4 0 rfl rfl)
theorem dX5_next_96 : decode cX5_next 96 = .ok (.aload_n 0, 1) := dk_42 (dk_at dksX5_next_4 3 rfl rfl)
theorem dX5_next_97 : decode cX5_next 97 = .ok (.dup, 1) := dk_89 (dk_at dksX5_next_4 4 rfl rfl)
theorem dX5_next_98 : decode cX5_next 98 = .ok (.getfield 75, 3) := dk_180 0 75 (dk_at dksX5_next_4 5 rfl rfl)
theorem dX5_next_101 : decode cX5_next 101 = .ok (.iconst 1, 1) := dk_4 (dk_at dksX5_next_4 8 rfl rfl)
theorem dX5_next_102 : decode cX5_next 102 = .ok (.iadd, 1) := dk_96 (dk_at dksX5_next_4 9 rfl rfl)
theorem dX5_next_103 : decode cX5_next 103 = .ok (.putfield 75, 3) := dk_181 0 75 (dk_at dksX5_next_4 10 rfl rfl)
theorem dX5_next_106 : decode cX5_next 106 = .ok (.goto (-32), 3) := dk_167 255 224 (dk_at dksX5_next_4 13 rfl rfl)
theorem dX5_next_109 : decode cX5_next 109 = .ok (.aload_n 0, 1) := dk_42 (dk_at dksX5_next_4 16 rfl rfl)
theorem dX5_next_110 : decode cX5_next 110 = .ok (.aload_n 0, 1) := dk_42 (dk_at dksX5_next_4 17 rfl rfl)
theorem dX5_next_111 : decode cX5_next 111 = .ok (.getfield 78, 3) := dk_180 0 78 (dk_at dksX5_next_4 18 rfl rfl)
theorem dX5_next_114 : decode cX5_next 114 = .ok (.invokevirtual 85, 3) := dk_182 0 85 (dk_at dksX5_next_4 21 rfl rfl)
theorem dX5_next_117 : decode cX5_next 117 = .ok (.ifCond .eq 27, 3) := dk_153 0 27 (dk_at dksX5_next_5 0 rfl rfl)
theorem dX5_next_120 : decode cX5_next 120 = .ok (.aload_n 0, 1) := dk_42 (dk_at dksX5_next_5 3 rfl rfl)
theorem dX5_next_121 : decode cX5_next 121 = .ok (.aload_n 0, 1) := dk_42 (dk_at dksX5_next_5 4 rfl rfl)
theorem dX5_next_122 : decode cX5_next 122 = .ok (.getfield 75, 3) := dk_180 0 75 (dk_at dksX5_next_5 5 rfl rfl)
theorem dX5_next_125 : decode cX5_next 125 = .ok (.invokevirtual 85, 3) := dk_182 0 85 (dk_at dksX5_next_5 8 rfl rfl)
theorem dX5_next_128 : decode cX5_next 128 = .ok (.ifCond .eq 16, 3) := dk_153 0 16 (dk_at dksX5_next_5 11 rfl rfl)
theorem dX5_next_131 : decode cX5_next 131 = .ok (.aload_n 0, 1) := dk_42 (dk_at dksX5_next_5 14 rfl rfl)
theorem dX5_next_132 : decode cX5_next 132 = .ok (.dup, 1) := dk_89 (dk_at dksX5_next_5 15 rfl rfl)
theorem dX5_next_133 : decode cX5_next 133 = .ok (.getfield 75, 3) := dk_180 0 75 (dk_at dksX5_next_5 16 rfl rfl)
theorem dX5_next_136 : decode cX5_next 136 = .ok (.iconst 1, 1) := dk_4 (dk_at dksX5_next_5 19 rfl rfl)
theorem dX5_next_137 : decode cX5_next 137 = .ok (.iadd, 1) := dk_96 (dk_at dksX5_next_5 20 rfl rfl)
theorem dX5_next_138 : decode cX5_next 138 = .ok (.putfield 75, 3) := dk_181 0 75 (dk_at dksX5_next_5 21 rfl rfl)
theorem dX5_next_141 : decode cX5_next 141 = .ok (.goto (-32), 3) := dk_167 255 224 (dk_at dksX5_next_6 0 rfl rfl)
theorem dX5_next_144 : decode cX5_next 144 = .ok (.return_, 1) := dk_177 (dk_at dksX5_next_6 3 rfl rfl)
abbrev cX5_isLetter : ByteArray := prog_20_method_15_code
def yX5_isLetter : MethodName := ⟨RX5, "isLetter", "(I)Z"⟩
def dkwX5_isLetter_1 : List UInt8 := [4, 167, 0, 4, 3, 172]
abbrev dktX5_isLetter_1 : List UInt8 := dkwX5_isLetter_1 ++ []
def dkwX5_isLetter_0 : List UInt8 := [27, 42, 180, 0, 71, 162, 0, 23, 42, 180, 0, 24, 27, 46, 16, 97, 16, 122, 184, 0, 51, 153, 0, 7]
abbrev dktX5_isLetter_0 : List UInt8 := dkwX5_isLetter_0 ++ dktX5_isLetter_1
theorem dksX5_isLetter_0 : cX5_isLetter.data.toList.drop 0 = dktX5_isLetter_0 := by decide +kernel
theorem dksX5_isLetter_1 : cX5_isLetter.data.toList.drop 24 = dktX5_isLetter_1 := dk_seg dksX5_isLetter_0 24 rfl rfl
theorem dX5_isLetter_0 : decode cX5_isLetter 0 = .ok (.iload_n 1, 1) := dk_27 (dk_at dksX5_isLetter_0 0 rfl rfl)
theorem dX5_isLetter_1 : decode cX5_isLetter 1 = .ok (.aload_n 0, 1) := dk_42 (dk_at dksX5_isLetter_0 1 rfl rfl)
theorem dX5_isLetter_2 : decode cX5_isLetter 2 = .ok (.getfield 71, 3) := dk_180 0 71 (dk_at dksX5_isLetter_0 2 rfl rfl)
theorem dX5_isLetter_5 : decode cX5_isLetter 5 = .ok (.if_icmp .ge 23, 3) := dk_162 0 23 (dk_at dksX5_isLetter_0 5 rfl rfl)
theorem dX5_isLetter_8 : decode cX5_isLetter 8 = .ok (.aload_n 0, 1) := dk_42 (dk_at dksX5_isLetter_0 8 rfl rfl)
theorem dX5_isLetter_9 : decode cX5_isLetter 9 = .ok (.getfield 24, 3) := dk_180 0 24 (dk_at dksX5_isLetter_0 9 rfl rfl)
theorem dX5_isLetter_12 : decode cX5_isLetter 12 = .ok (.iload_n 1, 1) := dk_27 (dk_at dksX5_isLetter_0 12 rfl rfl)
theorem dX5_isLetter_13 : decode cX5_isLetter 13 = .ok (.iaload, 1) := dk_46 (dk_at dksX5_isLetter_0 13 rfl rfl)
theorem dX5_isLetter_14 : decode cX5_isLetter 14 = .ok (.bipush 97, 2) := dk_16 97 (dk_at dksX5_isLetter_0 14 rfl rfl)
theorem dX5_isLetter_16 : decode cX5_isLetter 16 = .ok (.bipush 122, 2) := dk_16 122 (dk_at dksX5_isLetter_0 16 rfl rfl)
theorem dX5_isLetter_18 : decode cX5_isLetter 18 = .ok (.invokestatic 51, 3) := dk_184 0 51 (dk_at dksX5_isLetter_0 18 rfl rfl)
theorem dX5_isLetter_21 : decode cX5_isLetter 21 = .ok (.ifCond .eq 7, 3) := dk_153 0 7 (dk_at dksX5_isLetter_0 21 rfl rfl)
theorem dX5_isLetter_24 : decode cX5_isLetter 24 = .ok (.iconst 1, 1) := dk_4 (dk_at dksX5_isLetter_1 0 rfl rfl)
theorem dX5_isLetter_25 : decode cX5_isLetter 25 = .ok (.goto 4, 3) := dk_167 0 4 (dk_at dksX5_isLetter_1 1 rfl rfl)
theorem dX5_isLetter_28 : decode cX5_isLetter 28 = .ok (.iconst 0, 1) := dk_3 (dk_at dksX5_isLetter_1 4 rfl rfl)
theorem dX5_isLetter_29 : decode cX5_isLetter 29 = .ok (.ireturn, 1) := dk_172 (dk_at dksX5_isLetter_1 5 rfl rfl)
abbrev cX5_isFigure : ByteArray := prog_20_method_16_code
def yX5_isFigure : MethodName := ⟨RX5, "isFigure", "(I)Z"⟩
def dkwX5_isFigure_1 : List UInt8 := [4, 167, 0, 4, 3, 172]
abbrev dktX5_isFigure_1 : List UInt8 := dkwX5_isFigure_1 ++ []
def dkwX5_isFigure_0 : List UInt8 := [27, 42, 180, 0, 71, 162, 0, 23, 42, 180, 0, 24, 27, 46, 16, 48, 16, 57, 184, 0, 51, 153, 0, 7]
abbrev dktX5_isFigure_0 : List UInt8 := dkwX5_isFigure_0 ++ dktX5_isFigure_1
theorem dksX5_isFigure_0 : cX5_isFigure.data.toList.drop 0 = dktX5_isFigure_0 := by decide +kernel
theorem dksX5_isFigure_1 : cX5_isFigure.data.toList.drop 24 = dktX5_isFigure_1 := dk_seg dksX5_isFigure_0 24 rfl rfl
theorem dX5_isFigure_0 : decode cX5_isFigure 0 = .ok (.iload_n 1, 1) := dk_27 (dk_at dksX5_isFigure_0 0 rfl rfl)
theorem dX5_isFigure_1 : decode cX5_isFigure 1 = .ok (.aload_n 0, 1) := dk_42 (dk_at dksX5_isFigure_0 1 rfl rfl)
theorem dX5_isFigure_2 : decode cX5_isFigure 2 = .ok (.getfield 71, 3) := dk_180 0 71 (dk_at dksX5_isFigure_0 2 rfl rfl)
theorem dX5_isFigure_5 : decode cX5_isFigure 5 = .ok (.if_icmp .ge 23, 3) := dk_162 0 23 (dk_at dksX5_isFigure_0 5 rfl rfl)
theorem dX5_isFigure_8 : decode cX5_isFigure 8 = .ok (.aload_n 0, 1) := dk_42 (dk_at dksX5_isFigure_0 8 rfl rfl)
theorem dX5_isFigure_9 : decode cX5_isFigure 9 = .ok (.getfield 24, 3) := dk_180 0 24 (dk_at dksX5_isFigure_0 9 rfl rfl)
theorem dX5_isFigure_12 : decode cX5_isFigure 12 = .ok (.iload_n 1, 1) := dk_27 (dk_at dksX5_isFigure_0 12 rfl rfl)
theorem dX5_isFigure_13 : decode cX5_isFigure 13 = .ok (.iaload, 1) := dk_46 (dk_at dksX5_isFigure_0 13 rfl rfl)
theorem dX5_isFigure_14 : decode cX5_isFigure 14 = .ok (.bipush 48, 2) := dk_16 48 (dk_at dksX5_isFigure_0 14 rfl rfl)
theorem dX5_isFigure_16 : decode cX5_isFigure 16 = .ok (.bipush 57, 2) := dk_16 57 (dk_at dksX5_isFigure_0 16 rfl rfl)
theorem dX5_isFigure_18 : decode cX5_isFigure 18 = .ok (.invokestatic 51, 3) := dk_184 0 51 (dk_at dksX5_isFigure_0 18 rfl rfl)
theorem dX5_isFigure_21 : decode cX5_isFigure 21 = .ok (.ifCond .eq 7, 3) := dk_153 0 7 (dk_at dksX5_isFigure_0 21 rfl rfl)
theorem dX5_isFigure_24 : decode cX5_isFigure 24 = .ok (.iconst 1, 1) := dk_4 (dk_at dksX5_isFigure_1 0 rfl rfl)
theorem dX5_isFigure_25 : decode cX5_isFigure 25 = .ok (.goto 4, 3) := dk_167 0 4 (dk_at dksX5_isFigure_1 1 rfl rfl)
theorem dX5_isFigure_28 : decode cX5_isFigure 28 = .ok (.iconst 0, 1) := dk_3 (dk_at dksX5_isFigure_1 4 rfl rfl)
theorem dX5_isFigure_29 : decode cX5_isFigure 29 = .ok (.ireturn, 1) := dk_172 (dk_at dksX5_isFigure_1 5 rfl rfl)
abbrev cX5_wordHere : ByteArray := prog_20_method_19_code
def yX5_wordHere : MethodName := ⟨RX5, "wordHere", "()I"⟩
def dkwX5_wordHere_1 : List UInt8 := [153, 0, 5, 27, 172, 132, 1, 1, 167, 255, 227, 2, 172]
abbrev dktX5_wordHere_1 : List UInt8 := dkwX5_wordHere_1 ++ []
def dkwX5_wordHere_0 : List UInt8 := [3, 60, 27, 8, 162, 0, 30, 42, 42, 180, 0, 78, 182, 0, 81, 153, 0, 13, 42, 27, 182, 0, 88]
abbrev dktX5_wordHere_0 : List UInt8 := dkwX5_wordHere_0 ++ dktX5_wordHere_1
theorem dksX5_wordHere_0 : cX5_wordHere.data.toList.drop 0 = dktX5_wordHere_0 := by decide +kernel
theorem dksX5_wordHere_1 : cX5_wordHere.data.toList.drop 23 = dktX5_wordHere_1 := dk_seg dksX5_wordHere_0 23 rfl rfl
theorem dX5_wordHere_0 : decode cX5_wordHere 0 = .ok (.iconst 0, 1) := dk_3 (dk_at dksX5_wordHere_0 0 rfl rfl)
theorem dX5_wordHere_1 : decode cX5_wordHere 1 = .ok (.istore_n 1, 1) := dk_60 (dk_at dksX5_wordHere_0 1 rfl rfl)
theorem dX5_wordHere_2 : decode cX5_wordHere 2 = .ok (.iload_n 1, 1) := dk_27 (dk_at dksX5_wordHere_0 2 rfl rfl)
theorem dX5_wordHere_3 : decode cX5_wordHere 3 = .ok (.iconst 5, 1) := dk_8 (dk_at dksX5_wordHere_0 3 rfl rfl)
theorem dX5_wordHere_4 : decode cX5_wordHere 4 = .ok (.if_icmp .ge 30, 3) := dk_162 0 30 (dk_at dksX5_wordHere_0 4 rfl rfl)
theorem dX5_wordHere_7 : decode cX5_wordHere 7 = .ok (.aload_n 0, 1) := dk_42 (dk_at dksX5_wordHere_0 7 rfl rfl)
theorem dX5_wordHere_8 : decode cX5_wordHere 8 = .ok (.aload_n 0, 1) := dk_42 (dk_at dksX5_wordHere_0 8 rfl rfl)
theorem dX5_wordHere_9 : decode cX5_wordHere 9 = .ok (.getfield 78, 3) := dk_180 0 78 (dk_at dksX5_wordHere_0 9 rfl rfl)
theorem dX5_wordHere_12 : decode cX5_wordHere 12 = .ok (.invokevirtual 81, 3) := dk_182 0 81 (dk_at dksX5_wordHere_0 12 rfl rfl)
theorem dX5_wordHere_15 : decode cX5_wordHere 15 = .ok (.ifCond .eq 13, 3) := dk_153 0 13 (dk_at dksX5_wordHere_0 15 rfl rfl)
theorem dX5_wordHere_18 : decode cX5_wordHere 18 = .ok (.aload_n 0, 1) := dk_42 (dk_at dksX5_wordHere_0 18 rfl rfl)
theorem dX5_wordHere_19 : decode cX5_wordHere 19 = .ok (.iload_n 1, 1) := dk_27 (dk_at dksX5_wordHere_0 19 rfl rfl)
theorem dX5_wordHere_20 : decode cX5_wordHere 20 = .ok (.invokevirtual 88, 3) := dk_182 0 88 (dk_at dksX5_wordHere_0 20 rfl rfl)
theorem dX5_wordHere_23 : decode cX5_wordHere 23 = .ok (.ifCond .eq 5, 3) := dk_153 0 5 (dk_at dksX5_wordHere_1 0 rfl rfl)
theorem dX5_wordHere_26 : decode cX5_wordHere 26 = .ok (.iload_n 1, 1) := dk_27 (dk_at dksX5_wordHere_1 3 rfl rfl)
theorem dX5_wordHere_27 : decode cX5_wordHere 27 = .ok (.ireturn, 1) := dk_172 (dk_at dksX5_wordHere_1 4 rfl rfl)
theorem dX5_wordHere_28 : decode cX5_wordHere 28 = .ok (.iinc 1 1, 3) := dk_132 1 1 (dk_at dksX5_wordHere_1 5 rfl rfl)
theorem dX5_wordHere_31 : decode cX5_wordHere 31 = .ok (.goto (-29), 3) := dk_167 255 227 (dk_at dksX5_wordHere_1 8 rfl rfl)
theorem dX5_wordHere_34 : decode cX5_wordHere 34 = .ok (.iconst (-1), 1) := dk_2 (dk_at dksX5_wordHere_1 11 rfl rfl)
theorem dX5_wordHere_35 : decode cX5_wordHere 35 = .ok (.ireturn, 1) := dk_172 (dk_at dksX5_wordHere_1 12 rfl rfl)
abbrev cX5_isWord : ByteArray := prog_20_method_18_code
def yX5_isWord : MethodName := ⟨RX5, "isWord", "(I)Z"⟩
def dkwX5_isWord_3 : List UInt8 := [27, 104, 29, 96, 46, 160, 0, 7, 4, 167, 0, 4, 3, 61, 132, 3, 1, 167, 255, 191, 28, 172]
abbrev dktX5_isWord_3 : List UInt8 := dkwX5_isWord_3 ++ []
def dkwX5_isWord_2 : List UInt8 := [180, 0, 24, 42, 180, 0, 78, 29, 96, 46, 167, 0, 4, 3, 54, 4, 21, 4, 42, 180, 0, 27, 16, 6]
abbrev dktX5_isWord_2 : List UInt8 := dkwX5_isWord_2 ++ dktX5_isWord_3
def dkwX5_isWord_1 : List UInt8 := [16, 6, 162, 0, 65, 28, 153, 0, 61, 42, 180, 0, 78, 29, 96, 42, 180, 0, 75, 162, 0, 17, 42]
abbrev dktX5_isWord_1 : List UInt8 := dkwX5_isWord_1 ++ dktX5_isWord_2
def dkwX5_isWord_0 : List UInt8 := [42, 180, 0, 75, 42, 180, 0, 78, 100, 16, 6, 163, 0, 7, 4, 167, 0, 4, 3, 61, 3, 62, 29]
abbrev dktX5_isWord_0 : List UInt8 := dkwX5_isWord_0 ++ dktX5_isWord_1
theorem dksX5_isWord_0 : cX5_isWord.data.toList.drop 0 = dktX5_isWord_0 := by decide +kernel
theorem dksX5_isWord_1 : cX5_isWord.data.toList.drop 23 = dktX5_isWord_1 := dk_seg dksX5_isWord_0 23 rfl rfl
theorem dksX5_isWord_2 : cX5_isWord.data.toList.drop 46 = dktX5_isWord_2 := dk_seg dksX5_isWord_1 23 rfl rfl
theorem dksX5_isWord_3 : cX5_isWord.data.toList.drop 70 = dktX5_isWord_3 := dk_seg dksX5_isWord_2 24 rfl rfl
theorem dX5_isWord_0 : decode cX5_isWord 0 = .ok (.aload_n 0, 1) := dk_42 (dk_at dksX5_isWord_0 0 rfl rfl)
theorem dX5_isWord_1 : decode cX5_isWord 1 = .ok (.getfield 75, 3) := dk_180 0 75 (dk_at dksX5_isWord_0 1 rfl rfl)
theorem dX5_isWord_4 : decode cX5_isWord 4 = .ok (.aload_n 0, 1) := dk_42 (dk_at dksX5_isWord_0 4 rfl rfl)
theorem dX5_isWord_5 : decode cX5_isWord 5 = .ok (.getfield 78, 3) := dk_180 0 78 (dk_at dksX5_isWord_0 5 rfl rfl)
theorem dX5_isWord_8 : decode cX5_isWord 8 = .ok (.isub, 1) := dk_100 (dk_at dksX5_isWord_0 8 rfl rfl)
theorem dX5_isWord_9 : decode cX5_isWord 9 = .ok (.bipush 6, 2) := dk_16 6 (dk_at dksX5_isWord_0 9 rfl rfl)
theorem dX5_isWord_11 : decode cX5_isWord 11 = .ok (.if_icmp .gt 7, 3) := dk_163 0 7 (dk_at dksX5_isWord_0 11 rfl rfl)
theorem dX5_isWord_14 : decode cX5_isWord 14 = .ok (.iconst 1, 1) := dk_4 (dk_at dksX5_isWord_0 14 rfl rfl)
theorem dX5_isWord_15 : decode cX5_isWord 15 = .ok (.goto 4, 3) := dk_167 0 4 (dk_at dksX5_isWord_0 15 rfl rfl)
theorem dX5_isWord_18 : decode cX5_isWord 18 = .ok (.iconst 0, 1) := dk_3 (dk_at dksX5_isWord_0 18 rfl rfl)
theorem dX5_isWord_19 : decode cX5_isWord 19 = .ok (.istore_n 2, 1) := dk_61 (dk_at dksX5_isWord_0 19 rfl rfl)
theorem dX5_isWord_20 : decode cX5_isWord 20 = .ok (.iconst 0, 1) := dk_3 (dk_at dksX5_isWord_0 20 rfl rfl)
theorem dX5_isWord_21 : decode cX5_isWord 21 = .ok (.istore_n 3, 1) := dk_62 (dk_at dksX5_isWord_0 21 rfl rfl)
theorem dX5_isWord_22 : decode cX5_isWord 22 = .ok (.iload_n 3, 1) := dk_29 (dk_at dksX5_isWord_0 22 rfl rfl)
theorem dX5_isWord_23 : decode cX5_isWord 23 = .ok (.bipush 6, 2) := dk_16 6 (dk_at dksX5_isWord_1 0 rfl rfl)
theorem dX5_isWord_25 : decode cX5_isWord 25 = .ok (.if_icmp .ge 65, 3) := dk_162 0 65 (dk_at dksX5_isWord_1 2 rfl rfl)
theorem dX5_isWord_28 : decode cX5_isWord 28 = .ok (.iload_n 2, 1) := dk_28 (dk_at dksX5_isWord_1 5 rfl rfl)
theorem dX5_isWord_29 : decode cX5_isWord 29 = .ok (.ifCond .eq 61, 3) := dk_153 0 61 (dk_at dksX5_isWord_1 6 rfl rfl)
theorem dX5_isWord_32 : decode cX5_isWord 32 = .ok (.aload_n 0, 1) := dk_42 (dk_at dksX5_isWord_1 9 rfl rfl)
theorem dX5_isWord_33 : decode cX5_isWord 33 = .ok (.getfield 78, 3) := dk_180 0 78 (dk_at dksX5_isWord_1 10 rfl rfl)
theorem dX5_isWord_36 : decode cX5_isWord 36 = .ok (.iload_n 3, 1) := dk_29 (dk_at dksX5_isWord_1 13 rfl rfl)
theorem dX5_isWord_37 : decode cX5_isWord 37 = .ok (.iadd, 1) := dk_96 (dk_at dksX5_isWord_1 14 rfl rfl)
theorem dX5_isWord_38 : decode cX5_isWord 38 = .ok (.aload_n 0, 1) := dk_42 (dk_at dksX5_isWord_1 15 rfl rfl)
theorem dX5_isWord_39 : decode cX5_isWord 39 = .ok (.getfield 75, 3) := dk_180 0 75 (dk_at dksX5_isWord_1 16 rfl rfl)
theorem dX5_isWord_42 : decode cX5_isWord 42 = .ok (.if_icmp .ge 17, 3) := dk_162 0 17 (dk_at dksX5_isWord_1 19 rfl rfl)
theorem dX5_isWord_45 : decode cX5_isWord 45 = .ok (.aload_n 0, 1) := dk_42 (dk_at dksX5_isWord_1 22 rfl rfl)
theorem dX5_isWord_46 : decode cX5_isWord 46 = .ok (.getfield 24, 3) := dk_180 0 24 (dk_at dksX5_isWord_2 0 rfl rfl)
theorem dX5_isWord_49 : decode cX5_isWord 49 = .ok (.aload_n 0, 1) := dk_42 (dk_at dksX5_isWord_2 3 rfl rfl)
theorem dX5_isWord_50 : decode cX5_isWord 50 = .ok (.getfield 78, 3) := dk_180 0 78 (dk_at dksX5_isWord_2 4 rfl rfl)
theorem dX5_isWord_53 : decode cX5_isWord 53 = .ok (.iload_n 3, 1) := dk_29 (dk_at dksX5_isWord_2 7 rfl rfl)
theorem dX5_isWord_54 : decode cX5_isWord 54 = .ok (.iadd, 1) := dk_96 (dk_at dksX5_isWord_2 8 rfl rfl)
theorem dX5_isWord_55 : decode cX5_isWord 55 = .ok (.iaload, 1) := dk_46 (dk_at dksX5_isWord_2 9 rfl rfl)
theorem dX5_isWord_56 : decode cX5_isWord 56 = .ok (.goto 4, 3) := dk_167 0 4 (dk_at dksX5_isWord_2 10 rfl rfl)
theorem dX5_isWord_59 : decode cX5_isWord 59 = .ok (.iconst 0, 1) := dk_3 (dk_at dksX5_isWord_2 13 rfl rfl)
theorem dX5_isWord_60 : decode cX5_isWord 60 = .ok (.istore 4, 2) := dk_54 4 (dk_at dksX5_isWord_2 14 rfl rfl)
theorem dX5_isWord_62 : decode cX5_isWord 62 = .ok (.iload 4, 2) := dk_21 4 (dk_at dksX5_isWord_2 16 rfl rfl)
theorem dX5_isWord_64 : decode cX5_isWord 64 = .ok (.aload_n 0, 1) := dk_42 (dk_at dksX5_isWord_2 18 rfl rfl)
theorem dX5_isWord_65 : decode cX5_isWord 65 = .ok (.getfield 27, 3) := dk_180 0 27 (dk_at dksX5_isWord_2 19 rfl rfl)
theorem dX5_isWord_68 : decode cX5_isWord 68 = .ok (.bipush 6, 2) := dk_16 6 (dk_at dksX5_isWord_2 22 rfl rfl)
theorem dX5_isWord_70 : decode cX5_isWord 70 = .ok (.iload_n 1, 1) := dk_27 (dk_at dksX5_isWord_3 0 rfl rfl)
theorem dX5_isWord_71 : decode cX5_isWord 71 = .ok (.imul, 1) := dk_104 (dk_at dksX5_isWord_3 1 rfl rfl)
theorem dX5_isWord_72 : decode cX5_isWord 72 = .ok (.iload_n 3, 1) := dk_29 (dk_at dksX5_isWord_3 2 rfl rfl)
theorem dX5_isWord_73 : decode cX5_isWord 73 = .ok (.iadd, 1) := dk_96 (dk_at dksX5_isWord_3 3 rfl rfl)
theorem dX5_isWord_74 : decode cX5_isWord 74 = .ok (.iaload, 1) := dk_46 (dk_at dksX5_isWord_3 4 rfl rfl)
theorem dX5_isWord_75 : decode cX5_isWord 75 = .ok (.if_icmp .ne 7, 3) := dk_160 0 7 (dk_at dksX5_isWord_3 5 rfl rfl)
theorem dX5_isWord_78 : decode cX5_isWord 78 = .ok (.iconst 1, 1) := dk_4 (dk_at dksX5_isWord_3 8 rfl rfl)
theorem dX5_isWord_79 : decode cX5_isWord 79 = .ok (.goto 4, 3) := dk_167 0 4 (dk_at dksX5_isWord_3 9 rfl rfl)
theorem dX5_isWord_82 : decode cX5_isWord 82 = .ok (.iconst 0, 1) := dk_3 (dk_at dksX5_isWord_3 12 rfl rfl)
theorem dX5_isWord_83 : decode cX5_isWord 83 = .ok (.istore_n 2, 1) := dk_61 (dk_at dksX5_isWord_3 13 rfl rfl)
theorem dX5_isWord_84 : decode cX5_isWord 84 = .ok (.iinc 3 1, 3) := dk_132 3 1 (dk_at dksX5_isWord_3 14 rfl rfl)
theorem dX5_isWord_87 : decode cX5_isWord 87 = .ok (.goto (-65), 3) := dk_167 255 191 (dk_at dksX5_isWord_3 17 rfl rfl)
theorem dX5_isWord_90 : decode cX5_isWord 90 = .ok (.iload_n 2, 1) := dk_28 (dk_at dksX5_isWord_3 20 rfl rfl)
theorem dX5_isWord_91 : decode cX5_isWord 91 = .ok (.ireturn, 1) := dk_172 (dk_at dksX5_isWord_3 21 rfl rfl)
abbrev cX5_readsItem : ByteArray := prog_20_method_24_code
def yX5_readsItem : MethodName := ⟨RX5, "readsItem", "(I)Z"⟩
def dkwX5_readsItem_7 : List UInt8 := [172]
abbrev dktX5_readsItem_7 : List UInt8 := dkwX5_readsItem_7 ++ []
def dkwX5_readsItem_6 : List UInt8 := [153, 0, 14, 29, 2, 159, 0, 9, 42, 3, 29, 182, 0, 118, 29, 2, 159, 0, 7, 4, 167, 0, 4, 3]
abbrev dktX5_readsItem_6 : List UInt8 := dkwX5_readsItem_6 ++ dktX5_readsItem_7
def dkwX5_readsItem_5 : List UInt8 := [2, 159, 0, 7, 4, 167, 0, 4, 3, 172, 42, 4, 16, 99, 182, 0, 94, 62, 42, 180, 0, 98]
abbrev dktX5_readsItem_5 : List UInt8 := dkwX5_readsItem_5 ++ dktX5_readsItem_6
def dkwX5_readsItem_4 : List UInt8 := [180, 0, 7, 16, 7, 46, 4, 28, 120, 2, 130, 126, 167, 0, 10, 42, 180, 0, 7, 16, 7, 46, 79, 28]
abbrev dktX5_readsItem_4 : List UInt8 := dkwX5_readsItem_4 ++ dktX5_readsItem_5
def dkwX5_readsItem_3 : List UInt8 := [182, 0, 94, 61, 42, 180, 0, 7, 16, 7, 42, 180, 0, 98, 153, 0, 24, 28, 2, 159, 0, 19, 42]
abbrev dktX5_readsItem_3 : List UInt8 := dkwX5_readsItem_3 ++ dktX5_readsItem_4
def dkwX5_readsItem_2 : List UInt8 := [42, 182, 0, 108, 172, 42, 182, 0, 112, 172, 42, 182, 0, 115, 172, 42, 3, 42, 180, 0, 105, 4, 100]
abbrev dktX5_readsItem_2 : List UInt8 := dkwX5_readsItem_2 ++ dktX5_readsItem_3
def dkwX5_readsItem_1 : List UInt8 := [170, 0, 0, 0, 0, 0, 111, 0, 0, 0, 0, 0, 0, 0, 3, 0, 0, 0, 31, 0, 0, 0, 36, 0, 0, 0, 41, 0, 0, 0, 46]
abbrev dktX5_readsItem_1 : List UInt8 := dkwX5_readsItem_1 ++ dktX5_readsItem_2
def dkwX5_readsItem_0 : List UInt8 := [27]
abbrev dktX5_readsItem_0 : List UInt8 := dkwX5_readsItem_0 ++ dktX5_readsItem_1
theorem dksX5_readsItem_0 : cX5_readsItem.data.toList.drop 0 = dktX5_readsItem_0 := by decide +kernel
theorem dksX5_readsItem_1 : cX5_readsItem.data.toList.drop 1 = dktX5_readsItem_1 := dk_seg dksX5_readsItem_0 1 rfl rfl
theorem dksX5_readsItem_2 : cX5_readsItem.data.toList.drop 32 = dktX5_readsItem_2 := dk_seg dksX5_readsItem_1 31 rfl rfl
theorem dksX5_readsItem_3 : cX5_readsItem.data.toList.drop 55 = dktX5_readsItem_3 := dk_seg dksX5_readsItem_2 23 rfl rfl
theorem dksX5_readsItem_4 : cX5_readsItem.data.toList.drop 78 = dktX5_readsItem_4 := dk_seg dksX5_readsItem_3 23 rfl rfl
theorem dksX5_readsItem_5 : cX5_readsItem.data.toList.drop 102 = dktX5_readsItem_5 := dk_seg dksX5_readsItem_4 24 rfl rfl
theorem dksX5_readsItem_6 : cX5_readsItem.data.toList.drop 124 = dktX5_readsItem_6 := dk_seg dksX5_readsItem_5 22 rfl rfl
theorem dksX5_readsItem_7 : cX5_readsItem.data.toList.drop 148 = dktX5_readsItem_7 := dk_seg dksX5_readsItem_6 24 rfl rfl
theorem dX5_readsItem_0 : decode cX5_readsItem 0 = .ok (.iload_n 1, 1) := dk_27 (dk_at dksX5_readsItem_0 0 rfl rfl)
theorem dX5_readsItem_1 : decode cX5_readsItem 1 = .ok (.tableswitch 111 0 3 #[31, 36, 41, 46], 31) := by decide +kernel
theorem dX5_readsItem_32 : decode cX5_readsItem 32 = .ok (.aload_n 0, 1) := dk_42 (dk_at dksX5_readsItem_2 0 rfl rfl)
theorem dX5_readsItem_33 : decode cX5_readsItem 33 = .ok (.invokevirtual 108, 3) := dk_182 0 108 (dk_at dksX5_readsItem_2 1 rfl rfl)
theorem dX5_readsItem_36 : decode cX5_readsItem 36 = .ok (.ireturn, 1) := dk_172 (dk_at dksX5_readsItem_2 4 rfl rfl)
theorem dX5_readsItem_37 : decode cX5_readsItem 37 = .ok (.aload_n 0, 1) := dk_42 (dk_at dksX5_readsItem_2 5 rfl rfl)
theorem dX5_readsItem_38 : decode cX5_readsItem 38 = .ok (.invokevirtual 112, 3) := dk_182 0 112 (dk_at dksX5_readsItem_2 6 rfl rfl)
theorem dX5_readsItem_41 : decode cX5_readsItem 41 = .ok (.ireturn, 1) := dk_172 (dk_at dksX5_readsItem_2 9 rfl rfl)
theorem dX5_readsItem_42 : decode cX5_readsItem 42 = .ok (.aload_n 0, 1) := dk_42 (dk_at dksX5_readsItem_2 10 rfl rfl)
theorem dX5_readsItem_43 : decode cX5_readsItem 43 = .ok (.invokevirtual 115, 3) := dk_182 0 115 (dk_at dksX5_readsItem_2 11 rfl rfl)
theorem dX5_readsItem_46 : decode cX5_readsItem 46 = .ok (.ireturn, 1) := dk_172 (dk_at dksX5_readsItem_2 14 rfl rfl)
theorem dX5_readsItem_47 : decode cX5_readsItem 47 = .ok (.aload_n 0, 1) := dk_42 (dk_at dksX5_readsItem_2 15 rfl rfl)
theorem dX5_readsItem_48 : decode cX5_readsItem 48 = .ok (.iconst 0, 1) := dk_3 (dk_at dksX5_readsItem_2 16 rfl rfl)
theorem dX5_readsItem_49 : decode cX5_readsItem 49 = .ok (.aload_n 0, 1) := dk_42 (dk_at dksX5_readsItem_2 17 rfl rfl)
theorem dX5_readsItem_50 : decode cX5_readsItem 50 = .ok (.getfield 105, 3) := dk_180 0 105 (dk_at dksX5_readsItem_2 18 rfl rfl)
theorem dX5_readsItem_53 : decode cX5_readsItem 53 = .ok (.iconst 1, 1) := dk_4 (dk_at dksX5_readsItem_2 21 rfl rfl)
theorem dX5_readsItem_54 : decode cX5_readsItem 54 = .ok (.isub, 1) := dk_100 (dk_at dksX5_readsItem_2 22 rfl rfl)
theorem dX5_readsItem_55 : decode cX5_readsItem 55 = .ok (.invokevirtual 94, 3) := dk_182 0 94 (dk_at dksX5_readsItem_3 0 rfl rfl)
theorem dX5_readsItem_58 : decode cX5_readsItem 58 = .ok (.istore_n 2, 1) := dk_61 (dk_at dksX5_readsItem_3 3 rfl rfl)
theorem dX5_readsItem_59 : decode cX5_readsItem 59 = .ok (.aload_n 0, 1) := dk_42 (dk_at dksX5_readsItem_3 4 rfl rfl)
theorem dX5_readsItem_60 : decode cX5_readsItem 60 = .ok (.getfield 7, 3) := dk_180 0 7 (dk_at dksX5_readsItem_3 5 rfl rfl)
theorem dX5_readsItem_63 : decode cX5_readsItem 63 = .ok (.bipush 7, 2) := dk_16 7 (dk_at dksX5_readsItem_3 8 rfl rfl)
theorem dX5_readsItem_65 : decode cX5_readsItem 65 = .ok (.aload_n 0, 1) := dk_42 (dk_at dksX5_readsItem_3 10 rfl rfl)
theorem dX5_readsItem_66 : decode cX5_readsItem 66 = .ok (.getfield 98, 3) := dk_180 0 98 (dk_at dksX5_readsItem_3 11 rfl rfl)
theorem dX5_readsItem_69 : decode cX5_readsItem 69 = .ok (.ifCond .eq 24, 3) := dk_153 0 24 (dk_at dksX5_readsItem_3 14 rfl rfl)
theorem dX5_readsItem_72 : decode cX5_readsItem 72 = .ok (.iload_n 2, 1) := dk_28 (dk_at dksX5_readsItem_3 17 rfl rfl)
theorem dX5_readsItem_73 : decode cX5_readsItem 73 = .ok (.iconst (-1), 1) := dk_2 (dk_at dksX5_readsItem_3 18 rfl rfl)
theorem dX5_readsItem_74 : decode cX5_readsItem 74 = .ok (.if_icmp .eq 19, 3) := dk_159 0 19 (dk_at dksX5_readsItem_3 19 rfl rfl)
theorem dX5_readsItem_77 : decode cX5_readsItem 77 = .ok (.aload_n 0, 1) := dk_42 (dk_at dksX5_readsItem_3 22 rfl rfl)
theorem dX5_readsItem_78 : decode cX5_readsItem 78 = .ok (.getfield 7, 3) := dk_180 0 7 (dk_at dksX5_readsItem_4 0 rfl rfl)
theorem dX5_readsItem_81 : decode cX5_readsItem 81 = .ok (.bipush 7, 2) := dk_16 7 (dk_at dksX5_readsItem_4 3 rfl rfl)
theorem dX5_readsItem_83 : decode cX5_readsItem 83 = .ok (.iaload, 1) := dk_46 (dk_at dksX5_readsItem_4 5 rfl rfl)
theorem dX5_readsItem_84 : decode cX5_readsItem 84 = .ok (.iconst 1, 1) := dk_4 (dk_at dksX5_readsItem_4 6 rfl rfl)
theorem dX5_readsItem_85 : decode cX5_readsItem 85 = .ok (.iload_n 2, 1) := dk_28 (dk_at dksX5_readsItem_4 7 rfl rfl)
theorem dX5_readsItem_86 : decode cX5_readsItem 86 = .ok (.ishl, 1) := dk_120 (dk_at dksX5_readsItem_4 8 rfl rfl)
theorem dX5_readsItem_87 : decode cX5_readsItem 87 = .ok (.iconst (-1), 1) := dk_2 (dk_at dksX5_readsItem_4 9 rfl rfl)
theorem dX5_readsItem_88 : decode cX5_readsItem 88 = .ok (.ixor, 1) := dk_130 (dk_at dksX5_readsItem_4 10 rfl rfl)
theorem dX5_readsItem_89 : decode cX5_readsItem 89 = .ok (.iand, 1) := dk_126 (dk_at dksX5_readsItem_4 11 rfl rfl)
theorem dX5_readsItem_90 : decode cX5_readsItem 90 = .ok (.goto 10, 3) := dk_167 0 10 (dk_at dksX5_readsItem_4 12 rfl rfl)
theorem dX5_readsItem_93 : decode cX5_readsItem 93 = .ok (.aload_n 0, 1) := dk_42 (dk_at dksX5_readsItem_4 15 rfl rfl)
theorem dX5_readsItem_94 : decode cX5_readsItem 94 = .ok (.getfield 7, 3) := dk_180 0 7 (dk_at dksX5_readsItem_4 16 rfl rfl)
theorem dX5_readsItem_97 : decode cX5_readsItem 97 = .ok (.bipush 7, 2) := dk_16 7 (dk_at dksX5_readsItem_4 19 rfl rfl)
theorem dX5_readsItem_99 : decode cX5_readsItem 99 = .ok (.iaload, 1) := dk_46 (dk_at dksX5_readsItem_4 21 rfl rfl)
theorem dX5_readsItem_100 : decode cX5_readsItem 100 = .ok (.iastore, 1) := dk_79 (dk_at dksX5_readsItem_4 22 rfl rfl)
theorem dX5_readsItem_101 : decode cX5_readsItem 101 = .ok (.iload_n 2, 1) := dk_28 (dk_at dksX5_readsItem_4 23 rfl rfl)
theorem dX5_readsItem_102 : decode cX5_readsItem 102 = .ok (.iconst (-1), 1) := dk_2 (dk_at dksX5_readsItem_5 0 rfl rfl)
theorem dX5_readsItem_103 : decode cX5_readsItem 103 = .ok (.if_icmp .eq 7, 3) := dk_159 0 7 (dk_at dksX5_readsItem_5 1 rfl rfl)
theorem dX5_readsItem_106 : decode cX5_readsItem 106 = .ok (.iconst 1, 1) := dk_4 (dk_at dksX5_readsItem_5 4 rfl rfl)
theorem dX5_readsItem_107 : decode cX5_readsItem 107 = .ok (.goto 4, 3) := dk_167 0 4 (dk_at dksX5_readsItem_5 5 rfl rfl)
theorem dX5_readsItem_110 : decode cX5_readsItem 110 = .ok (.iconst 0, 1) := dk_3 (dk_at dksX5_readsItem_5 8 rfl rfl)
theorem dX5_readsItem_111 : decode cX5_readsItem 111 = .ok (.ireturn, 1) := dk_172 (dk_at dksX5_readsItem_5 9 rfl rfl)
theorem dX5_readsItem_112 : decode cX5_readsItem 112 = .ok (.aload_n 0, 1) := dk_42 (dk_at dksX5_readsItem_5 10 rfl rfl)
theorem dX5_readsItem_113 : decode cX5_readsItem 113 = .ok (.iconst 1, 1) := dk_4 (dk_at dksX5_readsItem_5 11 rfl rfl)
theorem dX5_readsItem_114 : decode cX5_readsItem 114 = .ok (.bipush 99, 2) := dk_16 99 (dk_at dksX5_readsItem_5 12 rfl rfl)
theorem dX5_readsItem_116 : decode cX5_readsItem 116 = .ok (.invokevirtual 94, 3) := dk_182 0 94 (dk_at dksX5_readsItem_5 14 rfl rfl)
theorem dX5_readsItem_119 : decode cX5_readsItem 119 = .ok (.istore_n 3, 1) := dk_62 (dk_at dksX5_readsItem_5 17 rfl rfl)
theorem dX5_readsItem_120 : decode cX5_readsItem 120 = .ok (.aload_n 0, 1) := dk_42 (dk_at dksX5_readsItem_5 18 rfl rfl)
theorem dX5_readsItem_121 : decode cX5_readsItem 121 = .ok (.getfield 98, 3) := dk_180 0 98 (dk_at dksX5_readsItem_5 19 rfl rfl)
theorem dX5_readsItem_124 : decode cX5_readsItem 124 = .ok (.ifCond .eq 14, 3) := dk_153 0 14 (dk_at dksX5_readsItem_6 0 rfl rfl)
theorem dX5_readsItem_127 : decode cX5_readsItem 127 = .ok (.iload_n 3, 1) := dk_29 (dk_at dksX5_readsItem_6 3 rfl rfl)
theorem dX5_readsItem_128 : decode cX5_readsItem 128 = .ok (.iconst (-1), 1) := dk_2 (dk_at dksX5_readsItem_6 4 rfl rfl)
theorem dX5_readsItem_129 : decode cX5_readsItem 129 = .ok (.if_icmp .eq 9, 3) := dk_159 0 9 (dk_at dksX5_readsItem_6 5 rfl rfl)
theorem dX5_readsItem_132 : decode cX5_readsItem 132 = .ok (.aload_n 0, 1) := dk_42 (dk_at dksX5_readsItem_6 8 rfl rfl)
theorem dX5_readsItem_133 : decode cX5_readsItem 133 = .ok (.iconst 0, 1) := dk_3 (dk_at dksX5_readsItem_6 9 rfl rfl)
theorem dX5_readsItem_134 : decode cX5_readsItem 134 = .ok (.iload_n 3, 1) := dk_29 (dk_at dksX5_readsItem_6 10 rfl rfl)
theorem dX5_readsItem_135 : decode cX5_readsItem 135 = .ok (.invokevirtual 118, 3) := dk_182 0 118 (dk_at dksX5_readsItem_6 11 rfl rfl)
theorem dX5_readsItem_138 : decode cX5_readsItem 138 = .ok (.iload_n 3, 1) := dk_29 (dk_at dksX5_readsItem_6 14 rfl rfl)
theorem dX5_readsItem_139 : decode cX5_readsItem 139 = .ok (.iconst (-1), 1) := dk_2 (dk_at dksX5_readsItem_6 15 rfl rfl)
theorem dX5_readsItem_140 : decode cX5_readsItem 140 = .ok (.if_icmp .eq 7, 3) := dk_159 0 7 (dk_at dksX5_readsItem_6 16 rfl rfl)
theorem dX5_readsItem_143 : decode cX5_readsItem 143 = .ok (.iconst 1, 1) := dk_4 (dk_at dksX5_readsItem_6 19 rfl rfl)
theorem dX5_readsItem_144 : decode cX5_readsItem 144 = .ok (.goto 4, 3) := dk_167 0 4 (dk_at dksX5_readsItem_6 20 rfl rfl)
theorem dX5_readsItem_147 : decode cX5_readsItem 147 = .ok (.iconst 0, 1) := dk_3 (dk_at dksX5_readsItem_6 23 rfl rfl)
theorem dX5_readsItem_148 : decode cX5_readsItem 148 = .ok (.ireturn, 1) := dk_172 (dk_at dksX5_readsItem_7 0 rfl rfl)
abbrev cX5_readsLane : ByteArray := prog_20_method_21_code
def yX5_readsLane : MethodName := ⟨RX5, "readsLane", "()Z"⟩
def dkwX5_readsLane_1 : List UInt8 := [182, 0, 59, 27, 2, 159, 0, 7, 4, 167, 0, 4, 3, 172]
abbrev dktX5_readsLane_1 : List UInt8 := dkwX5_readsLane_1 ++ []
def dkwX5_readsLane_0 : List UInt8 := [42, 7, 16, 30, 182, 0, 94, 60, 27, 2, 159, 0, 15, 42, 180, 0, 98, 153, 0, 8, 42, 27]
abbrev dktX5_readsLane_0 : List UInt8 := dkwX5_readsLane_0 ++ dktX5_readsLane_1
theorem dksX5_readsLane_0 : cX5_readsLane.data.toList.drop 0 = dktX5_readsLane_0 := by decide +kernel
theorem dksX5_readsLane_1 : cX5_readsLane.data.toList.drop 22 = dktX5_readsLane_1 := dk_seg dksX5_readsLane_0 22 rfl rfl
theorem dX5_readsLane_0 : decode cX5_readsLane 0 = .ok (.aload_n 0, 1) := dk_42 (dk_at dksX5_readsLane_0 0 rfl rfl)
theorem dX5_readsLane_1 : decode cX5_readsLane 1 = .ok (.iconst 4, 1) := dk_7 (dk_at dksX5_readsLane_0 1 rfl rfl)
theorem dX5_readsLane_2 : decode cX5_readsLane 2 = .ok (.bipush 30, 2) := dk_16 30 (dk_at dksX5_readsLane_0 2 rfl rfl)
theorem dX5_readsLane_4 : decode cX5_readsLane 4 = .ok (.invokevirtual 94, 3) := dk_182 0 94 (dk_at dksX5_readsLane_0 4 rfl rfl)
theorem dX5_readsLane_7 : decode cX5_readsLane 7 = .ok (.istore_n 1, 1) := dk_60 (dk_at dksX5_readsLane_0 7 rfl rfl)
theorem dX5_readsLane_8 : decode cX5_readsLane 8 = .ok (.iload_n 1, 1) := dk_27 (dk_at dksX5_readsLane_0 8 rfl rfl)
theorem dX5_readsLane_9 : decode cX5_readsLane 9 = .ok (.iconst (-1), 1) := dk_2 (dk_at dksX5_readsLane_0 9 rfl rfl)
theorem dX5_readsLane_10 : decode cX5_readsLane 10 = .ok (.if_icmp .eq 15, 3) := dk_159 0 15 (dk_at dksX5_readsLane_0 10 rfl rfl)
theorem dX5_readsLane_13 : decode cX5_readsLane 13 = .ok (.aload_n 0, 1) := dk_42 (dk_at dksX5_readsLane_0 13 rfl rfl)
theorem dX5_readsLane_14 : decode cX5_readsLane 14 = .ok (.getfield 98, 3) := dk_180 0 98 (dk_at dksX5_readsLane_0 14 rfl rfl)
theorem dX5_readsLane_17 : decode cX5_readsLane 17 = .ok (.ifCond .eq 8, 3) := dk_153 0 8 (dk_at dksX5_readsLane_0 17 rfl rfl)
theorem dX5_readsLane_20 : decode cX5_readsLane 20 = .ok (.aload_n 0, 1) := dk_42 (dk_at dksX5_readsLane_0 20 rfl rfl)
theorem dX5_readsLane_21 : decode cX5_readsLane 21 = .ok (.iload_n 1, 1) := dk_27 (dk_at dksX5_readsLane_0 21 rfl rfl)
theorem dX5_readsLane_22 : decode cX5_readsLane 22 = .ok (.invokevirtual 59, 3) := dk_182 0 59 (dk_at dksX5_readsLane_1 0 rfl rfl)
theorem dX5_readsLane_25 : decode cX5_readsLane 25 = .ok (.iload_n 1, 1) := dk_27 (dk_at dksX5_readsLane_1 3 rfl rfl)
theorem dX5_readsLane_26 : decode cX5_readsLane 26 = .ok (.iconst (-1), 1) := dk_2 (dk_at dksX5_readsLane_1 4 rfl rfl)
theorem dX5_readsLane_27 : decode cX5_readsLane 27 = .ok (.if_icmp .eq 7, 3) := dk_159 0 7 (dk_at dksX5_readsLane_1 5 rfl rfl)
theorem dX5_readsLane_30 : decode cX5_readsLane 30 = .ok (.iconst 1, 1) := dk_4 (dk_at dksX5_readsLane_1 8 rfl rfl)
theorem dX5_readsLane_31 : decode cX5_readsLane 31 = .ok (.goto 4, 3) := dk_167 0 4 (dk_at dksX5_readsLane_1 9 rfl rfl)
theorem dX5_readsLane_34 : decode cX5_readsLane 34 = .ok (.iconst 0, 1) := dk_3 (dk_at dksX5_readsLane_1 12 rfl rfl)
theorem dX5_readsLane_35 : decode cX5_readsLane 35 = .ok (.ireturn, 1) := dk_172 (dk_at dksX5_readsLane_1 13 rfl rfl)
abbrev cX5_number : ByteArray := prog_20_method_20_code
def yX5_number : MethodName := ⟨RX5, "number", "(II)I"⟩
def dkwX5_number_3 : List UInt8 := [16, 48, 100, 167, 0, 4, 29, 62, 29, 27, 28, 184, 0, 51, 153, 0, 7, 29, 167, 0, 4, 2, 172]
abbrev dktX5_number_3 : List UInt8 := dkwX5_number_3 ++ []
def dkwX5_number_2 : List UInt8 := [180, 0, 78, 100, 5, 160, 0, 25, 16, 10, 29, 104, 42, 180, 0, 24, 42, 180, 0, 78, 4, 96, 46, 96]
abbrev dktX5_number_2 : List UInt8 := dkwX5_number_2 ++ dktX5_number_3
def dkwX5_number_1 : List UInt8 := [5, 164, 0, 5, 2, 172, 42, 180, 0, 24, 42, 180, 0, 78, 46, 16, 48, 100, 62, 42, 180, 0, 75, 42]
abbrev dktX5_number_1 : List UInt8 := dkwX5_number_1 ++ dktX5_number_2
def dkwX5_number_0 : List UInt8 := [42, 182, 0, 91, 42, 42, 180, 0, 78, 182, 0, 85, 153, 0, 16, 42, 180, 0, 75, 42, 180, 0, 78, 100]
abbrev dktX5_number_0 : List UInt8 := dkwX5_number_0 ++ dktX5_number_1
theorem dksX5_number_0 : cX5_number.data.toList.drop 0 = dktX5_number_0 := by decide +kernel
theorem dksX5_number_1 : cX5_number.data.toList.drop 24 = dktX5_number_1 := dk_seg dksX5_number_0 24 rfl rfl
theorem dksX5_number_2 : cX5_number.data.toList.drop 48 = dktX5_number_2 := dk_seg dksX5_number_1 24 rfl rfl
theorem dksX5_number_3 : cX5_number.data.toList.drop 72 = dktX5_number_3 := dk_seg dksX5_number_2 24 rfl rfl
theorem dX5_number_0 : decode cX5_number 0 = .ok (.aload_n 0, 1) := dk_42 (dk_at dksX5_number_0 0 rfl rfl)
theorem dX5_number_1 : decode cX5_number 1 = .ok (.invokevirtual 91, 3) := dk_182 0 91 (dk_at dksX5_number_0 1 rfl rfl)
theorem dX5_number_4 : decode cX5_number 4 = .ok (.aload_n 0, 1) := dk_42 (dk_at dksX5_number_0 4 rfl rfl)
theorem dX5_number_5 : decode cX5_number 5 = .ok (.aload_n 0, 1) := dk_42 (dk_at dksX5_number_0 5 rfl rfl)
theorem dX5_number_6 : decode cX5_number 6 = .ok (.getfield 78, 3) := dk_180 0 78 (dk_at dksX5_number_0 6 rfl rfl)
theorem dX5_number_9 : decode cX5_number 9 = .ok (.invokevirtual 85, 3) := dk_182 0 85 (dk_at dksX5_number_0 9 rfl rfl)
theorem dX5_number_12 : decode cX5_number 12 = .ok (.ifCond .eq 16, 3) := dk_153 0 16 (dk_at dksX5_number_0 12 rfl rfl)
theorem dX5_number_15 : decode cX5_number 15 = .ok (.aload_n 0, 1) := dk_42 (dk_at dksX5_number_0 15 rfl rfl)
theorem dX5_number_16 : decode cX5_number 16 = .ok (.getfield 75, 3) := dk_180 0 75 (dk_at dksX5_number_0 16 rfl rfl)
theorem dX5_number_19 : decode cX5_number 19 = .ok (.aload_n 0, 1) := dk_42 (dk_at dksX5_number_0 19 rfl rfl)
theorem dX5_number_20 : decode cX5_number 20 = .ok (.getfield 78, 3) := dk_180 0 78 (dk_at dksX5_number_0 20 rfl rfl)
theorem dX5_number_23 : decode cX5_number 23 = .ok (.isub, 1) := dk_100 (dk_at dksX5_number_0 23 rfl rfl)
theorem dX5_number_24 : decode cX5_number 24 = .ok (.iconst 2, 1) := dk_5 (dk_at dksX5_number_1 0 rfl rfl)
theorem dX5_number_25 : decode cX5_number 25 = .ok (.if_icmp .le 5, 3) := dk_164 0 5 (dk_at dksX5_number_1 1 rfl rfl)
theorem dX5_number_28 : decode cX5_number 28 = .ok (.iconst (-1), 1) := dk_2 (dk_at dksX5_number_1 4 rfl rfl)
theorem dX5_number_29 : decode cX5_number 29 = .ok (.ireturn, 1) := dk_172 (dk_at dksX5_number_1 5 rfl rfl)
theorem dX5_number_30 : decode cX5_number 30 = .ok (.aload_n 0, 1) := dk_42 (dk_at dksX5_number_1 6 rfl rfl)
theorem dX5_number_31 : decode cX5_number 31 = .ok (.getfield 24, 3) := dk_180 0 24 (dk_at dksX5_number_1 7 rfl rfl)
theorem dX5_number_34 : decode cX5_number 34 = .ok (.aload_n 0, 1) := dk_42 (dk_at dksX5_number_1 10 rfl rfl)
theorem dX5_number_35 : decode cX5_number 35 = .ok (.getfield 78, 3) := dk_180 0 78 (dk_at dksX5_number_1 11 rfl rfl)
theorem dX5_number_38 : decode cX5_number 38 = .ok (.iaload, 1) := dk_46 (dk_at dksX5_number_1 14 rfl rfl)
theorem dX5_number_39 : decode cX5_number 39 = .ok (.bipush 48, 2) := dk_16 48 (dk_at dksX5_number_1 15 rfl rfl)
theorem dX5_number_41 : decode cX5_number 41 = .ok (.isub, 1) := dk_100 (dk_at dksX5_number_1 17 rfl rfl)
theorem dX5_number_42 : decode cX5_number 42 = .ok (.istore_n 3, 1) := dk_62 (dk_at dksX5_number_1 18 rfl rfl)
theorem dX5_number_43 : decode cX5_number 43 = .ok (.aload_n 0, 1) := dk_42 (dk_at dksX5_number_1 19 rfl rfl)
theorem dX5_number_44 : decode cX5_number 44 = .ok (.getfield 75, 3) := dk_180 0 75 (dk_at dksX5_number_1 20 rfl rfl)
theorem dX5_number_47 : decode cX5_number 47 = .ok (.aload_n 0, 1) := dk_42 (dk_at dksX5_number_1 23 rfl rfl)
theorem dX5_number_48 : decode cX5_number 48 = .ok (.getfield 78, 3) := dk_180 0 78 (dk_at dksX5_number_2 0 rfl rfl)
theorem dX5_number_51 : decode cX5_number 51 = .ok (.isub, 1) := dk_100 (dk_at dksX5_number_2 3 rfl rfl)
theorem dX5_number_52 : decode cX5_number 52 = .ok (.iconst 2, 1) := dk_5 (dk_at dksX5_number_2 4 rfl rfl)
theorem dX5_number_53 : decode cX5_number 53 = .ok (.if_icmp .ne 25, 3) := dk_160 0 25 (dk_at dksX5_number_2 5 rfl rfl)
theorem dX5_number_56 : decode cX5_number 56 = .ok (.bipush 10, 2) := dk_16 10 (dk_at dksX5_number_2 8 rfl rfl)
theorem dX5_number_58 : decode cX5_number 58 = .ok (.iload_n 3, 1) := dk_29 (dk_at dksX5_number_2 10 rfl rfl)
theorem dX5_number_59 : decode cX5_number 59 = .ok (.imul, 1) := dk_104 (dk_at dksX5_number_2 11 rfl rfl)
theorem dX5_number_60 : decode cX5_number 60 = .ok (.aload_n 0, 1) := dk_42 (dk_at dksX5_number_2 12 rfl rfl)
theorem dX5_number_61 : decode cX5_number 61 = .ok (.getfield 24, 3) := dk_180 0 24 (dk_at dksX5_number_2 13 rfl rfl)
theorem dX5_number_64 : decode cX5_number 64 = .ok (.aload_n 0, 1) := dk_42 (dk_at dksX5_number_2 16 rfl rfl)
theorem dX5_number_65 : decode cX5_number 65 = .ok (.getfield 78, 3) := dk_180 0 78 (dk_at dksX5_number_2 17 rfl rfl)
theorem dX5_number_68 : decode cX5_number 68 = .ok (.iconst 1, 1) := dk_4 (dk_at dksX5_number_2 20 rfl rfl)
theorem dX5_number_69 : decode cX5_number 69 = .ok (.iadd, 1) := dk_96 (dk_at dksX5_number_2 21 rfl rfl)
theorem dX5_number_70 : decode cX5_number 70 = .ok (.iaload, 1) := dk_46 (dk_at dksX5_number_2 22 rfl rfl)
theorem dX5_number_71 : decode cX5_number 71 = .ok (.iadd, 1) := dk_96 (dk_at dksX5_number_2 23 rfl rfl)
theorem dX5_number_72 : decode cX5_number 72 = .ok (.bipush 48, 2) := dk_16 48 (dk_at dksX5_number_3 0 rfl rfl)
theorem dX5_number_74 : decode cX5_number 74 = .ok (.isub, 1) := dk_100 (dk_at dksX5_number_3 2 rfl rfl)
theorem dX5_number_75 : decode cX5_number 75 = .ok (.goto 4, 3) := dk_167 0 4 (dk_at dksX5_number_3 3 rfl rfl)
theorem dX5_number_78 : decode cX5_number 78 = .ok (.iload_n 3, 1) := dk_29 (dk_at dksX5_number_3 6 rfl rfl)
theorem dX5_number_79 : decode cX5_number 79 = .ok (.istore_n 3, 1) := dk_62 (dk_at dksX5_number_3 7 rfl rfl)
theorem dX5_number_80 : decode cX5_number 80 = .ok (.iload_n 3, 1) := dk_29 (dk_at dksX5_number_3 8 rfl rfl)
theorem dX5_number_81 : decode cX5_number 81 = .ok (.iload_n 1, 1) := dk_27 (dk_at dksX5_number_3 9 rfl rfl)
theorem dX5_number_82 : decode cX5_number 82 = .ok (.iload_n 2, 1) := dk_28 (dk_at dksX5_number_3 10 rfl rfl)
theorem dX5_number_83 : decode cX5_number 83 = .ok (.invokestatic 51, 3) := dk_184 0 51 (dk_at dksX5_number_3 11 rfl rfl)
theorem dX5_number_86 : decode cX5_number 86 = .ok (.ifCond .eq 7, 3) := dk_153 0 7 (dk_at dksX5_number_3 14 rfl rfl)
theorem dX5_number_89 : decode cX5_number 89 = .ok (.iload_n 3, 1) := dk_29 (dk_at dksX5_number_3 17 rfl rfl)
theorem dX5_number_90 : decode cX5_number 90 = .ok (.goto 4, 3) := dk_167 0 4 (dk_at dksX5_number_3 18 rfl rfl)
theorem dX5_number_93 : decode cX5_number 93 = .ok (.iconst (-1), 1) := dk_2 (dk_at dksX5_number_3 21 rfl rfl)
theorem dX5_number_94 : decode cX5_number 94 = .ok (.ireturn, 1) := dk_172 (dk_at dksX5_number_3 22 rfl rfl)
abbrev cX5_readsOne : ByteArray := prog_20_method_22_code
def yX5_readsOne : MethodName := ⟨RX5, "readsOne", "()Z"⟩
def dkwX5_readsOne_3 : List UInt8 := [180, 0, 98, 153, 0, 10, 42, 27, 28, 29, 182, 0, 63, 4, 172]
abbrev dktX5_readsOne_3 : List UInt8 := dkwX5_readsOne_3 ++ []
def dkwX5_readsOne_2 : List UInt8 := [182, 0, 94, 62, 29, 2, 160, 0, 5, 3, 172, 42, 89, 180, 0, 102, 4, 96, 181, 0, 102, 42]
abbrev dktX5_readsOne_2 : List UInt8 := dkwX5_readsOne_2 ++ dktX5_readsOne_3
def dkwX5_readsOne_1 : List UInt8 := [167, 0, 9, 42, 3, 4, 182, 0, 94, 61, 28, 2, 160, 0, 7, 2, 167, 0, 10, 42, 3, 16, 9]
abbrev dktX5_readsOne_1 : List UInt8 := dkwX5_readsOne_1 ++ dktX5_readsOne_2
def dkwX5_readsOne_0 : List UInt8 := [42, 180, 0, 102, 16, 7, 160, 0, 5, 3, 172, 42, 3, 8, 182, 0, 94, 60, 27, 2, 160, 0, 7, 2]
abbrev dktX5_readsOne_0 : List UInt8 := dkwX5_readsOne_0 ++ dktX5_readsOne_1
theorem dksX5_readsOne_0 : cX5_readsOne.data.toList.drop 0 = dktX5_readsOne_0 := by decide +kernel
theorem dksX5_readsOne_1 : cX5_readsOne.data.toList.drop 24 = dktX5_readsOne_1 := dk_seg dksX5_readsOne_0 24 rfl rfl
theorem dksX5_readsOne_2 : cX5_readsOne.data.toList.drop 47 = dktX5_readsOne_2 := dk_seg dksX5_readsOne_1 23 rfl rfl
theorem dksX5_readsOne_3 : cX5_readsOne.data.toList.drop 69 = dktX5_readsOne_3 := dk_seg dksX5_readsOne_2 22 rfl rfl
theorem dX5_readsOne_0 : decode cX5_readsOne 0 = .ok (.aload_n 0, 1) := dk_42 (dk_at dksX5_readsOne_0 0 rfl rfl)
theorem dX5_readsOne_1 : decode cX5_readsOne 1 = .ok (.getfield 102, 3) := dk_180 0 102 (dk_at dksX5_readsOne_0 1 rfl rfl)
theorem dX5_readsOne_4 : decode cX5_readsOne 4 = .ok (.bipush 7, 2) := dk_16 7 (dk_at dksX5_readsOne_0 4 rfl rfl)
theorem dX5_readsOne_6 : decode cX5_readsOne 6 = .ok (.if_icmp .ne 5, 3) := dk_160 0 5 (dk_at dksX5_readsOne_0 6 rfl rfl)
theorem dX5_readsOne_9 : decode cX5_readsOne 9 = .ok (.iconst 0, 1) := dk_3 (dk_at dksX5_readsOne_0 9 rfl rfl)
theorem dX5_readsOne_10 : decode cX5_readsOne 10 = .ok (.ireturn, 1) := dk_172 (dk_at dksX5_readsOne_0 10 rfl rfl)
theorem dX5_readsOne_11 : decode cX5_readsOne 11 = .ok (.aload_n 0, 1) := dk_42 (dk_at dksX5_readsOne_0 11 rfl rfl)
theorem dX5_readsOne_12 : decode cX5_readsOne 12 = .ok (.iconst 0, 1) := dk_3 (dk_at dksX5_readsOne_0 12 rfl rfl)
theorem dX5_readsOne_13 : decode cX5_readsOne 13 = .ok (.iconst 5, 1) := dk_8 (dk_at dksX5_readsOne_0 13 rfl rfl)
theorem dX5_readsOne_14 : decode cX5_readsOne 14 = .ok (.invokevirtual 94, 3) := dk_182 0 94 (dk_at dksX5_readsOne_0 14 rfl rfl)
theorem dX5_readsOne_17 : decode cX5_readsOne 17 = .ok (.istore_n 1, 1) := dk_60 (dk_at dksX5_readsOne_0 17 rfl rfl)
theorem dX5_readsOne_18 : decode cX5_readsOne 18 = .ok (.iload_n 1, 1) := dk_27 (dk_at dksX5_readsOne_0 18 rfl rfl)
theorem dX5_readsOne_19 : decode cX5_readsOne 19 = .ok (.iconst (-1), 1) := dk_2 (dk_at dksX5_readsOne_0 19 rfl rfl)
theorem dX5_readsOne_20 : decode cX5_readsOne 20 = .ok (.if_icmp .ne 7, 3) := dk_160 0 7 (dk_at dksX5_readsOne_0 20 rfl rfl)
theorem dX5_readsOne_23 : decode cX5_readsOne 23 = .ok (.iconst (-1), 1) := dk_2 (dk_at dksX5_readsOne_0 23 rfl rfl)
theorem dX5_readsOne_24 : decode cX5_readsOne 24 = .ok (.goto 9, 3) := dk_167 0 9 (dk_at dksX5_readsOne_1 0 rfl rfl)
theorem dX5_readsOne_27 : decode cX5_readsOne 27 = .ok (.aload_n 0, 1) := dk_42 (dk_at dksX5_readsOne_1 3 rfl rfl)
theorem dX5_readsOne_28 : decode cX5_readsOne 28 = .ok (.iconst 0, 1) := dk_3 (dk_at dksX5_readsOne_1 4 rfl rfl)
theorem dX5_readsOne_29 : decode cX5_readsOne 29 = .ok (.iconst 1, 1) := dk_4 (dk_at dksX5_readsOne_1 5 rfl rfl)
theorem dX5_readsOne_30 : decode cX5_readsOne 30 = .ok (.invokevirtual 94, 3) := dk_182 0 94 (dk_at dksX5_readsOne_1 6 rfl rfl)
theorem dX5_readsOne_33 : decode cX5_readsOne 33 = .ok (.istore_n 2, 1) := dk_61 (dk_at dksX5_readsOne_1 9 rfl rfl)
theorem dX5_readsOne_34 : decode cX5_readsOne 34 = .ok (.iload_n 2, 1) := dk_28 (dk_at dksX5_readsOne_1 10 rfl rfl)
theorem dX5_readsOne_35 : decode cX5_readsOne 35 = .ok (.iconst (-1), 1) := dk_2 (dk_at dksX5_readsOne_1 11 rfl rfl)
theorem dX5_readsOne_36 : decode cX5_readsOne 36 = .ok (.if_icmp .ne 7, 3) := dk_160 0 7 (dk_at dksX5_readsOne_1 12 rfl rfl)
theorem dX5_readsOne_39 : decode cX5_readsOne 39 = .ok (.iconst (-1), 1) := dk_2 (dk_at dksX5_readsOne_1 15 rfl rfl)
theorem dX5_readsOne_40 : decode cX5_readsOne 40 = .ok (.goto 10, 3) := dk_167 0 10 (dk_at dksX5_readsOne_1 16 rfl rfl)
theorem dX5_readsOne_43 : decode cX5_readsOne 43 = .ok (.aload_n 0, 1) := dk_42 (dk_at dksX5_readsOne_1 19 rfl rfl)
theorem dX5_readsOne_44 : decode cX5_readsOne 44 = .ok (.iconst 0, 1) := dk_3 (dk_at dksX5_readsOne_1 20 rfl rfl)
theorem dX5_readsOne_45 : decode cX5_readsOne 45 = .ok (.bipush 9, 2) := dk_16 9 (dk_at dksX5_readsOne_1 21 rfl rfl)
theorem dX5_readsOne_47 : decode cX5_readsOne 47 = .ok (.invokevirtual 94, 3) := dk_182 0 94 (dk_at dksX5_readsOne_2 0 rfl rfl)
theorem dX5_readsOne_50 : decode cX5_readsOne 50 = .ok (.istore_n 3, 1) := dk_62 (dk_at dksX5_readsOne_2 3 rfl rfl)
theorem dX5_readsOne_51 : decode cX5_readsOne 51 = .ok (.iload_n 3, 1) := dk_29 (dk_at dksX5_readsOne_2 4 rfl rfl)
theorem dX5_readsOne_52 : decode cX5_readsOne 52 = .ok (.iconst (-1), 1) := dk_2 (dk_at dksX5_readsOne_2 5 rfl rfl)
theorem dX5_readsOne_53 : decode cX5_readsOne 53 = .ok (.if_icmp .ne 5, 3) := dk_160 0 5 (dk_at dksX5_readsOne_2 6 rfl rfl)
theorem dX5_readsOne_56 : decode cX5_readsOne 56 = .ok (.iconst 0, 1) := dk_3 (dk_at dksX5_readsOne_2 9 rfl rfl)
theorem dX5_readsOne_57 : decode cX5_readsOne 57 = .ok (.ireturn, 1) := dk_172 (dk_at dksX5_readsOne_2 10 rfl rfl)
theorem dX5_readsOne_58 : decode cX5_readsOne 58 = .ok (.aload_n 0, 1) := dk_42 (dk_at dksX5_readsOne_2 11 rfl rfl)
theorem dX5_readsOne_59 : decode cX5_readsOne 59 = .ok (.dup, 1) := dk_89 (dk_at dksX5_readsOne_2 12 rfl rfl)
theorem dX5_readsOne_60 : decode cX5_readsOne 60 = .ok (.getfield 102, 3) := dk_180 0 102 (dk_at dksX5_readsOne_2 13 rfl rfl)
theorem dX5_readsOne_63 : decode cX5_readsOne 63 = .ok (.iconst 1, 1) := dk_4 (dk_at dksX5_readsOne_2 16 rfl rfl)
theorem dX5_readsOne_64 : decode cX5_readsOne 64 = .ok (.iadd, 1) := dk_96 (dk_at dksX5_readsOne_2 17 rfl rfl)
theorem dX5_readsOne_65 : decode cX5_readsOne 65 = .ok (.putfield 102, 3) := dk_181 0 102 (dk_at dksX5_readsOne_2 18 rfl rfl)
theorem dX5_readsOne_68 : decode cX5_readsOne 68 = .ok (.aload_n 0, 1) := dk_42 (dk_at dksX5_readsOne_2 21 rfl rfl)
theorem dX5_readsOne_69 : decode cX5_readsOne 69 = .ok (.getfield 98, 3) := dk_180 0 98 (dk_at dksX5_readsOne_3 0 rfl rfl)
theorem dX5_readsOne_72 : decode cX5_readsOne 72 = .ok (.ifCond .eq 10, 3) := dk_153 0 10 (dk_at dksX5_readsOne_3 3 rfl rfl)
theorem dX5_readsOne_75 : decode cX5_readsOne 75 = .ok (.aload_n 0, 1) := dk_42 (dk_at dksX5_readsOne_3 6 rfl rfl)
theorem dX5_readsOne_76 : decode cX5_readsOne 76 = .ok (.iload_n 1, 1) := dk_27 (dk_at dksX5_readsOne_3 7 rfl rfl)
theorem dX5_readsOne_77 : decode cX5_readsOne 77 = .ok (.iload_n 2, 1) := dk_28 (dk_at dksX5_readsOne_3 8 rfl rfl)
theorem dX5_readsOne_78 : decode cX5_readsOne 78 = .ok (.iload_n 3, 1) := dk_29 (dk_at dksX5_readsOne_3 9 rfl rfl)
theorem dX5_readsOne_79 : decode cX5_readsOne 79 = .ok (.invokevirtual 63, 3) := dk_182 0 63 (dk_at dksX5_readsOne_3 10 rfl rfl)
theorem dX5_readsOne_82 : decode cX5_readsOne 82 = .ok (.iconst 1, 1) := dk_4 (dk_at dksX5_readsOne_3 13 rfl rfl)
theorem dX5_readsOne_83 : decode cX5_readsOne 83 = .ok (.ireturn, 1) := dk_172 (dk_at dksX5_readsOne_3 14 rfl rfl)
abbrev cX5_readsAunt : ByteArray := prog_20_method_23_code
def yX5_readsAunt : MethodName := ⟨RX5, "readsAunt", "()Z"⟩
def dkwX5_readsAunt_2 : List UInt8 := [181, 0, 105, 42, 180, 0, 98, 153, 0, 9, 42, 27, 28, 182, 0, 67, 4, 172]
abbrev dktX5_readsAunt_2 : List UInt8 := dkwX5_readsAunt_2 ++ []
def dkwX5_readsAunt_1 : List UInt8 := [167, 0, 9, 42, 3, 4, 182, 0, 94, 61, 28, 2, 160, 0, 5, 3, 172, 42, 89, 180, 0, 105, 4, 96]
abbrev dktX5_readsAunt_1 : List UInt8 := dkwX5_readsAunt_1 ++ dktX5_readsAunt_2
def dkwX5_readsAunt_0 : List UInt8 := [42, 180, 0, 105, 7, 160, 0, 5, 3, 172, 42, 3, 8, 182, 0, 94, 60, 27, 2, 160, 0, 7, 2]
abbrev dktX5_readsAunt_0 : List UInt8 := dkwX5_readsAunt_0 ++ dktX5_readsAunt_1
theorem dksX5_readsAunt_0 : cX5_readsAunt.data.toList.drop 0 = dktX5_readsAunt_0 := by decide +kernel
theorem dksX5_readsAunt_1 : cX5_readsAunt.data.toList.drop 23 = dktX5_readsAunt_1 := dk_seg dksX5_readsAunt_0 23 rfl rfl
theorem dksX5_readsAunt_2 : cX5_readsAunt.data.toList.drop 47 = dktX5_readsAunt_2 := dk_seg dksX5_readsAunt_1 24 rfl rfl
theorem dX5_readsAunt_0 : decode cX5_readsAunt 0 = .ok (.aload_n 0, 1) := dk_42 (dk_at dksX5_readsAunt_0 0 rfl rfl)
theorem dX5_readsAunt_1 : decode cX5_readsAunt 1 = .ok (.getfield 105, 3) := dk_180 0 105 (dk_at dksX5_readsAunt_0 1 rfl rfl)
theorem dX5_readsAunt_4 : decode cX5_readsAunt 4 = .ok (.iconst 4, 1) := dk_7 (dk_at dksX5_readsAunt_0 4 rfl rfl)
theorem dX5_readsAunt_5 : decode cX5_readsAunt 5 = .ok (.if_icmp .ne 5, 3) := dk_160 0 5 (dk_at dksX5_readsAunt_0 5 rfl rfl)
theorem dX5_readsAunt_8 : decode cX5_readsAunt 8 = .ok (.iconst 0, 1) := dk_3 (dk_at dksX5_readsAunt_0 8 rfl rfl)
theorem dX5_readsAunt_9 : decode cX5_readsAunt 9 = .ok (.ireturn, 1) := dk_172 (dk_at dksX5_readsAunt_0 9 rfl rfl)
theorem dX5_readsAunt_10 : decode cX5_readsAunt 10 = .ok (.aload_n 0, 1) := dk_42 (dk_at dksX5_readsAunt_0 10 rfl rfl)
theorem dX5_readsAunt_11 : decode cX5_readsAunt 11 = .ok (.iconst 0, 1) := dk_3 (dk_at dksX5_readsAunt_0 11 rfl rfl)
theorem dX5_readsAunt_12 : decode cX5_readsAunt 12 = .ok (.iconst 5, 1) := dk_8 (dk_at dksX5_readsAunt_0 12 rfl rfl)
theorem dX5_readsAunt_13 : decode cX5_readsAunt 13 = .ok (.invokevirtual 94, 3) := dk_182 0 94 (dk_at dksX5_readsAunt_0 13 rfl rfl)
theorem dX5_readsAunt_16 : decode cX5_readsAunt 16 = .ok (.istore_n 1, 1) := dk_60 (dk_at dksX5_readsAunt_0 16 rfl rfl)
theorem dX5_readsAunt_17 : decode cX5_readsAunt 17 = .ok (.iload_n 1, 1) := dk_27 (dk_at dksX5_readsAunt_0 17 rfl rfl)
theorem dX5_readsAunt_18 : decode cX5_readsAunt 18 = .ok (.iconst (-1), 1) := dk_2 (dk_at dksX5_readsAunt_0 18 rfl rfl)
theorem dX5_readsAunt_19 : decode cX5_readsAunt 19 = .ok (.if_icmp .ne 7, 3) := dk_160 0 7 (dk_at dksX5_readsAunt_0 19 rfl rfl)
theorem dX5_readsAunt_22 : decode cX5_readsAunt 22 = .ok (.iconst (-1), 1) := dk_2 (dk_at dksX5_readsAunt_0 22 rfl rfl)
theorem dX5_readsAunt_23 : decode cX5_readsAunt 23 = .ok (.goto 9, 3) := dk_167 0 9 (dk_at dksX5_readsAunt_1 0 rfl rfl)
theorem dX5_readsAunt_26 : decode cX5_readsAunt 26 = .ok (.aload_n 0, 1) := dk_42 (dk_at dksX5_readsAunt_1 3 rfl rfl)
theorem dX5_readsAunt_27 : decode cX5_readsAunt 27 = .ok (.iconst 0, 1) := dk_3 (dk_at dksX5_readsAunt_1 4 rfl rfl)
theorem dX5_readsAunt_28 : decode cX5_readsAunt 28 = .ok (.iconst 1, 1) := dk_4 (dk_at dksX5_readsAunt_1 5 rfl rfl)
theorem dX5_readsAunt_29 : decode cX5_readsAunt 29 = .ok (.invokevirtual 94, 3) := dk_182 0 94 (dk_at dksX5_readsAunt_1 6 rfl rfl)
theorem dX5_readsAunt_32 : decode cX5_readsAunt 32 = .ok (.istore_n 2, 1) := dk_61 (dk_at dksX5_readsAunt_1 9 rfl rfl)
theorem dX5_readsAunt_33 : decode cX5_readsAunt 33 = .ok (.iload_n 2, 1) := dk_28 (dk_at dksX5_readsAunt_1 10 rfl rfl)
theorem dX5_readsAunt_34 : decode cX5_readsAunt 34 = .ok (.iconst (-1), 1) := dk_2 (dk_at dksX5_readsAunt_1 11 rfl rfl)
theorem dX5_readsAunt_35 : decode cX5_readsAunt 35 = .ok (.if_icmp .ne 5, 3) := dk_160 0 5 (dk_at dksX5_readsAunt_1 12 rfl rfl)
theorem dX5_readsAunt_38 : decode cX5_readsAunt 38 = .ok (.iconst 0, 1) := dk_3 (dk_at dksX5_readsAunt_1 15 rfl rfl)
theorem dX5_readsAunt_39 : decode cX5_readsAunt 39 = .ok (.ireturn, 1) := dk_172 (dk_at dksX5_readsAunt_1 16 rfl rfl)
theorem dX5_readsAunt_40 : decode cX5_readsAunt 40 = .ok (.aload_n 0, 1) := dk_42 (dk_at dksX5_readsAunt_1 17 rfl rfl)
theorem dX5_readsAunt_41 : decode cX5_readsAunt 41 = .ok (.dup, 1) := dk_89 (dk_at dksX5_readsAunt_1 18 rfl rfl)
theorem dX5_readsAunt_42 : decode cX5_readsAunt 42 = .ok (.getfield 105, 3) := dk_180 0 105 (dk_at dksX5_readsAunt_1 19 rfl rfl)
theorem dX5_readsAunt_45 : decode cX5_readsAunt 45 = .ok (.iconst 1, 1) := dk_4 (dk_at dksX5_readsAunt_1 22 rfl rfl)
theorem dX5_readsAunt_46 : decode cX5_readsAunt 46 = .ok (.iadd, 1) := dk_96 (dk_at dksX5_readsAunt_1 23 rfl rfl)
theorem dX5_readsAunt_47 : decode cX5_readsAunt 47 = .ok (.putfield 105, 3) := dk_181 0 105 (dk_at dksX5_readsAunt_2 0 rfl rfl)
theorem dX5_readsAunt_50 : decode cX5_readsAunt 50 = .ok (.aload_n 0, 1) := dk_42 (dk_at dksX5_readsAunt_2 3 rfl rfl)
theorem dX5_readsAunt_51 : decode cX5_readsAunt 51 = .ok (.getfield 98, 3) := dk_180 0 98 (dk_at dksX5_readsAunt_2 4 rfl rfl)
theorem dX5_readsAunt_54 : decode cX5_readsAunt 54 = .ok (.ifCond .eq 9, 3) := dk_153 0 9 (dk_at dksX5_readsAunt_2 7 rfl rfl)
theorem dX5_readsAunt_57 : decode cX5_readsAunt 57 = .ok (.aload_n 0, 1) := dk_42 (dk_at dksX5_readsAunt_2 10 rfl rfl)
theorem dX5_readsAunt_58 : decode cX5_readsAunt 58 = .ok (.iload_n 1, 1) := dk_27 (dk_at dksX5_readsAunt_2 11 rfl rfl)
theorem dX5_readsAunt_59 : decode cX5_readsAunt 59 = .ok (.iload_n 2, 1) := dk_28 (dk_at dksX5_readsAunt_2 12 rfl rfl)
theorem dX5_readsAunt_60 : decode cX5_readsAunt 60 = .ok (.invokevirtual 67, 3) := dk_182 0 67 (dk_at dksX5_readsAunt_2 13 rfl rfl)
theorem dX5_readsAunt_63 : decode cX5_readsAunt 63 = .ok (.iconst 1, 1) := dk_4 (dk_at dksX5_readsAunt_2 16 rfl rfl)
theorem dX5_readsAunt_64 : decode cX5_readsAunt 64 = .ok (.ireturn, 1) := dk_172 (dk_at dksX5_readsAunt_2 17 rfl rfl)
abbrev cX5_goBy : ByteArray := prog_20_method_33_code
def yX5_goBy : MethodName := ⟨RX5, "goBy", "(II)V"⟩
def dkwX5_goBy_4 : List UInt8 := [132, 3, 1, 167, 255, 163, 177]
abbrev dktX5_goBy_4 : List UInt8 := dkwX5_goBy_4 ++ []
def dkwX5_goBy_3 : List UInt8 := [17, 39, 15, 167, 0, 5, 21, 4, 79, 42, 180, 0, 7, 27, 16, 9, 96, 92, 46, 4, 96, 79]
abbrev dktX5_goBy_3 : List UInt8 := dkwX5_goBy_3 ++ dktX5_goBy_4
def dkwX5_goBy_2 : List UInt8 := [46, 182, 0, 153, 96, 54, 4, 42, 180, 0, 7, 27, 16, 8, 96, 21, 4, 17, 39, 15, 164, 0, 9]
abbrev dktX5_goBy_2 : List UInt8 := dkwX5_goBy_2 ++ dktX5_goBy_3
def dkwX5_goBy_1 : List UInt8 := [158, 0, 75, 42, 180, 0, 7, 27, 16, 8, 96, 46, 5, 108, 42, 27, 42, 180, 0, 7, 27, 16, 9, 96]
abbrev dktX5_goBy_1 : List UInt8 := dkwX5_goBy_1 ++ dktX5_goBy_2
def dkwX5_goBy_0 : List UInt8 := [3, 62, 29, 28, 162, 0, 94, 42, 180, 0, 7, 27, 16, 9, 96, 46, 17, 39, 15, 161, 0, 7, 27]
abbrev dktX5_goBy_0 : List UInt8 := dkwX5_goBy_0 ++ dktX5_goBy_1
theorem dksX5_goBy_0 : cX5_goBy.data.toList.drop 0 = dktX5_goBy_0 := by decide +kernel
theorem dksX5_goBy_1 : cX5_goBy.data.toList.drop 23 = dktX5_goBy_1 := dk_seg dksX5_goBy_0 23 rfl rfl
theorem dksX5_goBy_2 : cX5_goBy.data.toList.drop 47 = dktX5_goBy_2 := dk_seg dksX5_goBy_1 24 rfl rfl
theorem dksX5_goBy_3 : cX5_goBy.data.toList.drop 70 = dktX5_goBy_3 := dk_seg dksX5_goBy_2 23 rfl rfl
theorem dksX5_goBy_4 : cX5_goBy.data.toList.drop 92 = dktX5_goBy_4 := dk_seg dksX5_goBy_3 22 rfl rfl
theorem dX5_goBy_0 : decode cX5_goBy 0 = .ok (.iconst 0, 1) := dk_3 (dk_at dksX5_goBy_0 0 rfl rfl)
theorem dX5_goBy_1 : decode cX5_goBy 1 = .ok (.istore_n 3, 1) := dk_62 (dk_at dksX5_goBy_0 1 rfl rfl)
theorem dX5_goBy_2 : decode cX5_goBy 2 = .ok (.iload_n 3, 1) := dk_29 (dk_at dksX5_goBy_0 2 rfl rfl)
theorem dX5_goBy_3 : decode cX5_goBy 3 = .ok (.iload_n 2, 1) := dk_28 (dk_at dksX5_goBy_0 3 rfl rfl)
theorem dX5_goBy_4 : decode cX5_goBy 4 = .ok (.if_icmp .ge 94, 3) := dk_162 0 94 (dk_at dksX5_goBy_0 4 rfl rfl)
theorem dX5_goBy_7 : decode cX5_goBy 7 = .ok (.aload_n 0, 1) := dk_42 (dk_at dksX5_goBy_0 7 rfl rfl)
theorem dX5_goBy_8 : decode cX5_goBy 8 = .ok (.getfield 7, 3) := dk_180 0 7 (dk_at dksX5_goBy_0 8 rfl rfl)
theorem dX5_goBy_11 : decode cX5_goBy 11 = .ok (.iload_n 1, 1) := dk_27 (dk_at dksX5_goBy_0 11 rfl rfl)
theorem dX5_goBy_12 : decode cX5_goBy 12 = .ok (.bipush 9, 2) := dk_16 9 (dk_at dksX5_goBy_0 12 rfl rfl)
theorem dX5_goBy_14 : decode cX5_goBy 14 = .ok (.iadd, 1) := dk_96 (dk_at dksX5_goBy_0 14 rfl rfl)
theorem dX5_goBy_15 : decode cX5_goBy 15 = .ok (.iaload, 1) := dk_46 (dk_at dksX5_goBy_0 15 rfl rfl)
theorem dX5_goBy_16 : decode cX5_goBy 16 = .ok (.sipush 9999, 3) := dk_17 39 15 (dk_at dksX5_goBy_0 16 rfl rfl)
theorem dX5_goBy_19 : decode cX5_goBy 19 = .ok (.if_icmp .lt 7, 3) := dk_161 0 7 (dk_at dksX5_goBy_0 19 rfl rfl)
theorem dX5_goBy_22 : decode cX5_goBy 22 = .ok (.iload_n 1, 1) := dk_27 (dk_at dksX5_goBy_0 22 rfl rfl)
theorem dX5_goBy_23 : decode cX5_goBy 23 = .ok (.ifCond .le 75, 3) := dk_158 0 75 (dk_at dksX5_goBy_1 0 rfl rfl)
theorem dX5_goBy_26 : decode cX5_goBy 26 = .ok (.aload_n 0, 1) := dk_42 (dk_at dksX5_goBy_1 3 rfl rfl)
theorem dX5_goBy_27 : decode cX5_goBy 27 = .ok (.getfield 7, 3) := dk_180 0 7 (dk_at dksX5_goBy_1 4 rfl rfl)
theorem dX5_goBy_30 : decode cX5_goBy 30 = .ok (.iload_n 1, 1) := dk_27 (dk_at dksX5_goBy_1 7 rfl rfl)
theorem dX5_goBy_31 : decode cX5_goBy 31 = .ok (.bipush 8, 2) := dk_16 8 (dk_at dksX5_goBy_1 8 rfl rfl)
theorem dX5_goBy_33 : decode cX5_goBy 33 = .ok (.iadd, 1) := dk_96 (dk_at dksX5_goBy_1 10 rfl rfl)
theorem dX5_goBy_34 : decode cX5_goBy 34 = .ok (.iaload, 1) := dk_46 (dk_at dksX5_goBy_1 11 rfl rfl)
theorem dX5_goBy_35 : decode cX5_goBy 35 = .ok (.iconst 2, 1) := dk_5 (dk_at dksX5_goBy_1 12 rfl rfl)
theorem dX5_goBy_36 : decode cX5_goBy 36 = .ok (.idiv, 1) := dk_108 (dk_at dksX5_goBy_1 13 rfl rfl)
theorem dX5_goBy_37 : decode cX5_goBy 37 = .ok (.aload_n 0, 1) := dk_42 (dk_at dksX5_goBy_1 14 rfl rfl)
theorem dX5_goBy_38 : decode cX5_goBy 38 = .ok (.iload_n 1, 1) := dk_27 (dk_at dksX5_goBy_1 15 rfl rfl)
theorem dX5_goBy_39 : decode cX5_goBy 39 = .ok (.aload_n 0, 1) := dk_42 (dk_at dksX5_goBy_1 16 rfl rfl)
theorem dX5_goBy_40 : decode cX5_goBy 40 = .ok (.getfield 7, 3) := dk_180 0 7 (dk_at dksX5_goBy_1 17 rfl rfl)
theorem dX5_goBy_43 : decode cX5_goBy 43 = .ok (.iload_n 1, 1) := dk_27 (dk_at dksX5_goBy_1 20 rfl rfl)
theorem dX5_goBy_44 : decode cX5_goBy 44 = .ok (.bipush 9, 2) := dk_16 9 (dk_at dksX5_goBy_1 21 rfl rfl)
theorem dX5_goBy_46 : decode cX5_goBy 46 = .ok (.iadd, 1) := dk_96 (dk_at dksX5_goBy_1 23 rfl rfl)
theorem dX5_goBy_47 : decode cX5_goBy 47 = .ok (.iaload, 1) := dk_46 (dk_at dksX5_goBy_2 0 rfl rfl)
theorem dX5_goBy_48 : decode cX5_goBy 48 = .ok (.invokevirtual 153, 3) := dk_182 0 153 (dk_at dksX5_goBy_2 1 rfl rfl)
theorem dX5_goBy_51 : decode cX5_goBy 51 = .ok (.iadd, 1) := dk_96 (dk_at dksX5_goBy_2 4 rfl rfl)
theorem dX5_goBy_52 : decode cX5_goBy 52 = .ok (.istore 4, 2) := dk_54 4 (dk_at dksX5_goBy_2 5 rfl rfl)
theorem dX5_goBy_54 : decode cX5_goBy 54 = .ok (.aload_n 0, 1) := dk_42 (dk_at dksX5_goBy_2 7 rfl rfl)
theorem dX5_goBy_55 : decode cX5_goBy 55 = .ok (.getfield 7, 3) := dk_180 0 7 (dk_at dksX5_goBy_2 8 rfl rfl)
theorem dX5_goBy_58 : decode cX5_goBy 58 = .ok (.iload_n 1, 1) := dk_27 (dk_at dksX5_goBy_2 11 rfl rfl)
theorem dX5_goBy_59 : decode cX5_goBy 59 = .ok (.bipush 8, 2) := dk_16 8 (dk_at dksX5_goBy_2 12 rfl rfl)
theorem dX5_goBy_61 : decode cX5_goBy 61 = .ok (.iadd, 1) := dk_96 (dk_at dksX5_goBy_2 14 rfl rfl)
theorem dX5_goBy_62 : decode cX5_goBy 62 = .ok (.iload 4, 2) := dk_21 4 (dk_at dksX5_goBy_2 15 rfl rfl)
theorem dX5_goBy_64 : decode cX5_goBy 64 = .ok (.sipush 9999, 3) := dk_17 39 15 (dk_at dksX5_goBy_2 17 rfl rfl)
theorem dX5_goBy_67 : decode cX5_goBy 67 = .ok (.if_icmp .le 9, 3) := dk_164 0 9 (dk_at dksX5_goBy_2 20 rfl rfl)
theorem dX5_goBy_70 : decode cX5_goBy 70 = .ok (.sipush 9999, 3) := dk_17 39 15 (dk_at dksX5_goBy_3 0 rfl rfl)
theorem dX5_goBy_73 : decode cX5_goBy 73 = .ok (.goto 5, 3) := dk_167 0 5 (dk_at dksX5_goBy_3 3 rfl rfl)
theorem dX5_goBy_76 : decode cX5_goBy 76 = .ok (.iload 4, 2) := dk_21 4 (dk_at dksX5_goBy_3 6 rfl rfl)
theorem dX5_goBy_78 : decode cX5_goBy 78 = .ok (.iastore, 1) := dk_79 (dk_at dksX5_goBy_3 8 rfl rfl)
theorem dX5_goBy_79 : decode cX5_goBy 79 = .ok (.aload_n 0, 1) := dk_42 (dk_at dksX5_goBy_3 9 rfl rfl)
theorem dX5_goBy_80 : decode cX5_goBy 80 = .ok (.getfield 7, 3) := dk_180 0 7 (dk_at dksX5_goBy_3 10 rfl rfl)
theorem dX5_goBy_83 : decode cX5_goBy 83 = .ok (.iload_n 1, 1) := dk_27 (dk_at dksX5_goBy_3 13 rfl rfl)
theorem dX5_goBy_84 : decode cX5_goBy 84 = .ok (.bipush 9, 2) := dk_16 9 (dk_at dksX5_goBy_3 14 rfl rfl)
theorem dX5_goBy_86 : decode cX5_goBy 86 = .ok (.iadd, 1) := dk_96 (dk_at dksX5_goBy_3 16 rfl rfl)
theorem dX5_goBy_87 : decode cX5_goBy 87 = .ok (.dup2, 1) := dk_92 (dk_at dksX5_goBy_3 17 rfl rfl)
theorem dX5_goBy_88 : decode cX5_goBy 88 = .ok (.iaload, 1) := dk_46 (dk_at dksX5_goBy_3 18 rfl rfl)
theorem dX5_goBy_89 : decode cX5_goBy 89 = .ok (.iconst 1, 1) := dk_4 (dk_at dksX5_goBy_3 19 rfl rfl)
theorem dX5_goBy_90 : decode cX5_goBy 90 = .ok (.iadd, 1) := dk_96 (dk_at dksX5_goBy_3 20 rfl rfl)
theorem dX5_goBy_91 : decode cX5_goBy 91 = .ok (.iastore, 1) := dk_79 (dk_at dksX5_goBy_3 21 rfl rfl)
theorem dX5_goBy_92 : decode cX5_goBy 92 = .ok (.iinc 3 1, 3) := dk_132 3 1 (dk_at dksX5_goBy_4 0 rfl rfl)
theorem dX5_goBy_95 : decode cX5_goBy 95 = .ok (.goto (-93), 3) := dk_167 255 163 (dk_at dksX5_goBy_4 3 rfl rfl)
theorem dX5_goBy_98 : decode cX5_goBy 98 = .ok (.return_, 1) := dk_177 (dk_at dksX5_goBy_4 6 rfl rfl)
abbrev cX5_soundAt : ByteArray := prog_20_method_32_code
def yX5_soundAt : MethodName := ⟨RX5, "soundAt", "(II)I"⟩
def dkwX5_soundAt_0 : List UInt8 := [42, 27, 42, 180, 0, 7, 16, 10, 46, 28, 2, 182, 0, 149, 172]
abbrev dktX5_soundAt_0 : List UInt8 := dkwX5_soundAt_0 ++ []
theorem dksX5_soundAt_0 : cX5_soundAt.data.toList.drop 0 = dktX5_soundAt_0 := by decide +kernel
theorem dX5_soundAt_0 : decode cX5_soundAt 0 = .ok (.aload_n 0, 1) := dk_42 (dk_at dksX5_soundAt_0 0 rfl rfl)
theorem dX5_soundAt_1 : decode cX5_soundAt 1 = .ok (.iload_n 1, 1) := dk_27 (dk_at dksX5_soundAt_0 1 rfl rfl)
theorem dX5_soundAt_2 : decode cX5_soundAt 2 = .ok (.aload_n 0, 1) := dk_42 (dk_at dksX5_soundAt_0 2 rfl rfl)
theorem dX5_soundAt_3 : decode cX5_soundAt 3 = .ok (.getfield 7, 3) := dk_180 0 7 (dk_at dksX5_soundAt_0 3 rfl rfl)
theorem dX5_soundAt_6 : decode cX5_soundAt 6 = .ok (.bipush 10, 2) := dk_16 10 (dk_at dksX5_soundAt_0 6 rfl rfl)
theorem dX5_soundAt_8 : decode cX5_soundAt 8 = .ok (.iaload, 1) := dk_46 (dk_at dksX5_soundAt_0 8 rfl rfl)
theorem dX5_soundAt_9 : decode cX5_soundAt 9 = .ok (.iload_n 2, 1) := dk_28 (dk_at dksX5_soundAt_0 9 rfl rfl)
theorem dX5_soundAt_10 : decode cX5_soundAt 10 = .ok (.iconst (-1), 1) := dk_2 (dk_at dksX5_soundAt_0 10 rfl rfl)
theorem dX5_soundAt_11 : decode cX5_soundAt 11 = .ok (.invokevirtual 149, 3) := dk_182 0 149 (dk_at dksX5_soundAt_0 11 rfl rfl)
theorem dX5_soundAt_14 : decode cX5_soundAt 14 = .ok (.ireturn, 1) := dk_172 (dk_at dksX5_soundAt_0 14 rfl rfl)
abbrev cX5_soundBy : ByteArray := prog_20_method_31_code
def yX5_soundBy : MethodName := ⟨RX5, "soundBy", "(IIII)I"⟩
def dkwX5_soundBy_8 : List UInt8 := [167, 0, 4, 3, 96, 54, 5, 132, 6, 1, 167, 255, 112, 21, 5, 172]
abbrev dktX5_soundBy_8 : List UInt8 := dkwX5_soundBy_8 ++ []
def dkwX5_soundBy_7 : List UInt8 := [96, 54, 10, 21, 5, 21, 9, 153, 0, 18, 21, 10, 28, 161, 0, 12, 21, 10, 28, 100, 4, 96]
abbrev dktX5_soundBy_7 : List UInt8 := dkwX5_soundBy_7 ++ dktX5_soundBy_8
def dkwX5_soundBy_6 : List UInt8 := [158, 0, 7, 4, 167, 0, 4, 3, 54, 9, 42, 180, 0, 30, 21, 7, 46, 42, 180, 0, 30, 21, 8, 46]
abbrev dktX5_soundBy_6 : List UInt8 := dkwX5_soundBy_6 ++ dktX5_soundBy_7
def dkwX5_soundBy_5 : List UInt8 := [96, 46, 4, 160, 0, 27, 42, 180, 0, 30, 21, 7, 46, 158, 0, 17, 42, 180, 0, 30, 21, 8, 46]
abbrev dktX5_soundBy_5 : List UInt8 := dkwX5_soundBy_5 ++ dktX5_soundBy_6
def dkwX5_soundBy_4 : List UInt8 := [112, 54, 8, 42, 180, 0, 7, 16, 19, 21, 7, 96, 46, 154, 0, 41, 42, 180, 0, 7, 16, 19, 21, 8]
abbrev dktX5_soundBy_4 : List UInt8 := dkwX5_soundBy_4 ++ dktX5_soundBy_5
def dkwX5_soundBy_3 : List UInt8 := [162, 0, 130, 21, 6, 42, 180, 0, 7, 16, 11, 46, 108, 54, 7, 21, 6, 42, 180, 0, 7, 16, 11, 46]
abbrev dktX5_soundBy_3 : List UInt8 := dkwX5_soundBy_3 ++ dktX5_soundBy_4
def dkwX5_soundBy_2 : List UInt8 := [3, 54, 5, 3, 54, 6, 21, 6, 42, 180, 0, 7, 16, 11, 46, 42, 180, 0, 7, 16, 11, 46, 104]
abbrev dktX5_soundBy_2 : List UInt8 := dkwX5_soundBy_2 ++ dktX5_soundBy_3
def dkwX5_soundBy_1 : List UInt8 := [21, 4, 160, 0, 7, 3, 167, 0, 11, 42, 27, 21, 5, 29, 182, 0, 146, 79, 132, 5, 1, 167, 255, 215]
abbrev dktX5_soundBy_1 : List UInt8 := dkwX5_soundBy_1 ++ dktX5_soundBy_2
def dkwX5_soundBy_0 : List UInt8 := [3, 54, 5, 21, 5, 42, 180, 0, 7, 16, 11, 46, 162, 0, 35, 42, 180, 0, 30, 21, 5, 21, 5]
abbrev dktX5_soundBy_0 : List UInt8 := dkwX5_soundBy_0 ++ dktX5_soundBy_1
theorem dksX5_soundBy_0 : cX5_soundBy.data.toList.drop 0 = dktX5_soundBy_0 := by decide +kernel
theorem dksX5_soundBy_1 : cX5_soundBy.data.toList.drop 23 = dktX5_soundBy_1 := dk_seg dksX5_soundBy_0 23 rfl rfl
theorem dksX5_soundBy_2 : cX5_soundBy.data.toList.drop 47 = dktX5_soundBy_2 := dk_seg dksX5_soundBy_1 24 rfl rfl
theorem dksX5_soundBy_3 : cX5_soundBy.data.toList.drop 70 = dktX5_soundBy_3 := dk_seg dksX5_soundBy_2 23 rfl rfl
theorem dksX5_soundBy_4 : cX5_soundBy.data.toList.drop 94 = dktX5_soundBy_4 := dk_seg dksX5_soundBy_3 24 rfl rfl
theorem dksX5_soundBy_5 : cX5_soundBy.data.toList.drop 118 = dktX5_soundBy_5 := dk_seg dksX5_soundBy_4 24 rfl rfl
theorem dksX5_soundBy_6 : cX5_soundBy.data.toList.drop 141 = dktX5_soundBy_6 := dk_seg dksX5_soundBy_5 23 rfl rfl
theorem dksX5_soundBy_7 : cX5_soundBy.data.toList.drop 165 = dktX5_soundBy_7 := dk_seg dksX5_soundBy_6 24 rfl rfl
theorem dksX5_soundBy_8 : cX5_soundBy.data.toList.drop 187 = dktX5_soundBy_8 := dk_seg dksX5_soundBy_7 22 rfl rfl
theorem dX5_soundBy_0 : decode cX5_soundBy 0 = .ok (.iconst 0, 1) := dk_3 (dk_at dksX5_soundBy_0 0 rfl rfl)
theorem dX5_soundBy_1 : decode cX5_soundBy 1 = .ok (.istore 5, 2) := dk_54 5 (dk_at dksX5_soundBy_0 1 rfl rfl)
theorem dX5_soundBy_3 : decode cX5_soundBy 3 = .ok (.iload 5, 2) := dk_21 5 (dk_at dksX5_soundBy_0 3 rfl rfl)
theorem dX5_soundBy_5 : decode cX5_soundBy 5 = .ok (.aload_n 0, 1) := dk_42 (dk_at dksX5_soundBy_0 5 rfl rfl)
theorem dX5_soundBy_6 : decode cX5_soundBy 6 = .ok (.getfield 7, 3) := dk_180 0 7 (dk_at dksX5_soundBy_0 6 rfl rfl)
theorem dX5_soundBy_9 : decode cX5_soundBy 9 = .ok (.bipush 11, 2) := dk_16 11 (dk_at dksX5_soundBy_0 9 rfl rfl)
theorem dX5_soundBy_11 : decode cX5_soundBy 11 = .ok (.iaload, 1) := dk_46 (dk_at dksX5_soundBy_0 11 rfl rfl)
theorem dX5_soundBy_12 : decode cX5_soundBy 12 = .ok (.if_icmp .ge 35, 3) := dk_162 0 35 (dk_at dksX5_soundBy_0 12 rfl rfl)
theorem dX5_soundBy_15 : decode cX5_soundBy 15 = .ok (.aload_n 0, 1) := dk_42 (dk_at dksX5_soundBy_0 15 rfl rfl)
theorem dX5_soundBy_16 : decode cX5_soundBy 16 = .ok (.getfield 30, 3) := dk_180 0 30 (dk_at dksX5_soundBy_0 16 rfl rfl)
theorem dX5_soundBy_19 : decode cX5_soundBy 19 = .ok (.iload 5, 2) := dk_21 5 (dk_at dksX5_soundBy_0 19 rfl rfl)
theorem dX5_soundBy_21 : decode cX5_soundBy 21 = .ok (.iload 5, 2) := dk_21 5 (dk_at dksX5_soundBy_0 21 rfl rfl)
theorem dX5_soundBy_23 : decode cX5_soundBy 23 = .ok (.iload 4, 2) := dk_21 4 (dk_at dksX5_soundBy_1 0 rfl rfl)
theorem dX5_soundBy_25 : decode cX5_soundBy 25 = .ok (.if_icmp .ne 7, 3) := dk_160 0 7 (dk_at dksX5_soundBy_1 2 rfl rfl)
theorem dX5_soundBy_28 : decode cX5_soundBy 28 = .ok (.iconst 0, 1) := dk_3 (dk_at dksX5_soundBy_1 5 rfl rfl)
theorem dX5_soundBy_29 : decode cX5_soundBy 29 = .ok (.goto 11, 3) := dk_167 0 11 (dk_at dksX5_soundBy_1 6 rfl rfl)
theorem dX5_soundBy_32 : decode cX5_soundBy 32 = .ok (.aload_n 0, 1) := dk_42 (dk_at dksX5_soundBy_1 9 rfl rfl)
theorem dX5_soundBy_33 : decode cX5_soundBy 33 = .ok (.iload_n 1, 1) := dk_27 (dk_at dksX5_soundBy_1 10 rfl rfl)
theorem dX5_soundBy_34 : decode cX5_soundBy 34 = .ok (.iload 5, 2) := dk_21 5 (dk_at dksX5_soundBy_1 11 rfl rfl)
theorem dX5_soundBy_36 : decode cX5_soundBy 36 = .ok (.iload_n 3, 1) := dk_29 (dk_at dksX5_soundBy_1 13 rfl rfl)
theorem dX5_soundBy_37 : decode cX5_soundBy 37 = .ok (.invokevirtual 146, 3) := dk_182 0 146 (dk_at dksX5_soundBy_1 14 rfl rfl)
theorem dX5_soundBy_40 : decode cX5_soundBy 40 = .ok (.iastore, 1) := dk_79 (dk_at dksX5_soundBy_1 17 rfl rfl)
theorem dX5_soundBy_41 : decode cX5_soundBy 41 = .ok (.iinc 5 1, 3) := dk_132 5 1 (dk_at dksX5_soundBy_1 18 rfl rfl)
theorem dX5_soundBy_44 : decode cX5_soundBy 44 = .ok (.goto (-41), 3) := dk_167 255 215 (dk_at dksX5_soundBy_1 21 rfl rfl)
theorem dX5_soundBy_47 : decode cX5_soundBy 47 = .ok (.iconst 0, 1) := dk_3 (dk_at dksX5_soundBy_2 0 rfl rfl)
theorem dX5_soundBy_48 : decode cX5_soundBy 48 = .ok (.istore 5, 2) := dk_54 5 (dk_at dksX5_soundBy_2 1 rfl rfl)
theorem dX5_soundBy_50 : decode cX5_soundBy 50 = .ok (.iconst 0, 1) := dk_3 (dk_at dksX5_soundBy_2 3 rfl rfl)
theorem dX5_soundBy_51 : decode cX5_soundBy 51 = .ok (.istore 6, 2) := dk_54 6 (dk_at dksX5_soundBy_2 4 rfl rfl)
theorem dX5_soundBy_53 : decode cX5_soundBy 53 = .ok (.iload 6, 2) := dk_21 6 (dk_at dksX5_soundBy_2 6 rfl rfl)
theorem dX5_soundBy_55 : decode cX5_soundBy 55 = .ok (.aload_n 0, 1) := dk_42 (dk_at dksX5_soundBy_2 8 rfl rfl)
theorem dX5_soundBy_56 : decode cX5_soundBy 56 = .ok (.getfield 7, 3) := dk_180 0 7 (dk_at dksX5_soundBy_2 9 rfl rfl)
theorem dX5_soundBy_59 : decode cX5_soundBy 59 = .ok (.bipush 11, 2) := dk_16 11 (dk_at dksX5_soundBy_2 12 rfl rfl)
theorem dX5_soundBy_61 : decode cX5_soundBy 61 = .ok (.iaload, 1) := dk_46 (dk_at dksX5_soundBy_2 14 rfl rfl)
theorem dX5_soundBy_62 : decode cX5_soundBy 62 = .ok (.aload_n 0, 1) := dk_42 (dk_at dksX5_soundBy_2 15 rfl rfl)
theorem dX5_soundBy_63 : decode cX5_soundBy 63 = .ok (.getfield 7, 3) := dk_180 0 7 (dk_at dksX5_soundBy_2 16 rfl rfl)
theorem dX5_soundBy_66 : decode cX5_soundBy 66 = .ok (.bipush 11, 2) := dk_16 11 (dk_at dksX5_soundBy_2 19 rfl rfl)
theorem dX5_soundBy_68 : decode cX5_soundBy 68 = .ok (.iaload, 1) := dk_46 (dk_at dksX5_soundBy_2 21 rfl rfl)
theorem dX5_soundBy_69 : decode cX5_soundBy 69 = .ok (.imul, 1) := dk_104 (dk_at dksX5_soundBy_2 22 rfl rfl)
theorem dX5_soundBy_70 : decode cX5_soundBy 70 = .ok (.if_icmp .ge 130, 3) := dk_162 0 130 (dk_at dksX5_soundBy_3 0 rfl rfl)
theorem dX5_soundBy_73 : decode cX5_soundBy 73 = .ok (.iload 6, 2) := dk_21 6 (dk_at dksX5_soundBy_3 3 rfl rfl)
theorem dX5_soundBy_75 : decode cX5_soundBy 75 = .ok (.aload_n 0, 1) := dk_42 (dk_at dksX5_soundBy_3 5 rfl rfl)
theorem dX5_soundBy_76 : decode cX5_soundBy 76 = .ok (.getfield 7, 3) := dk_180 0 7 (dk_at dksX5_soundBy_3 6 rfl rfl)
theorem dX5_soundBy_79 : decode cX5_soundBy 79 = .ok (.bipush 11, 2) := dk_16 11 (dk_at dksX5_soundBy_3 9 rfl rfl)
theorem dX5_soundBy_81 : decode cX5_soundBy 81 = .ok (.iaload, 1) := dk_46 (dk_at dksX5_soundBy_3 11 rfl rfl)
theorem dX5_soundBy_82 : decode cX5_soundBy 82 = .ok (.idiv, 1) := dk_108 (dk_at dksX5_soundBy_3 12 rfl rfl)
theorem dX5_soundBy_83 : decode cX5_soundBy 83 = .ok (.istore 7, 2) := dk_54 7 (dk_at dksX5_soundBy_3 13 rfl rfl)
theorem dX5_soundBy_85 : decode cX5_soundBy 85 = .ok (.iload 6, 2) := dk_21 6 (dk_at dksX5_soundBy_3 15 rfl rfl)
theorem dX5_soundBy_87 : decode cX5_soundBy 87 = .ok (.aload_n 0, 1) := dk_42 (dk_at dksX5_soundBy_3 17 rfl rfl)
theorem dX5_soundBy_88 : decode cX5_soundBy 88 = .ok (.getfield 7, 3) := dk_180 0 7 (dk_at dksX5_soundBy_3 18 rfl rfl)
theorem dX5_soundBy_91 : decode cX5_soundBy 91 = .ok (.bipush 11, 2) := dk_16 11 (dk_at dksX5_soundBy_3 21 rfl rfl)
theorem dX5_soundBy_93 : decode cX5_soundBy 93 = .ok (.iaload, 1) := dk_46 (dk_at dksX5_soundBy_3 23 rfl rfl)
theorem dX5_soundBy_94 : decode cX5_soundBy 94 = .ok (.irem, 1) := dk_112 (dk_at dksX5_soundBy_4 0 rfl rfl)
theorem dX5_soundBy_95 : decode cX5_soundBy 95 = .ok (.istore 8, 2) := dk_54 8 (dk_at dksX5_soundBy_4 1 rfl rfl)
theorem dX5_soundBy_97 : decode cX5_soundBy 97 = .ok (.aload_n 0, 1) := dk_42 (dk_at dksX5_soundBy_4 3 rfl rfl)
theorem dX5_soundBy_98 : decode cX5_soundBy 98 = .ok (.getfield 7, 3) := dk_180 0 7 (dk_at dksX5_soundBy_4 4 rfl rfl)
theorem dX5_soundBy_101 : decode cX5_soundBy 101 = .ok (.bipush 19, 2) := dk_16 19 (dk_at dksX5_soundBy_4 7 rfl rfl)
theorem dX5_soundBy_103 : decode cX5_soundBy 103 = .ok (.iload 7, 2) := dk_21 7 (dk_at dksX5_soundBy_4 9 rfl rfl)
theorem dX5_soundBy_105 : decode cX5_soundBy 105 = .ok (.iadd, 1) := dk_96 (dk_at dksX5_soundBy_4 11 rfl rfl)
theorem dX5_soundBy_106 : decode cX5_soundBy 106 = .ok (.iaload, 1) := dk_46 (dk_at dksX5_soundBy_4 12 rfl rfl)
theorem dX5_soundBy_107 : decode cX5_soundBy 107 = .ok (.ifCond .ne 41, 3) := dk_154 0 41 (dk_at dksX5_soundBy_4 13 rfl rfl)
theorem dX5_soundBy_110 : decode cX5_soundBy 110 = .ok (.aload_n 0, 1) := dk_42 (dk_at dksX5_soundBy_4 16 rfl rfl)
theorem dX5_soundBy_111 : decode cX5_soundBy 111 = .ok (.getfield 7, 3) := dk_180 0 7 (dk_at dksX5_soundBy_4 17 rfl rfl)
theorem dX5_soundBy_114 : decode cX5_soundBy 114 = .ok (.bipush 19, 2) := dk_16 19 (dk_at dksX5_soundBy_4 20 rfl rfl)
theorem dX5_soundBy_116 : decode cX5_soundBy 116 = .ok (.iload 8, 2) := dk_21 8 (dk_at dksX5_soundBy_4 22 rfl rfl)
theorem dX5_soundBy_118 : decode cX5_soundBy 118 = .ok (.iadd, 1) := dk_96 (dk_at dksX5_soundBy_5 0 rfl rfl)
theorem dX5_soundBy_119 : decode cX5_soundBy 119 = .ok (.iaload, 1) := dk_46 (dk_at dksX5_soundBy_5 1 rfl rfl)
theorem dX5_soundBy_120 : decode cX5_soundBy 120 = .ok (.iconst 1, 1) := dk_4 (dk_at dksX5_soundBy_5 2 rfl rfl)
theorem dX5_soundBy_121 : decode cX5_soundBy 121 = .ok (.if_icmp .ne 27, 3) := dk_160 0 27 (dk_at dksX5_soundBy_5 3 rfl rfl)
theorem dX5_soundBy_124 : decode cX5_soundBy 124 = .ok (.aload_n 0, 1) := dk_42 (dk_at dksX5_soundBy_5 6 rfl rfl)
theorem dX5_soundBy_125 : decode cX5_soundBy 125 = .ok (.getfield 30, 3) := dk_180 0 30 (dk_at dksX5_soundBy_5 7 rfl rfl)
theorem dX5_soundBy_128 : decode cX5_soundBy 128 = .ok (.iload 7, 2) := dk_21 7 (dk_at dksX5_soundBy_5 10 rfl rfl)
theorem dX5_soundBy_130 : decode cX5_soundBy 130 = .ok (.iaload, 1) := dk_46 (dk_at dksX5_soundBy_5 12 rfl rfl)
theorem dX5_soundBy_131 : decode cX5_soundBy 131 = .ok (.ifCond .le 17, 3) := dk_158 0 17 (dk_at dksX5_soundBy_5 13 rfl rfl)
theorem dX5_soundBy_134 : decode cX5_soundBy 134 = .ok (.aload_n 0, 1) := dk_42 (dk_at dksX5_soundBy_5 16 rfl rfl)
theorem dX5_soundBy_135 : decode cX5_soundBy 135 = .ok (.getfield 30, 3) := dk_180 0 30 (dk_at dksX5_soundBy_5 17 rfl rfl)
theorem dX5_soundBy_138 : decode cX5_soundBy 138 = .ok (.iload 8, 2) := dk_21 8 (dk_at dksX5_soundBy_5 20 rfl rfl)
theorem dX5_soundBy_140 : decode cX5_soundBy 140 = .ok (.iaload, 1) := dk_46 (dk_at dksX5_soundBy_5 22 rfl rfl)
theorem dX5_soundBy_141 : decode cX5_soundBy 141 = .ok (.ifCond .le 7, 3) := dk_158 0 7 (dk_at dksX5_soundBy_6 0 rfl rfl)
theorem dX5_soundBy_144 : decode cX5_soundBy 144 = .ok (.iconst 1, 1) := dk_4 (dk_at dksX5_soundBy_6 3 rfl rfl)
theorem dX5_soundBy_145 : decode cX5_soundBy 145 = .ok (.goto 4, 3) := dk_167 0 4 (dk_at dksX5_soundBy_6 4 rfl rfl)
theorem dX5_soundBy_148 : decode cX5_soundBy 148 = .ok (.iconst 0, 1) := dk_3 (dk_at dksX5_soundBy_6 7 rfl rfl)
theorem dX5_soundBy_149 : decode cX5_soundBy 149 = .ok (.istore 9, 2) := dk_54 9 (dk_at dksX5_soundBy_6 8 rfl rfl)
theorem dX5_soundBy_151 : decode cX5_soundBy 151 = .ok (.aload_n 0, 1) := dk_42 (dk_at dksX5_soundBy_6 10 rfl rfl)
theorem dX5_soundBy_152 : decode cX5_soundBy 152 = .ok (.getfield 30, 3) := dk_180 0 30 (dk_at dksX5_soundBy_6 11 rfl rfl)
theorem dX5_soundBy_155 : decode cX5_soundBy 155 = .ok (.iload 7, 2) := dk_21 7 (dk_at dksX5_soundBy_6 14 rfl rfl)
theorem dX5_soundBy_157 : decode cX5_soundBy 157 = .ok (.iaload, 1) := dk_46 (dk_at dksX5_soundBy_6 16 rfl rfl)
theorem dX5_soundBy_158 : decode cX5_soundBy 158 = .ok (.aload_n 0, 1) := dk_42 (dk_at dksX5_soundBy_6 17 rfl rfl)
theorem dX5_soundBy_159 : decode cX5_soundBy 159 = .ok (.getfield 30, 3) := dk_180 0 30 (dk_at dksX5_soundBy_6 18 rfl rfl)
theorem dX5_soundBy_162 : decode cX5_soundBy 162 = .ok (.iload 8, 2) := dk_21 8 (dk_at dksX5_soundBy_6 21 rfl rfl)
theorem dX5_soundBy_164 : decode cX5_soundBy 164 = .ok (.iaload, 1) := dk_46 (dk_at dksX5_soundBy_6 23 rfl rfl)
theorem dX5_soundBy_165 : decode cX5_soundBy 165 = .ok (.iadd, 1) := dk_96 (dk_at dksX5_soundBy_7 0 rfl rfl)
theorem dX5_soundBy_166 : decode cX5_soundBy 166 = .ok (.istore 10, 2) := dk_54 10 (dk_at dksX5_soundBy_7 1 rfl rfl)
theorem dX5_soundBy_168 : decode cX5_soundBy 168 = .ok (.iload 5, 2) := dk_21 5 (dk_at dksX5_soundBy_7 3 rfl rfl)
theorem dX5_soundBy_170 : decode cX5_soundBy 170 = .ok (.iload 9, 2) := dk_21 9 (dk_at dksX5_soundBy_7 5 rfl rfl)
theorem dX5_soundBy_172 : decode cX5_soundBy 172 = .ok (.ifCond .eq 18, 3) := dk_153 0 18 (dk_at dksX5_soundBy_7 7 rfl rfl)
theorem dX5_soundBy_175 : decode cX5_soundBy 175 = .ok (.iload 10, 2) := dk_21 10 (dk_at dksX5_soundBy_7 10 rfl rfl)
theorem dX5_soundBy_177 : decode cX5_soundBy 177 = .ok (.iload_n 2, 1) := dk_28 (dk_at dksX5_soundBy_7 12 rfl rfl)
theorem dX5_soundBy_178 : decode cX5_soundBy 178 = .ok (.if_icmp .lt 12, 3) := dk_161 0 12 (dk_at dksX5_soundBy_7 13 rfl rfl)
theorem dX5_soundBy_181 : decode cX5_soundBy 181 = .ok (.iload 10, 2) := dk_21 10 (dk_at dksX5_soundBy_7 16 rfl rfl)
theorem dX5_soundBy_183 : decode cX5_soundBy 183 = .ok (.iload_n 2, 1) := dk_28 (dk_at dksX5_soundBy_7 18 rfl rfl)
theorem dX5_soundBy_184 : decode cX5_soundBy 184 = .ok (.isub, 1) := dk_100 (dk_at dksX5_soundBy_7 19 rfl rfl)
theorem dX5_soundBy_185 : decode cX5_soundBy 185 = .ok (.iconst 1, 1) := dk_4 (dk_at dksX5_soundBy_7 20 rfl rfl)
theorem dX5_soundBy_186 : decode cX5_soundBy 186 = .ok (.iadd, 1) := dk_96 (dk_at dksX5_soundBy_7 21 rfl rfl)
theorem dX5_soundBy_187 : decode cX5_soundBy 187 = .ok (.goto 4, 3) := dk_167 0 4 (dk_at dksX5_soundBy_8 0 rfl rfl)
theorem dX5_soundBy_190 : decode cX5_soundBy 190 = .ok (.iconst 0, 1) := dk_3 (dk_at dksX5_soundBy_8 3 rfl rfl)
theorem dX5_soundBy_191 : decode cX5_soundBy 191 = .ok (.iadd, 1) := dk_96 (dk_at dksX5_soundBy_8 4 rfl rfl)
theorem dX5_soundBy_192 : decode cX5_soundBy 192 = .ok (.istore 5, 2) := dk_54 5 (dk_at dksX5_soundBy_8 5 rfl rfl)
theorem dX5_soundBy_194 : decode cX5_soundBy 194 = .ok (.iinc 6 1, 3) := dk_132 6 1 (dk_at dksX5_soundBy_8 7 rfl rfl)
theorem dX5_soundBy_197 : decode cX5_soundBy 197 = .ok (.goto (-144), 3) := dk_167 255 112 (dk_at dksX5_soundBy_8 10 rfl rfl)
theorem dX5_soundBy_200 : decode cX5_soundBy 200 = .ok (.iload 5, 2) := dk_21 5 (dk_at dksX5_soundBy_8 13 rfl rfl)
theorem dX5_soundBy_202 : decode cX5_soundBy 202 = .ok (.ireturn, 1) := dk_172 (dk_at dksX5_soundBy_8 15 rfl rfl)
abbrev cX5_leaning : ByteArray := prog_20_method_30_code
def yX5_leaning : MethodName := ⟨RX5, "leaning", "(III)I"⟩
def dkwX5_leaning_4 : List UInt8 := [167, 0, 5, 21, 4, 54, 4, 132, 5, 1, 167, 255, 179, 21, 4, 172]
abbrev dktX5_leaning_4 : List UInt8 := dkwX5_leaning_4 ++ []
def dkwX5_leaning_3 : List UInt8 := [16, 19, 28, 96, 46, 160, 0, 22, 42, 180, 0, 7, 16, 27, 21, 5, 96, 46, 21, 4, 29, 184, 0, 143]
abbrev dktX5_leaning_3 : List UInt8 := dkwX5_leaning_3 ++ dktX5_leaning_4
def dkwX5_leaning_2 : List UInt8 := [96, 46, 21, 5, 184, 0, 139, 153, 0, 44, 42, 180, 0, 7, 16, 31, 21, 5, 96, 46, 42, 180, 0, 7]
abbrev dktX5_leaning_2 : List UInt8 := dkwX5_leaning_2 ++ dktX5_leaning_3
def dkwX5_leaning_1 : List UInt8 := [54, 4, 3, 54, 5, 21, 5, 42, 180, 0, 7, 16, 26, 46, 162, 0, 71, 42, 180, 0, 7, 27, 16, 7]
abbrev dktX5_leaning_1 : List UInt8 := dkwX5_leaning_1 ++ dktX5_leaning_2
def dkwX5_leaning_0 : List UInt8 := [42, 180, 0, 7, 16, 12, 28, 96, 46, 42, 180, 0, 7, 27, 3, 96, 28, 96, 46, 29, 184, 0, 135]
abbrev dktX5_leaning_0 : List UInt8 := dkwX5_leaning_0 ++ dktX5_leaning_1
theorem dksX5_leaning_0 : cX5_leaning.data.toList.drop 0 = dktX5_leaning_0 := by decide +kernel
theorem dksX5_leaning_1 : cX5_leaning.data.toList.drop 23 = dktX5_leaning_1 := dk_seg dksX5_leaning_0 23 rfl rfl
theorem dksX5_leaning_2 : cX5_leaning.data.toList.drop 47 = dktX5_leaning_2 := dk_seg dksX5_leaning_1 24 rfl rfl
theorem dksX5_leaning_3 : cX5_leaning.data.toList.drop 71 = dktX5_leaning_3 := dk_seg dksX5_leaning_2 24 rfl rfl
theorem dksX5_leaning_4 : cX5_leaning.data.toList.drop 95 = dktX5_leaning_4 := dk_seg dksX5_leaning_3 24 rfl rfl
theorem dX5_leaning_0 : decode cX5_leaning 0 = .ok (.aload_n 0, 1) := dk_42 (dk_at dksX5_leaning_0 0 rfl rfl)
theorem dX5_leaning_1 : decode cX5_leaning 1 = .ok (.getfield 7, 3) := dk_180 0 7 (dk_at dksX5_leaning_0 1 rfl rfl)
theorem dX5_leaning_4 : decode cX5_leaning 4 = .ok (.bipush 12, 2) := dk_16 12 (dk_at dksX5_leaning_0 4 rfl rfl)
theorem dX5_leaning_6 : decode cX5_leaning 6 = .ok (.iload_n 2, 1) := dk_28 (dk_at dksX5_leaning_0 6 rfl rfl)
theorem dX5_leaning_7 : decode cX5_leaning 7 = .ok (.iadd, 1) := dk_96 (dk_at dksX5_leaning_0 7 rfl rfl)
theorem dX5_leaning_8 : decode cX5_leaning 8 = .ok (.iaload, 1) := dk_46 (dk_at dksX5_leaning_0 8 rfl rfl)
theorem dX5_leaning_9 : decode cX5_leaning 9 = .ok (.aload_n 0, 1) := dk_42 (dk_at dksX5_leaning_0 9 rfl rfl)
theorem dX5_leaning_10 : decode cX5_leaning 10 = .ok (.getfield 7, 3) := dk_180 0 7 (dk_at dksX5_leaning_0 10 rfl rfl)
theorem dX5_leaning_13 : decode cX5_leaning 13 = .ok (.iload_n 1, 1) := dk_27 (dk_at dksX5_leaning_0 13 rfl rfl)
theorem dX5_leaning_14 : decode cX5_leaning 14 = .ok (.iconst 0, 1) := dk_3 (dk_at dksX5_leaning_0 14 rfl rfl)
theorem dX5_leaning_15 : decode cX5_leaning 15 = .ok (.iadd, 1) := dk_96 (dk_at dksX5_leaning_0 15 rfl rfl)
theorem dX5_leaning_16 : decode cX5_leaning 16 = .ok (.iload_n 2, 1) := dk_28 (dk_at dksX5_leaning_0 16 rfl rfl)
theorem dX5_leaning_17 : decode cX5_leaning 17 = .ok (.iadd, 1) := dk_96 (dk_at dksX5_leaning_0 17 rfl rfl)
theorem dX5_leaning_18 : decode cX5_leaning 18 = .ok (.iaload, 1) := dk_46 (dk_at dksX5_leaning_0 18 rfl rfl)
theorem dX5_leaning_19 : decode cX5_leaning 19 = .ok (.iload_n 3, 1) := dk_29 (dk_at dksX5_leaning_0 19 rfl rfl)
theorem dX5_leaning_20 : decode cX5_leaning 20 = .ok (.invokestatic 135, 3) := dk_184 0 135 (dk_at dksX5_leaning_0 20 rfl rfl)
theorem dX5_leaning_23 : decode cX5_leaning 23 = .ok (.istore 4, 2) := dk_54 4 (dk_at dksX5_leaning_1 0 rfl rfl)
theorem dX5_leaning_25 : decode cX5_leaning 25 = .ok (.iconst 0, 1) := dk_3 (dk_at dksX5_leaning_1 2 rfl rfl)
theorem dX5_leaning_26 : decode cX5_leaning 26 = .ok (.istore 5, 2) := dk_54 5 (dk_at dksX5_leaning_1 3 rfl rfl)
theorem dX5_leaning_28 : decode cX5_leaning 28 = .ok (.iload 5, 2) := dk_21 5 (dk_at dksX5_leaning_1 5 rfl rfl)
theorem dX5_leaning_30 : decode cX5_leaning 30 = .ok (.aload_n 0, 1) := dk_42 (dk_at dksX5_leaning_1 7 rfl rfl)
theorem dX5_leaning_31 : decode cX5_leaning 31 = .ok (.getfield 7, 3) := dk_180 0 7 (dk_at dksX5_leaning_1 8 rfl rfl)
theorem dX5_leaning_34 : decode cX5_leaning 34 = .ok (.bipush 26, 2) := dk_16 26 (dk_at dksX5_leaning_1 11 rfl rfl)
theorem dX5_leaning_36 : decode cX5_leaning 36 = .ok (.iaload, 1) := dk_46 (dk_at dksX5_leaning_1 13 rfl rfl)
theorem dX5_leaning_37 : decode cX5_leaning 37 = .ok (.if_icmp .ge 71, 3) := dk_162 0 71 (dk_at dksX5_leaning_1 14 rfl rfl)
theorem dX5_leaning_40 : decode cX5_leaning 40 = .ok (.aload_n 0, 1) := dk_42 (dk_at dksX5_leaning_1 17 rfl rfl)
theorem dX5_leaning_41 : decode cX5_leaning 41 = .ok (.getfield 7, 3) := dk_180 0 7 (dk_at dksX5_leaning_1 18 rfl rfl)
theorem dX5_leaning_44 : decode cX5_leaning 44 = .ok (.iload_n 1, 1) := dk_27 (dk_at dksX5_leaning_1 21 rfl rfl)
theorem dX5_leaning_45 : decode cX5_leaning 45 = .ok (.bipush 7, 2) := dk_16 7 (dk_at dksX5_leaning_1 22 rfl rfl)
theorem dX5_leaning_47 : decode cX5_leaning 47 = .ok (.iadd, 1) := dk_96 (dk_at dksX5_leaning_2 0 rfl rfl)
theorem dX5_leaning_48 : decode cX5_leaning 48 = .ok (.iaload, 1) := dk_46 (dk_at dksX5_leaning_2 1 rfl rfl)
theorem dX5_leaning_49 : decode cX5_leaning 49 = .ok (.iload 5, 2) := dk_21 5 (dk_at dksX5_leaning_2 2 rfl rfl)
theorem dX5_leaning_51 : decode cX5_leaning 51 = .ok (.invokestatic 139, 3) := dk_184 0 139 (dk_at dksX5_leaning_2 4 rfl rfl)
theorem dX5_leaning_54 : decode cX5_leaning 54 = .ok (.ifCond .eq 44, 3) := dk_153 0 44 (dk_at dksX5_leaning_2 7 rfl rfl)
theorem dX5_leaning_57 : decode cX5_leaning 57 = .ok (.aload_n 0, 1) := dk_42 (dk_at dksX5_leaning_2 10 rfl rfl)
theorem dX5_leaning_58 : decode cX5_leaning 58 = .ok (.getfield 7, 3) := dk_180 0 7 (dk_at dksX5_leaning_2 11 rfl rfl)
theorem dX5_leaning_61 : decode cX5_leaning 61 = .ok (.bipush 31, 2) := dk_16 31 (dk_at dksX5_leaning_2 14 rfl rfl)
theorem dX5_leaning_63 : decode cX5_leaning 63 = .ok (.iload 5, 2) := dk_21 5 (dk_at dksX5_leaning_2 16 rfl rfl)
theorem dX5_leaning_65 : decode cX5_leaning 65 = .ok (.iadd, 1) := dk_96 (dk_at dksX5_leaning_2 18 rfl rfl)
theorem dX5_leaning_66 : decode cX5_leaning 66 = .ok (.iaload, 1) := dk_46 (dk_at dksX5_leaning_2 19 rfl rfl)
theorem dX5_leaning_67 : decode cX5_leaning 67 = .ok (.aload_n 0, 1) := dk_42 (dk_at dksX5_leaning_2 20 rfl rfl)
theorem dX5_leaning_68 : decode cX5_leaning 68 = .ok (.getfield 7, 3) := dk_180 0 7 (dk_at dksX5_leaning_2 21 rfl rfl)
theorem dX5_leaning_71 : decode cX5_leaning 71 = .ok (.bipush 19, 2) := dk_16 19 (dk_at dksX5_leaning_3 0 rfl rfl)
theorem dX5_leaning_73 : decode cX5_leaning 73 = .ok (.iload_n 2, 1) := dk_28 (dk_at dksX5_leaning_3 2 rfl rfl)
theorem dX5_leaning_74 : decode cX5_leaning 74 = .ok (.iadd, 1) := dk_96 (dk_at dksX5_leaning_3 3 rfl rfl)
theorem dX5_leaning_75 : decode cX5_leaning 75 = .ok (.iaload, 1) := dk_46 (dk_at dksX5_leaning_3 4 rfl rfl)
theorem dX5_leaning_76 : decode cX5_leaning 76 = .ok (.if_icmp .ne 22, 3) := dk_160 0 22 (dk_at dksX5_leaning_3 5 rfl rfl)
theorem dX5_leaning_79 : decode cX5_leaning 79 = .ok (.aload_n 0, 1) := dk_42 (dk_at dksX5_leaning_3 8 rfl rfl)
theorem dX5_leaning_80 : decode cX5_leaning 80 = .ok (.getfield 7, 3) := dk_180 0 7 (dk_at dksX5_leaning_3 9 rfl rfl)
theorem dX5_leaning_83 : decode cX5_leaning 83 = .ok (.bipush 27, 2) := dk_16 27 (dk_at dksX5_leaning_3 12 rfl rfl)
theorem dX5_leaning_85 : decode cX5_leaning 85 = .ok (.iload 5, 2) := dk_21 5 (dk_at dksX5_leaning_3 14 rfl rfl)
theorem dX5_leaning_87 : decode cX5_leaning 87 = .ok (.iadd, 1) := dk_96 (dk_at dksX5_leaning_3 16 rfl rfl)
theorem dX5_leaning_88 : decode cX5_leaning 88 = .ok (.iaload, 1) := dk_46 (dk_at dksX5_leaning_3 17 rfl rfl)
theorem dX5_leaning_89 : decode cX5_leaning 89 = .ok (.iload 4, 2) := dk_21 4 (dk_at dksX5_leaning_3 18 rfl rfl)
theorem dX5_leaning_91 : decode cX5_leaning 91 = .ok (.iload_n 3, 1) := dk_29 (dk_at dksX5_leaning_3 20 rfl rfl)
theorem dX5_leaning_92 : decode cX5_leaning 92 = .ok (.invokestatic 143, 3) := dk_184 0 143 (dk_at dksX5_leaning_3 21 rfl rfl)
theorem dX5_leaning_95 : decode cX5_leaning 95 = .ok (.goto 5, 3) := dk_167 0 5 (dk_at dksX5_leaning_4 0 rfl rfl)
theorem dX5_leaning_98 : decode cX5_leaning 98 = .ok (.iload 4, 2) := dk_21 4 (dk_at dksX5_leaning_4 3 rfl rfl)
theorem dX5_leaning_100 : decode cX5_leaning 100 = .ok (.istore 4, 2) := dk_54 4 (dk_at dksX5_leaning_4 5 rfl rfl)
theorem dX5_leaning_102 : decode cX5_leaning 102 = .ok (.iinc 5 1, 3) := dk_132 5 1 (dk_at dksX5_leaning_4 7 rfl rfl)
theorem dX5_leaning_105 : decode cX5_leaning 105 = .ok (.goto (-77), 3) := dk_167 255 179 (dk_at dksX5_leaning_4 10 rfl rfl)
theorem dX5_leaning_108 : decode cX5_leaning 108 = .ok (.iload 4, 2) := dk_21 4 (dk_at dksX5_leaning_4 13 rfl rfl)
theorem dX5_leaning_110 : decode cX5_leaning 110 = .ok (.ireturn, 1) := dk_172 (dk_at dksX5_leaning_4 15 rfl rfl)
abbrev cX5_leansBy : ByteArray := prog_20_method_27_code
def yX5_leansBy : MethodName := ⟨RX5, "leansBy", "(III)I"⟩
def dkwX5_leansBy_4 : List UInt8 := [154, 0, 7, 3, 167, 0, 5, 21, 4, 172, 6, 21, 4, 5, 108, 104, 172, 21, 4, 172]
abbrev dktX5_leansBy_4 : List UInt8 := dkwX5_leansBy_4 ++ []
def dkwX5_leansBy_3 : List UInt8 := [21, 4, 158, 0, 10, 21, 4, 4, 96, 167, 0, 5, 21, 4, 172, 21, 4, 5, 108, 172, 28, 6, 112]
abbrev dktX5_leansBy_3 : List UInt8 := dkwX5_leansBy_3 ++ dktX5_leansBy_4
def dkwX5_leansBy_2 : List UInt8 := [170, 0, 0, 0, 0, 0, 0, 76, 0, 0, 0, 1, 0, 0, 0, 5, 0, 0, 0, 36, 0, 0, 0, 51, 0, 0, 0, 56, 0, 0, 0, 36, 0, 0, 0, 69]
abbrev dktX5_leansBy_2 : List UInt8 := dkwX5_leansBy_2 ++ dktX5_leansBy_3
def dkwX5_leansBy_1 : List UInt8 := [29, 7, 112, 6, 160, 0, 8, 27, 116, 167, 0, 4, 3, 54, 4, 26]
abbrev dktX5_leansBy_1 : List UInt8 := dkwX5_leansBy_1 ++ dktX5_leansBy_2
def dkwX5_leansBy_0 : List UInt8 := [26, 7, 160, 0, 9, 28, 4, 96, 167, 0, 4, 28, 62, 29, 7, 112, 4, 160, 0, 7, 27, 167, 0, 16]
abbrev dktX5_leansBy_0 : List UInt8 := dkwX5_leansBy_0 ++ dktX5_leansBy_1
theorem dksX5_leansBy_0 : cX5_leansBy.data.toList.drop 0 = dktX5_leansBy_0 := by decide +kernel
theorem dksX5_leansBy_1 : cX5_leansBy.data.toList.drop 24 = dktX5_leansBy_1 := dk_seg dksX5_leansBy_0 24 rfl rfl
theorem dksX5_leansBy_2 : cX5_leansBy.data.toList.drop 40 = dktX5_leansBy_2 := dk_seg dksX5_leansBy_1 16 rfl rfl
theorem dksX5_leansBy_3 : cX5_leansBy.data.toList.drop 76 = dktX5_leansBy_3 := dk_seg dksX5_leansBy_2 36 rfl rfl
theorem dksX5_leansBy_4 : cX5_leansBy.data.toList.drop 99 = dktX5_leansBy_4 := dk_seg dksX5_leansBy_3 23 rfl rfl
theorem dX5_leansBy_0 : decode cX5_leansBy 0 = .ok (.iload_n 0, 1) := dk_26 (dk_at dksX5_leansBy_0 0 rfl rfl)
theorem dX5_leansBy_1 : decode cX5_leansBy 1 = .ok (.iconst 4, 1) := dk_7 (dk_at dksX5_leansBy_0 1 rfl rfl)
theorem dX5_leansBy_2 : decode cX5_leansBy 2 = .ok (.if_icmp .ne 9, 3) := dk_160 0 9 (dk_at dksX5_leansBy_0 2 rfl rfl)
theorem dX5_leansBy_5 : decode cX5_leansBy 5 = .ok (.iload_n 2, 1) := dk_28 (dk_at dksX5_leansBy_0 5 rfl rfl)
theorem dX5_leansBy_6 : decode cX5_leansBy 6 = .ok (.iconst 1, 1) := dk_4 (dk_at dksX5_leansBy_0 6 rfl rfl)
theorem dX5_leansBy_7 : decode cX5_leansBy 7 = .ok (.iadd, 1) := dk_96 (dk_at dksX5_leansBy_0 7 rfl rfl)
theorem dX5_leansBy_8 : decode cX5_leansBy 8 = .ok (.goto 4, 3) := dk_167 0 4 (dk_at dksX5_leansBy_0 8 rfl rfl)
theorem dX5_leansBy_11 : decode cX5_leansBy 11 = .ok (.iload_n 2, 1) := dk_28 (dk_at dksX5_leansBy_0 11 rfl rfl)
theorem dX5_leansBy_12 : decode cX5_leansBy 12 = .ok (.istore_n 3, 1) := dk_62 (dk_at dksX5_leansBy_0 12 rfl rfl)
theorem dX5_leansBy_13 : decode cX5_leansBy 13 = .ok (.iload_n 3, 1) := dk_29 (dk_at dksX5_leansBy_0 13 rfl rfl)
theorem dX5_leansBy_14 : decode cX5_leansBy 14 = .ok (.iconst 4, 1) := dk_7 (dk_at dksX5_leansBy_0 14 rfl rfl)
theorem dX5_leansBy_15 : decode cX5_leansBy 15 = .ok (.irem, 1) := dk_112 (dk_at dksX5_leansBy_0 15 rfl rfl)
theorem dX5_leansBy_16 : decode cX5_leansBy 16 = .ok (.iconst 1, 1) := dk_4 (dk_at dksX5_leansBy_0 16 rfl rfl)
theorem dX5_leansBy_17 : decode cX5_leansBy 17 = .ok (.if_icmp .ne 7, 3) := dk_160 0 7 (dk_at dksX5_leansBy_0 17 rfl rfl)
theorem dX5_leansBy_20 : decode cX5_leansBy 20 = .ok (.iload_n 1, 1) := dk_27 (dk_at dksX5_leansBy_0 20 rfl rfl)
theorem dX5_leansBy_21 : decode cX5_leansBy 21 = .ok (.goto 16, 3) := dk_167 0 16 (dk_at dksX5_leansBy_0 21 rfl rfl)
theorem dX5_leansBy_24 : decode cX5_leansBy 24 = .ok (.iload_n 3, 1) := dk_29 (dk_at dksX5_leansBy_1 0 rfl rfl)
theorem dX5_leansBy_25 : decode cX5_leansBy 25 = .ok (.iconst 4, 1) := dk_7 (dk_at dksX5_leansBy_1 1 rfl rfl)
theorem dX5_leansBy_26 : decode cX5_leansBy 26 = .ok (.irem, 1) := dk_112 (dk_at dksX5_leansBy_1 2 rfl rfl)
theorem dX5_leansBy_27 : decode cX5_leansBy 27 = .ok (.iconst 3, 1) := dk_6 (dk_at dksX5_leansBy_1 3 rfl rfl)
theorem dX5_leansBy_28 : decode cX5_leansBy 28 = .ok (.if_icmp .ne 8, 3) := dk_160 0 8 (dk_at dksX5_leansBy_1 4 rfl rfl)
theorem dX5_leansBy_31 : decode cX5_leansBy 31 = .ok (.iload_n 1, 1) := dk_27 (dk_at dksX5_leansBy_1 7 rfl rfl)
theorem dX5_leansBy_32 : decode cX5_leansBy 32 = .ok (.ineg, 1) := dk_116 (dk_at dksX5_leansBy_1 8 rfl rfl)
theorem dX5_leansBy_33 : decode cX5_leansBy 33 = .ok (.goto 4, 3) := dk_167 0 4 (dk_at dksX5_leansBy_1 9 rfl rfl)
theorem dX5_leansBy_36 : decode cX5_leansBy 36 = .ok (.iconst 0, 1) := dk_3 (dk_at dksX5_leansBy_1 12 rfl rfl)
theorem dX5_leansBy_37 : decode cX5_leansBy 37 = .ok (.istore 4, 2) := dk_54 4 (dk_at dksX5_leansBy_1 13 rfl rfl)
theorem dX5_leansBy_39 : decode cX5_leansBy 39 = .ok (.iload_n 0, 1) := dk_26 (dk_at dksX5_leansBy_1 15 rfl rfl)
theorem dX5_leansBy_40 : decode cX5_leansBy 40 = .ok (.tableswitch 76 1 5 #[36, 51, 56, 36, 69], 36) := by decide +kernel
theorem dX5_leansBy_76 : decode cX5_leansBy 76 = .ok (.iload 4, 2) := dk_21 4 (dk_at dksX5_leansBy_3 0 rfl rfl)
theorem dX5_leansBy_78 : decode cX5_leansBy 78 = .ok (.ifCond .le 10, 3) := dk_158 0 10 (dk_at dksX5_leansBy_3 2 rfl rfl)
theorem dX5_leansBy_81 : decode cX5_leansBy 81 = .ok (.iload 4, 2) := dk_21 4 (dk_at dksX5_leansBy_3 5 rfl rfl)
theorem dX5_leansBy_83 : decode cX5_leansBy 83 = .ok (.iconst 1, 1) := dk_4 (dk_at dksX5_leansBy_3 7 rfl rfl)
theorem dX5_leansBy_84 : decode cX5_leansBy 84 = .ok (.iadd, 1) := dk_96 (dk_at dksX5_leansBy_3 8 rfl rfl)
theorem dX5_leansBy_85 : decode cX5_leansBy 85 = .ok (.goto 5, 3) := dk_167 0 5 (dk_at dksX5_leansBy_3 9 rfl rfl)
theorem dX5_leansBy_88 : decode cX5_leansBy 88 = .ok (.iload 4, 2) := dk_21 4 (dk_at dksX5_leansBy_3 12 rfl rfl)
theorem dX5_leansBy_90 : decode cX5_leansBy 90 = .ok (.ireturn, 1) := dk_172 (dk_at dksX5_leansBy_3 14 rfl rfl)
theorem dX5_leansBy_91 : decode cX5_leansBy 91 = .ok (.iload 4, 2) := dk_21 4 (dk_at dksX5_leansBy_3 15 rfl rfl)
theorem dX5_leansBy_93 : decode cX5_leansBy 93 = .ok (.iconst 2, 1) := dk_5 (dk_at dksX5_leansBy_3 17 rfl rfl)
theorem dX5_leansBy_94 : decode cX5_leansBy 94 = .ok (.idiv, 1) := dk_108 (dk_at dksX5_leansBy_3 18 rfl rfl)
theorem dX5_leansBy_95 : decode cX5_leansBy 95 = .ok (.ireturn, 1) := dk_172 (dk_at dksX5_leansBy_3 19 rfl rfl)
theorem dX5_leansBy_96 : decode cX5_leansBy 96 = .ok (.iload_n 2, 1) := dk_28 (dk_at dksX5_leansBy_3 20 rfl rfl)
theorem dX5_leansBy_97 : decode cX5_leansBy 97 = .ok (.iconst 3, 1) := dk_6 (dk_at dksX5_leansBy_3 21 rfl rfl)
theorem dX5_leansBy_98 : decode cX5_leansBy 98 = .ok (.irem, 1) := dk_112 (dk_at dksX5_leansBy_3 22 rfl rfl)
theorem dX5_leansBy_99 : decode cX5_leansBy 99 = .ok (.ifCond .ne 7, 3) := dk_154 0 7 (dk_at dksX5_leansBy_4 0 rfl rfl)
theorem dX5_leansBy_102 : decode cX5_leansBy 102 = .ok (.iconst 0, 1) := dk_3 (dk_at dksX5_leansBy_4 3 rfl rfl)
theorem dX5_leansBy_103 : decode cX5_leansBy 103 = .ok (.goto 5, 3) := dk_167 0 5 (dk_at dksX5_leansBy_4 4 rfl rfl)
theorem dX5_leansBy_106 : decode cX5_leansBy 106 = .ok (.iload 4, 2) := dk_21 4 (dk_at dksX5_leansBy_4 7 rfl rfl)
theorem dX5_leansBy_108 : decode cX5_leansBy 108 = .ok (.ireturn, 1) := dk_172 (dk_at dksX5_leansBy_4 9 rfl rfl)
theorem dX5_leansBy_109 : decode cX5_leansBy 109 = .ok (.iconst 3, 1) := dk_6 (dk_at dksX5_leansBy_4 10 rfl rfl)
theorem dX5_leansBy_110 : decode cX5_leansBy 110 = .ok (.iload 4, 2) := dk_21 4 (dk_at dksX5_leansBy_4 11 rfl rfl)
theorem dX5_leansBy_112 : decode cX5_leansBy 112 = .ok (.iconst 2, 1) := dk_5 (dk_at dksX5_leansBy_4 13 rfl rfl)
theorem dX5_leansBy_113 : decode cX5_leansBy 113 = .ok (.idiv, 1) := dk_108 (dk_at dksX5_leansBy_4 14 rfl rfl)
theorem dX5_leansBy_114 : decode cX5_leansBy 114 = .ok (.imul, 1) := dk_104 (dk_at dksX5_leansBy_4 15 rfl rfl)
theorem dX5_leansBy_115 : decode cX5_leansBy 115 = .ok (.ireturn, 1) := dk_172 (dk_at dksX5_leansBy_4 16 rfl rfl)
theorem dX5_leansBy_116 : decode cX5_leansBy 116 = .ok (.iload 4, 2) := dk_21 4 (dk_at dksX5_leansBy_4 17 rfl rfl)
theorem dX5_leansBy_118 : decode cX5_leansBy 118 = .ok (.ireturn, 1) := dk_172 (dk_at dksX5_leansBy_4 19 rfl rfl)
abbrev cX5_has : ByteArray := prog_20_method_3_code
def yX5_has : MethodName := ⟨RX5, "has", "(II)Z"⟩
def dkwX5_has_0 : List UInt8 := [26, 27, 122, 4, 126, 4, 160, 0, 7, 4, 167, 0, 4, 3, 172]
abbrev dktX5_has_0 : List UInt8 := dkwX5_has_0 ++ []
theorem dksX5_has_0 : cX5_has.data.toList.drop 0 = dktX5_has_0 := by decide +kernel
theorem dX5_has_0 : decode cX5_has 0 = .ok (.iload_n 0, 1) := dk_26 (dk_at dksX5_has_0 0 rfl rfl)
theorem dX5_has_1 : decode cX5_has 1 = .ok (.iload_n 1, 1) := dk_27 (dk_at dksX5_has_0 1 rfl rfl)
theorem dX5_has_2 : decode cX5_has 2 = .ok (.ishr, 1) := dk_122 (dk_at dksX5_has_0 2 rfl rfl)
theorem dX5_has_3 : decode cX5_has 3 = .ok (.iconst 1, 1) := dk_4 (dk_at dksX5_has_0 3 rfl rfl)
theorem dX5_has_4 : decode cX5_has 4 = .ok (.iand, 1) := dk_126 (dk_at dksX5_has_0 4 rfl rfl)
theorem dX5_has_5 : decode cX5_has 5 = .ok (.iconst 1, 1) := dk_4 (dk_at dksX5_has_0 5 rfl rfl)
theorem dX5_has_6 : decode cX5_has 6 = .ok (.if_icmp .ne 7, 3) := dk_160 0 7 (dk_at dksX5_has_0 6 rfl rfl)
theorem dX5_has_9 : decode cX5_has 9 = .ok (.iconst 1, 1) := dk_4 (dk_at dksX5_has_0 9 rfl rfl)
theorem dX5_has_10 : decode cX5_has 10 = .ok (.goto 4, 3) := dk_167 0 4 (dk_at dksX5_has_0 10 rfl rfl)
theorem dX5_has_13 : decode cX5_has 13 = .ok (.iconst 0, 1) := dk_3 (dk_at dksX5_has_0 13 rfl rfl)
theorem dX5_has_14 : decode cX5_has 14 = .ok (.ireturn, 1) := dk_172 (dk_at dksX5_has_0 14 rfl rfl)
abbrev cX5_dampedBy : ByteArray := prog_20_method_29_code
def yX5_dampedBy : MethodName := ⟨RX5, "dampedBy", "(III)I"⟩
def dkwX5_dampedBy_5 : List UInt8 := [27, 184, 0, 132, 184, 0, 132, 172, 27, 184, 0, 132, 172]
abbrev dktX5_dampedBy_5 : List UInt8 := dkwX5_dampedBy_5 ++ []
def dkwX5_dampedBy_4 : List UInt8 := [5, 112, 154, 0, 10, 27, 184, 0, 132, 167, 0, 4, 27, 172, 28, 7, 112, 154, 0, 7, 3, 167, 0, 10]
abbrev dktX5_dampedBy_4 : List UInt8 := dkwX5_dampedBy_4 ++ dktX5_dampedBy_5
def dkwX5_dampedBy_3 : List UInt8 := [172, 28, 5, 112, 154, 0, 10, 27, 184, 0, 132, 167, 0, 4, 27, 172, 28, 8, 112, 7, 159, 0, 16, 28]
abbrev dktX5_dampedBy_3 : List UInt8 := dkwX5_dampedBy_3 ++ dktX5_dampedBy_4
def dkwX5_dampedBy_2 : List UInt8 := [27, 16, 8, 164, 0, 9, 27, 5, 108, 167, 0, 7, 27, 184, 0, 132, 172, 27, 184, 0, 132, 184, 0, 132]
abbrev dktX5_dampedBy_2 : List UInt8 := dkwX5_dampedBy_2 ++ dktX5_dampedBy_3
def dkwX5_dampedBy_1 : List UInt8 := [170, 0, 0, 0, 0, 0, 115, 0, 0, 0, 1, 0, 0, 0, 5, 0, 0, 0, 35, 0, 0, 0, 52, 0, 0, 0, 60, 0, 0, 0, 75, 0, 0, 0, 97]
abbrev dktX5_dampedBy_1 : List UInt8 := dkwX5_dampedBy_1 ++ dktX5_dampedBy_2
def dkwX5_dampedBy_0 : List UInt8 := [26]
abbrev dktX5_dampedBy_0 : List UInt8 := dkwX5_dampedBy_0 ++ dktX5_dampedBy_1
theorem dksX5_dampedBy_0 : cX5_dampedBy.data.toList.drop 0 = dktX5_dampedBy_0 := by decide +kernel
theorem dksX5_dampedBy_1 : cX5_dampedBy.data.toList.drop 1 = dktX5_dampedBy_1 := dk_seg dksX5_dampedBy_0 1 rfl rfl
theorem dksX5_dampedBy_2 : cX5_dampedBy.data.toList.drop 36 = dktX5_dampedBy_2 := dk_seg dksX5_dampedBy_1 35 rfl rfl
theorem dksX5_dampedBy_3 : cX5_dampedBy.data.toList.drop 60 = dktX5_dampedBy_3 := dk_seg dksX5_dampedBy_2 24 rfl rfl
theorem dksX5_dampedBy_4 : cX5_dampedBy.data.toList.drop 84 = dktX5_dampedBy_4 := dk_seg dksX5_dampedBy_3 24 rfl rfl
theorem dksX5_dampedBy_5 : cX5_dampedBy.data.toList.drop 108 = dktX5_dampedBy_5 := dk_seg dksX5_dampedBy_4 24 rfl rfl
theorem dX5_dampedBy_0 : decode cX5_dampedBy 0 = .ok (.iload_n 0, 1) := dk_26 (dk_at dksX5_dampedBy_0 0 rfl rfl)
theorem dX5_dampedBy_1 : decode cX5_dampedBy 1 = .ok (.tableswitch 115 1 5 #[35, 52, 60, 75, 97], 35) := by decide +kernel
theorem dX5_dampedBy_36 : decode cX5_dampedBy 36 = .ok (.iload_n 1, 1) := dk_27 (dk_at dksX5_dampedBy_2 0 rfl rfl)
theorem dX5_dampedBy_37 : decode cX5_dampedBy 37 = .ok (.bipush 8, 2) := dk_16 8 (dk_at dksX5_dampedBy_2 1 rfl rfl)
theorem dX5_dampedBy_39 : decode cX5_dampedBy 39 = .ok (.if_icmp .le 9, 3) := dk_164 0 9 (dk_at dksX5_dampedBy_2 3 rfl rfl)
theorem dX5_dampedBy_42 : decode cX5_dampedBy 42 = .ok (.iload_n 1, 1) := dk_27 (dk_at dksX5_dampedBy_2 6 rfl rfl)
theorem dX5_dampedBy_43 : decode cX5_dampedBy 43 = .ok (.iconst 2, 1) := dk_5 (dk_at dksX5_dampedBy_2 7 rfl rfl)
theorem dX5_dampedBy_44 : decode cX5_dampedBy 44 = .ok (.idiv, 1) := dk_108 (dk_at dksX5_dampedBy_2 8 rfl rfl)
theorem dX5_dampedBy_45 : decode cX5_dampedBy 45 = .ok (.goto 7, 3) := dk_167 0 7 (dk_at dksX5_dampedBy_2 9 rfl rfl)
theorem dX5_dampedBy_48 : decode cX5_dampedBy 48 = .ok (.iload_n 1, 1) := dk_27 (dk_at dksX5_dampedBy_2 12 rfl rfl)
theorem dX5_dampedBy_49 : decode cX5_dampedBy 49 = .ok (.invokestatic 132, 3) := dk_184 0 132 (dk_at dksX5_dampedBy_2 13 rfl rfl)
theorem dX5_dampedBy_52 : decode cX5_dampedBy 52 = .ok (.ireturn, 1) := dk_172 (dk_at dksX5_dampedBy_2 16 rfl rfl)
theorem dX5_dampedBy_53 : decode cX5_dampedBy 53 = .ok (.iload_n 1, 1) := dk_27 (dk_at dksX5_dampedBy_2 17 rfl rfl)
theorem dX5_dampedBy_54 : decode cX5_dampedBy 54 = .ok (.invokestatic 132, 3) := dk_184 0 132 (dk_at dksX5_dampedBy_2 18 rfl rfl)
theorem dX5_dampedBy_57 : decode cX5_dampedBy 57 = .ok (.invokestatic 132, 3) := dk_184 0 132 (dk_at dksX5_dampedBy_2 21 rfl rfl)
theorem dX5_dampedBy_60 : decode cX5_dampedBy 60 = .ok (.ireturn, 1) := dk_172 (dk_at dksX5_dampedBy_3 0 rfl rfl)
theorem dX5_dampedBy_61 : decode cX5_dampedBy 61 = .ok (.iload_n 2, 1) := dk_28 (dk_at dksX5_dampedBy_3 1 rfl rfl)
theorem dX5_dampedBy_62 : decode cX5_dampedBy 62 = .ok (.iconst 2, 1) := dk_5 (dk_at dksX5_dampedBy_3 2 rfl rfl)
theorem dX5_dampedBy_63 : decode cX5_dampedBy 63 = .ok (.irem, 1) := dk_112 (dk_at dksX5_dampedBy_3 3 rfl rfl)
theorem dX5_dampedBy_64 : decode cX5_dampedBy 64 = .ok (.ifCond .ne 10, 3) := dk_154 0 10 (dk_at dksX5_dampedBy_3 4 rfl rfl)
theorem dX5_dampedBy_67 : decode cX5_dampedBy 67 = .ok (.iload_n 1, 1) := dk_27 (dk_at dksX5_dampedBy_3 7 rfl rfl)
theorem dX5_dampedBy_68 : decode cX5_dampedBy 68 = .ok (.invokestatic 132, 3) := dk_184 0 132 (dk_at dksX5_dampedBy_3 8 rfl rfl)
theorem dX5_dampedBy_71 : decode cX5_dampedBy 71 = .ok (.goto 4, 3) := dk_167 0 4 (dk_at dksX5_dampedBy_3 11 rfl rfl)
theorem dX5_dampedBy_74 : decode cX5_dampedBy 74 = .ok (.iload_n 1, 1) := dk_27 (dk_at dksX5_dampedBy_3 14 rfl rfl)
theorem dX5_dampedBy_75 : decode cX5_dampedBy 75 = .ok (.ireturn, 1) := dk_172 (dk_at dksX5_dampedBy_3 15 rfl rfl)
theorem dX5_dampedBy_76 : decode cX5_dampedBy 76 = .ok (.iload_n 2, 1) := dk_28 (dk_at dksX5_dampedBy_3 16 rfl rfl)
theorem dX5_dampedBy_77 : decode cX5_dampedBy 77 = .ok (.iconst 5, 1) := dk_8 (dk_at dksX5_dampedBy_3 17 rfl rfl)
theorem dX5_dampedBy_78 : decode cX5_dampedBy 78 = .ok (.irem, 1) := dk_112 (dk_at dksX5_dampedBy_3 18 rfl rfl)
theorem dX5_dampedBy_79 : decode cX5_dampedBy 79 = .ok (.iconst 4, 1) := dk_7 (dk_at dksX5_dampedBy_3 19 rfl rfl)
theorem dX5_dampedBy_80 : decode cX5_dampedBy 80 = .ok (.if_icmp .eq 16, 3) := dk_159 0 16 (dk_at dksX5_dampedBy_3 20 rfl rfl)
theorem dX5_dampedBy_83 : decode cX5_dampedBy 83 = .ok (.iload_n 2, 1) := dk_28 (dk_at dksX5_dampedBy_3 23 rfl rfl)
theorem dX5_dampedBy_84 : decode cX5_dampedBy 84 = .ok (.iconst 2, 1) := dk_5 (dk_at dksX5_dampedBy_4 0 rfl rfl)
theorem dX5_dampedBy_85 : decode cX5_dampedBy 85 = .ok (.irem, 1) := dk_112 (dk_at dksX5_dampedBy_4 1 rfl rfl)
theorem dX5_dampedBy_86 : decode cX5_dampedBy 86 = .ok (.ifCond .ne 10, 3) := dk_154 0 10 (dk_at dksX5_dampedBy_4 2 rfl rfl)
theorem dX5_dampedBy_89 : decode cX5_dampedBy 89 = .ok (.iload_n 1, 1) := dk_27 (dk_at dksX5_dampedBy_4 5 rfl rfl)
theorem dX5_dampedBy_90 : decode cX5_dampedBy 90 = .ok (.invokestatic 132, 3) := dk_184 0 132 (dk_at dksX5_dampedBy_4 6 rfl rfl)
theorem dX5_dampedBy_93 : decode cX5_dampedBy 93 = .ok (.goto 4, 3) := dk_167 0 4 (dk_at dksX5_dampedBy_4 9 rfl rfl)
theorem dX5_dampedBy_96 : decode cX5_dampedBy 96 = .ok (.iload_n 1, 1) := dk_27 (dk_at dksX5_dampedBy_4 12 rfl rfl)
theorem dX5_dampedBy_97 : decode cX5_dampedBy 97 = .ok (.ireturn, 1) := dk_172 (dk_at dksX5_dampedBy_4 13 rfl rfl)
theorem dX5_dampedBy_98 : decode cX5_dampedBy 98 = .ok (.iload_n 2, 1) := dk_28 (dk_at dksX5_dampedBy_4 14 rfl rfl)
theorem dX5_dampedBy_99 : decode cX5_dampedBy 99 = .ok (.iconst 4, 1) := dk_7 (dk_at dksX5_dampedBy_4 15 rfl rfl)
theorem dX5_dampedBy_100 : decode cX5_dampedBy 100 = .ok (.irem, 1) := dk_112 (dk_at dksX5_dampedBy_4 16 rfl rfl)
theorem dX5_dampedBy_101 : decode cX5_dampedBy 101 = .ok (.ifCond .ne 7, 3) := dk_154 0 7 (dk_at dksX5_dampedBy_4 17 rfl rfl)
theorem dX5_dampedBy_104 : decode cX5_dampedBy 104 = .ok (.iconst 0, 1) := dk_3 (dk_at dksX5_dampedBy_4 20 rfl rfl)
theorem dX5_dampedBy_105 : decode cX5_dampedBy 105 = .ok (.goto 10, 3) := dk_167 0 10 (dk_at dksX5_dampedBy_4 21 rfl rfl)
theorem dX5_dampedBy_108 : decode cX5_dampedBy 108 = .ok (.iload_n 1, 1) := dk_27 (dk_at dksX5_dampedBy_5 0 rfl rfl)
theorem dX5_dampedBy_109 : decode cX5_dampedBy 109 = .ok (.invokestatic 132, 3) := dk_184 0 132 (dk_at dksX5_dampedBy_5 1 rfl rfl)
theorem dX5_dampedBy_112 : decode cX5_dampedBy 112 = .ok (.invokestatic 132, 3) := dk_184 0 132 (dk_at dksX5_dampedBy_5 4 rfl rfl)
theorem dX5_dampedBy_115 : decode cX5_dampedBy 115 = .ok (.ireturn, 1) := dk_172 (dk_at dksX5_dampedBy_5 7 rfl rfl)
theorem dX5_dampedBy_116 : decode cX5_dampedBy 116 = .ok (.iload_n 1, 1) := dk_27 (dk_at dksX5_dampedBy_5 8 rfl rfl)
theorem dX5_dampedBy_117 : decode cX5_dampedBy 117 = .ok (.invokestatic 132, 3) := dk_184 0 132 (dk_at dksX5_dampedBy_5 9 rfl rfl)
theorem dX5_dampedBy_120 : decode cX5_dampedBy 120 = .ok (.ireturn, 1) := dk_172 (dk_at dksX5_dampedBy_5 12 rfl rfl)
abbrev cX5_dampedPlain : ByteArray := prog_20_method_28_code
def yX5_dampedPlain : MethodName := ⟨RX5, "dampedPlain", "(I)I"⟩
def dkwX5_dampedPlain_0 : List UInt8 := [26, 5, 164, 0, 9, 26, 5, 100, 167, 0, 12, 26, 158, 0, 7, 3, 167, 0, 4, 26, 172]
abbrev dktX5_dampedPlain_0 : List UInt8 := dkwX5_dampedPlain_0 ++ []
theorem dksX5_dampedPlain_0 : cX5_dampedPlain.data.toList.drop 0 = dktX5_dampedPlain_0 := by decide +kernel
theorem dX5_dampedPlain_0 : decode cX5_dampedPlain 0 = .ok (.iload_n 0, 1) := dk_26 (dk_at dksX5_dampedPlain_0 0 rfl rfl)
theorem dX5_dampedPlain_1 : decode cX5_dampedPlain 1 = .ok (.iconst 2, 1) := dk_5 (dk_at dksX5_dampedPlain_0 1 rfl rfl)
theorem dX5_dampedPlain_2 : decode cX5_dampedPlain 2 = .ok (.if_icmp .le 9, 3) := dk_164 0 9 (dk_at dksX5_dampedPlain_0 2 rfl rfl)
theorem dX5_dampedPlain_5 : decode cX5_dampedPlain 5 = .ok (.iload_n 0, 1) := dk_26 (dk_at dksX5_dampedPlain_0 5 rfl rfl)
theorem dX5_dampedPlain_6 : decode cX5_dampedPlain 6 = .ok (.iconst 2, 1) := dk_5 (dk_at dksX5_dampedPlain_0 6 rfl rfl)
theorem dX5_dampedPlain_7 : decode cX5_dampedPlain 7 = .ok (.isub, 1) := dk_100 (dk_at dksX5_dampedPlain_0 7 rfl rfl)
theorem dX5_dampedPlain_8 : decode cX5_dampedPlain 8 = .ok (.goto 12, 3) := dk_167 0 12 (dk_at dksX5_dampedPlain_0 8 rfl rfl)
theorem dX5_dampedPlain_11 : decode cX5_dampedPlain 11 = .ok (.iload_n 0, 1) := dk_26 (dk_at dksX5_dampedPlain_0 11 rfl rfl)
theorem dX5_dampedPlain_12 : decode cX5_dampedPlain 12 = .ok (.ifCond .le 7, 3) := dk_158 0 7 (dk_at dksX5_dampedPlain_0 12 rfl rfl)
theorem dX5_dampedPlain_15 : decode cX5_dampedPlain 15 = .ok (.iconst 0, 1) := dk_3 (dk_at dksX5_dampedPlain_0 15 rfl rfl)
theorem dX5_dampedPlain_16 : decode cX5_dampedPlain 16 = .ok (.goto 4, 3) := dk_167 0 4 (dk_at dksX5_dampedPlain_0 16 rfl rfl)
theorem dX5_dampedPlain_19 : decode cX5_dampedPlain 19 = .ok (.iload_n 0, 1) := dk_26 (dk_at dksX5_dampedPlain_0 19 rfl rfl)
theorem dX5_dampedPlain_20 : decode cX5_dampedPlain 20 = .ok (.ireturn, 1) := dk_172 (dk_at dksX5_dampedPlain_0 20 rfl rfl)
abbrev cX5_counts : ByteArray := prog_20_method_37_code
def yX5_counts : MethodName := ⟨RX5, "counts", "(I)I"⟩
def dkwX5_counts_1 : List UInt8 := [182, 0, 118, 42, 180, 0, 7, 16, 8, 46, 172]
abbrev dktX5_counts_1 : List UInt8 := dkwX5_counts_1 ++ []
def dkwX5_counts_0 : List UInt8 := [27, 4, 16, 99, 184, 0, 51, 154, 0, 10, 42, 16, 254, 182, 0, 55, 172, 42, 182, 0, 156, 42, 3, 27]
abbrev dktX5_counts_0 : List UInt8 := dkwX5_counts_0 ++ dktX5_counts_1
theorem dksX5_counts_0 : cX5_counts.data.toList.drop 0 = dktX5_counts_0 := by decide +kernel
theorem dksX5_counts_1 : cX5_counts.data.toList.drop 24 = dktX5_counts_1 := dk_seg dksX5_counts_0 24 rfl rfl
theorem dX5_counts_0 : decode cX5_counts 0 = .ok (.iload_n 1, 1) := dk_27 (dk_at dksX5_counts_0 0 rfl rfl)
theorem dX5_counts_1 : decode cX5_counts 1 = .ok (.iconst 1, 1) := dk_4 (dk_at dksX5_counts_0 1 rfl rfl)
theorem dX5_counts_2 : decode cX5_counts 2 = .ok (.bipush 99, 2) := dk_16 99 (dk_at dksX5_counts_0 2 rfl rfl)
theorem dX5_counts_4 : decode cX5_counts 4 = .ok (.invokestatic 51, 3) := dk_184 0 51 (dk_at dksX5_counts_0 4 rfl rfl)
theorem dX5_counts_7 : decode cX5_counts 7 = .ok (.ifCond .ne 10, 3) := dk_154 0 10 (dk_at dksX5_counts_0 7 rfl rfl)
theorem dX5_counts_10 : decode cX5_counts 10 = .ok (.aload_n 0, 1) := dk_42 (dk_at dksX5_counts_0 10 rfl rfl)
theorem dX5_counts_11 : decode cX5_counts 11 = .ok (.bipush (-2), 2) := dk_16 254 (dk_at dksX5_counts_0 11 rfl rfl)
theorem dX5_counts_13 : decode cX5_counts 13 = .ok (.invokevirtual 55, 3) := dk_182 0 55 (dk_at dksX5_counts_0 13 rfl rfl)
theorem dX5_counts_16 : decode cX5_counts 16 = .ok (.ireturn, 1) := dk_172 (dk_at dksX5_counts_0 16 rfl rfl)
theorem dX5_counts_17 : decode cX5_counts 17 = .ok (.aload_n 0, 1) := dk_42 (dk_at dksX5_counts_0 17 rfl rfl)
theorem dX5_counts_18 : decode cX5_counts 18 = .ok (.invokevirtual 156, 3) := dk_182 0 156 (dk_at dksX5_counts_0 18 rfl rfl)
theorem dX5_counts_21 : decode cX5_counts 21 = .ok (.aload_n 0, 1) := dk_42 (dk_at dksX5_counts_0 21 rfl rfl)
theorem dX5_counts_22 : decode cX5_counts 22 = .ok (.iconst 0, 1) := dk_3 (dk_at dksX5_counts_0 22 rfl rfl)
theorem dX5_counts_23 : decode cX5_counts 23 = .ok (.iload_n 1, 1) := dk_27 (dk_at dksX5_counts_0 23 rfl rfl)
theorem dX5_counts_24 : decode cX5_counts 24 = .ok (.invokevirtual 118, 3) := dk_182 0 118 (dk_at dksX5_counts_1 0 rfl rfl)
theorem dX5_counts_27 : decode cX5_counts 27 = .ok (.aload_n 0, 1) := dk_42 (dk_at dksX5_counts_1 3 rfl rfl)
theorem dX5_counts_28 : decode cX5_counts 28 = .ok (.getfield 7, 3) := dk_180 0 7 (dk_at dksX5_counts_1 4 rfl rfl)
theorem dX5_counts_31 : decode cX5_counts 31 = .ok (.bipush 8, 2) := dk_16 8 (dk_at dksX5_counts_1 7 rfl rfl)
theorem dX5_counts_33 : decode cX5_counts 33 = .ok (.iaload, 1) := dk_46 (dk_at dksX5_counts_1 9 rfl rfl)
theorem dX5_counts_34 : decode cX5_counts 34 = .ok (.ireturn, 1) := dk_172 (dk_at dksX5_counts_1 10 rfl rfl)
abbrev cX5_keepPast : ByteArray := prog_20_method_34_code
def yX5_keepPast : MethodName := ⟨RX5, "keepPast", "()V"⟩
def dkwX5_keepPast_4 : List UInt8 := [180, 0, 7, 16, 98, 92, 46, 4, 96, 79, 177]
abbrev dktX5_keepPast_4 : List UInt8 := dkwX5_keepPast_4 ++ []
def dkwX5_keepPast_3 : List UInt8 := [180, 0, 7, 16, 98, 46, 104, 96, 27, 96, 42, 180, 0, 7, 27, 46, 79, 132, 1, 1, 167, 255, 221, 42]
abbrev dktX5_keepPast_3 : List UInt8 := dkwX5_keepPast_3 ++ dktX5_keepPast_4
def dkwX5_keepPast_2 : List UInt8 := [16, 98, 92, 46, 4, 100, 79, 3, 60, 27, 16, 10, 162, 0, 35, 42, 180, 0, 7, 16, 99, 16, 10, 42]
abbrev dktX5_keepPast_2 : List UInt8 := dkwX5_keepPast_2 ++ dktX5_keepPast_3
def dkwX5_keepPast_1 : List UInt8 := [16, 99, 27, 96, 42, 180, 0, 7, 16, 109, 27, 96, 46, 79, 132, 1, 1, 167, 255, 229, 42, 180, 0, 7]
abbrev dktX5_keepPast_1 : List UInt8 := dkwX5_keepPast_1 ++ dktX5_keepPast_2
def dkwX5_keepPast_0 : List UInt8 := [42, 180, 0, 7, 16, 98, 46, 16, 8, 160, 0, 46, 3, 60, 27, 16, 70, 162, 0, 27, 42, 180, 0, 7]
abbrev dktX5_keepPast_0 : List UInt8 := dkwX5_keepPast_0 ++ dktX5_keepPast_1
theorem dksX5_keepPast_0 : cX5_keepPast.data.toList.drop 0 = dktX5_keepPast_0 := by decide +kernel
theorem dksX5_keepPast_1 : cX5_keepPast.data.toList.drop 24 = dktX5_keepPast_1 := dk_seg dksX5_keepPast_0 24 rfl rfl
theorem dksX5_keepPast_2 : cX5_keepPast.data.toList.drop 48 = dktX5_keepPast_2 := dk_seg dksX5_keepPast_1 24 rfl rfl
theorem dksX5_keepPast_3 : cX5_keepPast.data.toList.drop 72 = dktX5_keepPast_3 := dk_seg dksX5_keepPast_2 24 rfl rfl
theorem dksX5_keepPast_4 : cX5_keepPast.data.toList.drop 96 = dktX5_keepPast_4 := dk_seg dksX5_keepPast_3 24 rfl rfl
theorem dX5_keepPast_0 : decode cX5_keepPast 0 = .ok (.aload_n 0, 1) := dk_42 (dk_at dksX5_keepPast_0 0 rfl rfl)
theorem dX5_keepPast_1 : decode cX5_keepPast 1 = .ok (.getfield 7, 3) := dk_180 0 7 (dk_at dksX5_keepPast_0 1 rfl rfl)
theorem dX5_keepPast_4 : decode cX5_keepPast 4 = .ok (.bipush 98, 2) := dk_16 98 (dk_at dksX5_keepPast_0 4 rfl rfl)
theorem dX5_keepPast_6 : decode cX5_keepPast 6 = .ok (.iaload, 1) := dk_46 (dk_at dksX5_keepPast_0 6 rfl rfl)
theorem dX5_keepPast_7 : decode cX5_keepPast 7 = .ok (.bipush 8, 2) := dk_16 8 (dk_at dksX5_keepPast_0 7 rfl rfl)
theorem dX5_keepPast_9 : decode cX5_keepPast 9 = .ok (.if_icmp .ne 46, 3) := dk_160 0 46 (dk_at dksX5_keepPast_0 9 rfl rfl)
theorem dX5_keepPast_12 : decode cX5_keepPast 12 = .ok (.iconst 0, 1) := dk_3 (dk_at dksX5_keepPast_0 12 rfl rfl)
theorem dX5_keepPast_13 : decode cX5_keepPast 13 = .ok (.istore_n 1, 1) := dk_60 (dk_at dksX5_keepPast_0 13 rfl rfl)
theorem dX5_keepPast_14 : decode cX5_keepPast 14 = .ok (.iload_n 1, 1) := dk_27 (dk_at dksX5_keepPast_0 14 rfl rfl)
theorem dX5_keepPast_15 : decode cX5_keepPast 15 = .ok (.bipush 70, 2) := dk_16 70 (dk_at dksX5_keepPast_0 15 rfl rfl)
theorem dX5_keepPast_17 : decode cX5_keepPast 17 = .ok (.if_icmp .ge 27, 3) := dk_162 0 27 (dk_at dksX5_keepPast_0 17 rfl rfl)
theorem dX5_keepPast_20 : decode cX5_keepPast 20 = .ok (.aload_n 0, 1) := dk_42 (dk_at dksX5_keepPast_0 20 rfl rfl)
theorem dX5_keepPast_21 : decode cX5_keepPast 21 = .ok (.getfield 7, 3) := dk_180 0 7 (dk_at dksX5_keepPast_0 21 rfl rfl)
theorem dX5_keepPast_24 : decode cX5_keepPast 24 = .ok (.bipush 99, 2) := dk_16 99 (dk_at dksX5_keepPast_1 0 rfl rfl)
theorem dX5_keepPast_26 : decode cX5_keepPast 26 = .ok (.iload_n 1, 1) := dk_27 (dk_at dksX5_keepPast_1 2 rfl rfl)
theorem dX5_keepPast_27 : decode cX5_keepPast 27 = .ok (.iadd, 1) := dk_96 (dk_at dksX5_keepPast_1 3 rfl rfl)
theorem dX5_keepPast_28 : decode cX5_keepPast 28 = .ok (.aload_n 0, 1) := dk_42 (dk_at dksX5_keepPast_1 4 rfl rfl)
theorem dX5_keepPast_29 : decode cX5_keepPast 29 = .ok (.getfield 7, 3) := dk_180 0 7 (dk_at dksX5_keepPast_1 5 rfl rfl)
theorem dX5_keepPast_32 : decode cX5_keepPast 32 = .ok (.bipush 109, 2) := dk_16 109 (dk_at dksX5_keepPast_1 8 rfl rfl)
theorem dX5_keepPast_34 : decode cX5_keepPast 34 = .ok (.iload_n 1, 1) := dk_27 (dk_at dksX5_keepPast_1 10 rfl rfl)
theorem dX5_keepPast_35 : decode cX5_keepPast 35 = .ok (.iadd, 1) := dk_96 (dk_at dksX5_keepPast_1 11 rfl rfl)
theorem dX5_keepPast_36 : decode cX5_keepPast 36 = .ok (.iaload, 1) := dk_46 (dk_at dksX5_keepPast_1 12 rfl rfl)
theorem dX5_keepPast_37 : decode cX5_keepPast 37 = .ok (.iastore, 1) := dk_79 (dk_at dksX5_keepPast_1 13 rfl rfl)
theorem dX5_keepPast_38 : decode cX5_keepPast 38 = .ok (.iinc 1 1, 3) := dk_132 1 1 (dk_at dksX5_keepPast_1 14 rfl rfl)
theorem dX5_keepPast_41 : decode cX5_keepPast 41 = .ok (.goto (-27), 3) := dk_167 255 229 (dk_at dksX5_keepPast_1 17 rfl rfl)
theorem dX5_keepPast_44 : decode cX5_keepPast 44 = .ok (.aload_n 0, 1) := dk_42 (dk_at dksX5_keepPast_1 20 rfl rfl)
theorem dX5_keepPast_45 : decode cX5_keepPast 45 = .ok (.getfield 7, 3) := dk_180 0 7 (dk_at dksX5_keepPast_1 21 rfl rfl)
theorem dX5_keepPast_48 : decode cX5_keepPast 48 = .ok (.bipush 98, 2) := dk_16 98 (dk_at dksX5_keepPast_2 0 rfl rfl)
theorem dX5_keepPast_50 : decode cX5_keepPast 50 = .ok (.dup2, 1) := dk_92 (dk_at dksX5_keepPast_2 2 rfl rfl)
theorem dX5_keepPast_51 : decode cX5_keepPast 51 = .ok (.iaload, 1) := dk_46 (dk_at dksX5_keepPast_2 3 rfl rfl)
theorem dX5_keepPast_52 : decode cX5_keepPast 52 = .ok (.iconst 1, 1) := dk_4 (dk_at dksX5_keepPast_2 4 rfl rfl)
theorem dX5_keepPast_53 : decode cX5_keepPast 53 = .ok (.isub, 1) := dk_100 (dk_at dksX5_keepPast_2 5 rfl rfl)
theorem dX5_keepPast_54 : decode cX5_keepPast 54 = .ok (.iastore, 1) := dk_79 (dk_at dksX5_keepPast_2 6 rfl rfl)
theorem dX5_keepPast_55 : decode cX5_keepPast 55 = .ok (.iconst 0, 1) := dk_3 (dk_at dksX5_keepPast_2 7 rfl rfl)
theorem dX5_keepPast_56 : decode cX5_keepPast 56 = .ok (.istore_n 1, 1) := dk_60 (dk_at dksX5_keepPast_2 8 rfl rfl)
theorem dX5_keepPast_57 : decode cX5_keepPast 57 = .ok (.iload_n 1, 1) := dk_27 (dk_at dksX5_keepPast_2 9 rfl rfl)
theorem dX5_keepPast_58 : decode cX5_keepPast 58 = .ok (.bipush 10, 2) := dk_16 10 (dk_at dksX5_keepPast_2 10 rfl rfl)
theorem dX5_keepPast_60 : decode cX5_keepPast 60 = .ok (.if_icmp .ge 35, 3) := dk_162 0 35 (dk_at dksX5_keepPast_2 12 rfl rfl)
theorem dX5_keepPast_63 : decode cX5_keepPast 63 = .ok (.aload_n 0, 1) := dk_42 (dk_at dksX5_keepPast_2 15 rfl rfl)
theorem dX5_keepPast_64 : decode cX5_keepPast 64 = .ok (.getfield 7, 3) := dk_180 0 7 (dk_at dksX5_keepPast_2 16 rfl rfl)
theorem dX5_keepPast_67 : decode cX5_keepPast 67 = .ok (.bipush 99, 2) := dk_16 99 (dk_at dksX5_keepPast_2 19 rfl rfl)
theorem dX5_keepPast_69 : decode cX5_keepPast 69 = .ok (.bipush 10, 2) := dk_16 10 (dk_at dksX5_keepPast_2 21 rfl rfl)
theorem dX5_keepPast_71 : decode cX5_keepPast 71 = .ok (.aload_n 0, 1) := dk_42 (dk_at dksX5_keepPast_2 23 rfl rfl)
theorem dX5_keepPast_72 : decode cX5_keepPast 72 = .ok (.getfield 7, 3) := dk_180 0 7 (dk_at dksX5_keepPast_3 0 rfl rfl)
theorem dX5_keepPast_75 : decode cX5_keepPast 75 = .ok (.bipush 98, 2) := dk_16 98 (dk_at dksX5_keepPast_3 3 rfl rfl)
theorem dX5_keepPast_77 : decode cX5_keepPast 77 = .ok (.iaload, 1) := dk_46 (dk_at dksX5_keepPast_3 5 rfl rfl)
theorem dX5_keepPast_78 : decode cX5_keepPast 78 = .ok (.imul, 1) := dk_104 (dk_at dksX5_keepPast_3 6 rfl rfl)
theorem dX5_keepPast_79 : decode cX5_keepPast 79 = .ok (.iadd, 1) := dk_96 (dk_at dksX5_keepPast_3 7 rfl rfl)
theorem dX5_keepPast_80 : decode cX5_keepPast 80 = .ok (.iload_n 1, 1) := dk_27 (dk_at dksX5_keepPast_3 8 rfl rfl)
theorem dX5_keepPast_81 : decode cX5_keepPast 81 = .ok (.iadd, 1) := dk_96 (dk_at dksX5_keepPast_3 9 rfl rfl)
theorem dX5_keepPast_82 : decode cX5_keepPast 82 = .ok (.aload_n 0, 1) := dk_42 (dk_at dksX5_keepPast_3 10 rfl rfl)
theorem dX5_keepPast_83 : decode cX5_keepPast 83 = .ok (.getfield 7, 3) := dk_180 0 7 (dk_at dksX5_keepPast_3 11 rfl rfl)
theorem dX5_keepPast_86 : decode cX5_keepPast 86 = .ok (.iload_n 1, 1) := dk_27 (dk_at dksX5_keepPast_3 14 rfl rfl)
theorem dX5_keepPast_87 : decode cX5_keepPast 87 = .ok (.iaload, 1) := dk_46 (dk_at dksX5_keepPast_3 15 rfl rfl)
theorem dX5_keepPast_88 : decode cX5_keepPast 88 = .ok (.iastore, 1) := dk_79 (dk_at dksX5_keepPast_3 16 rfl rfl)
theorem dX5_keepPast_89 : decode cX5_keepPast 89 = .ok (.iinc 1 1, 3) := dk_132 1 1 (dk_at dksX5_keepPast_3 17 rfl rfl)
theorem dX5_keepPast_92 : decode cX5_keepPast 92 = .ok (.goto (-35), 3) := dk_167 255 221 (dk_at dksX5_keepPast_3 20 rfl rfl)
theorem dX5_keepPast_95 : decode cX5_keepPast 95 = .ok (.aload_n 0, 1) := dk_42 (dk_at dksX5_keepPast_3 23 rfl rfl)
theorem dX5_keepPast_96 : decode cX5_keepPast 96 = .ok (.getfield 7, 3) := dk_180 0 7 (dk_at dksX5_keepPast_4 0 rfl rfl)
theorem dX5_keepPast_99 : decode cX5_keepPast 99 = .ok (.bipush 98, 2) := dk_16 98 (dk_at dksX5_keepPast_4 3 rfl rfl)
theorem dX5_keepPast_101 : decode cX5_keepPast 101 = .ok (.dup2, 1) := dk_92 (dk_at dksX5_keepPast_4 5 rfl rfl)
theorem dX5_keepPast_102 : decode cX5_keepPast 102 = .ok (.iaload, 1) := dk_46 (dk_at dksX5_keepPast_4 6 rfl rfl)
theorem dX5_keepPast_103 : decode cX5_keepPast 103 = .ok (.iconst 1, 1) := dk_4 (dk_at dksX5_keepPast_4 7 rfl rfl)
theorem dX5_keepPast_104 : decode cX5_keepPast 104 = .ok (.iadd, 1) := dk_96 (dk_at dksX5_keepPast_4 8 rfl rfl)
theorem dX5_keepPast_105 : decode cX5_keepPast 105 = .ok (.iastore, 1) := dk_79 (dk_at dksX5_keepPast_4 9 rfl rfl)
theorem dX5_keepPast_106 : decode cX5_keepPast 106 = .ok (.return_, 1) := dk_177 (dk_at dksX5_keepPast_4 10 rfl rfl)
abbrev cX5_swings : ByteArray := prog_20_method_38_code
def yX5_swings : MethodName := ⟨RX5, "swings", "(II)I"⟩
def dkwX5_swings_2 : List UInt8 := [182, 0, 156, 42, 180, 0, 7, 3, 27, 96, 28, 79, 29, 172]
abbrev dktX5_swings_2 : List UInt8 := dkwX5_swings_2 ++ []
def dkwX5_swings_1 : List UInt8 := [172, 42, 180, 0, 7, 3, 27, 96, 46, 62, 29, 28, 160, 0, 10, 42, 16, 253, 182, 0, 55, 172, 42]
abbrev dktX5_swings_1 : List UInt8 := dkwX5_swings_1 ++ dktX5_swings_2
def dkwX5_swings_0 : List UInt8 := [42, 27, 182, 0, 159, 153, 0, 13, 28, 3, 16, 9, 184, 0, 51, 154, 0, 10, 42, 16, 254, 182, 0, 55]
abbrev dktX5_swings_0 : List UInt8 := dkwX5_swings_0 ++ dktX5_swings_1
theorem dksX5_swings_0 : cX5_swings.data.toList.drop 0 = dktX5_swings_0 := by decide +kernel
theorem dksX5_swings_1 : cX5_swings.data.toList.drop 24 = dktX5_swings_1 := dk_seg dksX5_swings_0 24 rfl rfl
theorem dksX5_swings_2 : cX5_swings.data.toList.drop 47 = dktX5_swings_2 := dk_seg dksX5_swings_1 23 rfl rfl
theorem dX5_swings_0 : decode cX5_swings 0 = .ok (.aload_n 0, 1) := dk_42 (dk_at dksX5_swings_0 0 rfl rfl)
theorem dX5_swings_1 : decode cX5_swings 1 = .ok (.iload_n 1, 1) := dk_27 (dk_at dksX5_swings_0 1 rfl rfl)
theorem dX5_swings_2 : decode cX5_swings 2 = .ok (.invokevirtual 159, 3) := dk_182 0 159 (dk_at dksX5_swings_0 2 rfl rfl)
theorem dX5_swings_5 : decode cX5_swings 5 = .ok (.ifCond .eq 13, 3) := dk_153 0 13 (dk_at dksX5_swings_0 5 rfl rfl)
theorem dX5_swings_8 : decode cX5_swings 8 = .ok (.iload_n 2, 1) := dk_28 (dk_at dksX5_swings_0 8 rfl rfl)
theorem dX5_swings_9 : decode cX5_swings 9 = .ok (.iconst 0, 1) := dk_3 (dk_at dksX5_swings_0 9 rfl rfl)
theorem dX5_swings_10 : decode cX5_swings 10 = .ok (.bipush 9, 2) := dk_16 9 (dk_at dksX5_swings_0 10 rfl rfl)
theorem dX5_swings_12 : decode cX5_swings 12 = .ok (.invokestatic 51, 3) := dk_184 0 51 (dk_at dksX5_swings_0 12 rfl rfl)
theorem dX5_swings_15 : decode cX5_swings 15 = .ok (.ifCond .ne 10, 3) := dk_154 0 10 (dk_at dksX5_swings_0 15 rfl rfl)
theorem dX5_swings_18 : decode cX5_swings 18 = .ok (.aload_n 0, 1) := dk_42 (dk_at dksX5_swings_0 18 rfl rfl)
theorem dX5_swings_19 : decode cX5_swings 19 = .ok (.bipush (-2), 2) := dk_16 254 (dk_at dksX5_swings_0 19 rfl rfl)
theorem dX5_swings_21 : decode cX5_swings 21 = .ok (.invokevirtual 55, 3) := dk_182 0 55 (dk_at dksX5_swings_0 21 rfl rfl)
theorem dX5_swings_24 : decode cX5_swings 24 = .ok (.ireturn, 1) := dk_172 (dk_at dksX5_swings_1 0 rfl rfl)
theorem dX5_swings_25 : decode cX5_swings 25 = .ok (.aload_n 0, 1) := dk_42 (dk_at dksX5_swings_1 1 rfl rfl)
theorem dX5_swings_26 : decode cX5_swings 26 = .ok (.getfield 7, 3) := dk_180 0 7 (dk_at dksX5_swings_1 2 rfl rfl)
theorem dX5_swings_29 : decode cX5_swings 29 = .ok (.iconst 0, 1) := dk_3 (dk_at dksX5_swings_1 5 rfl rfl)
theorem dX5_swings_30 : decode cX5_swings 30 = .ok (.iload_n 1, 1) := dk_27 (dk_at dksX5_swings_1 6 rfl rfl)
theorem dX5_swings_31 : decode cX5_swings 31 = .ok (.iadd, 1) := dk_96 (dk_at dksX5_swings_1 7 rfl rfl)
theorem dX5_swings_32 : decode cX5_swings 32 = .ok (.iaload, 1) := dk_46 (dk_at dksX5_swings_1 8 rfl rfl)
theorem dX5_swings_33 : decode cX5_swings 33 = .ok (.istore_n 3, 1) := dk_62 (dk_at dksX5_swings_1 9 rfl rfl)
theorem dX5_swings_34 : decode cX5_swings 34 = .ok (.iload_n 3, 1) := dk_29 (dk_at dksX5_swings_1 10 rfl rfl)
theorem dX5_swings_35 : decode cX5_swings 35 = .ok (.iload_n 2, 1) := dk_28 (dk_at dksX5_swings_1 11 rfl rfl)
theorem dX5_swings_36 : decode cX5_swings 36 = .ok (.if_icmp .ne 10, 3) := dk_160 0 10 (dk_at dksX5_swings_1 12 rfl rfl)
theorem dX5_swings_39 : decode cX5_swings 39 = .ok (.aload_n 0, 1) := dk_42 (dk_at dksX5_swings_1 15 rfl rfl)
theorem dX5_swings_40 : decode cX5_swings 40 = .ok (.bipush (-3), 2) := dk_16 253 (dk_at dksX5_swings_1 16 rfl rfl)
theorem dX5_swings_42 : decode cX5_swings 42 = .ok (.invokevirtual 55, 3) := dk_182 0 55 (dk_at dksX5_swings_1 18 rfl rfl)
theorem dX5_swings_45 : decode cX5_swings 45 = .ok (.ireturn, 1) := dk_172 (dk_at dksX5_swings_1 21 rfl rfl)
theorem dX5_swings_46 : decode cX5_swings 46 = .ok (.aload_n 0, 1) := dk_42 (dk_at dksX5_swings_1 22 rfl rfl)
theorem dX5_swings_47 : decode cX5_swings 47 = .ok (.invokevirtual 156, 3) := dk_182 0 156 (dk_at dksX5_swings_2 0 rfl rfl)
theorem dX5_swings_50 : decode cX5_swings 50 = .ok (.aload_n 0, 1) := dk_42 (dk_at dksX5_swings_2 3 rfl rfl)
theorem dX5_swings_51 : decode cX5_swings 51 = .ok (.getfield 7, 3) := dk_180 0 7 (dk_at dksX5_swings_2 4 rfl rfl)
theorem dX5_swings_54 : decode cX5_swings 54 = .ok (.iconst 0, 1) := dk_3 (dk_at dksX5_swings_2 7 rfl rfl)
theorem dX5_swings_55 : decode cX5_swings 55 = .ok (.iload_n 1, 1) := dk_27 (dk_at dksX5_swings_2 8 rfl rfl)
theorem dX5_swings_56 : decode cX5_swings 56 = .ok (.iadd, 1) := dk_96 (dk_at dksX5_swings_2 9 rfl rfl)
theorem dX5_swings_57 : decode cX5_swings 57 = .ok (.iload_n 2, 1) := dk_28 (dk_at dksX5_swings_2 10 rfl rfl)
theorem dX5_swings_58 : decode cX5_swings 58 = .ok (.iastore, 1) := dk_79 (dk_at dksX5_swings_2 11 rfl rfl)
theorem dX5_swings_59 : decode cX5_swings 59 = .ok (.iload_n 3, 1) := dk_29 (dk_at dksX5_swings_2 12 rfl rfl)
theorem dX5_swings_60 : decode cX5_swings 60 = .ok (.ireturn, 1) := dk_172 (dk_at dksX5_swings_2 13 rfl rfl)
abbrev cX5_isOne : ByteArray := prog_20_method_35_code
def yX5_isOne : MethodName := ⟨RX5, "isOne", "(I)Z"⟩
def dkwX5_isOne_0 : List UInt8 := [27, 3, 42, 180, 0, 7, 16, 11, 46, 4, 100, 184, 0, 51, 172]
abbrev dktX5_isOne_0 : List UInt8 := dkwX5_isOne_0 ++ []
theorem dksX5_isOne_0 : cX5_isOne.data.toList.drop 0 = dktX5_isOne_0 := by decide +kernel
theorem dX5_isOne_0 : decode cX5_isOne 0 = .ok (.iload_n 1, 1) := dk_27 (dk_at dksX5_isOne_0 0 rfl rfl)
theorem dX5_isOne_1 : decode cX5_isOne 1 = .ok (.iconst 0, 1) := dk_3 (dk_at dksX5_isOne_0 1 rfl rfl)
theorem dX5_isOne_2 : decode cX5_isOne 2 = .ok (.aload_n 0, 1) := dk_42 (dk_at dksX5_isOne_0 2 rfl rfl)
theorem dX5_isOne_3 : decode cX5_isOne 3 = .ok (.getfield 7, 3) := dk_180 0 7 (dk_at dksX5_isOne_0 3 rfl rfl)
theorem dX5_isOne_6 : decode cX5_isOne 6 = .ok (.bipush 11, 2) := dk_16 11 (dk_at dksX5_isOne_0 6 rfl rfl)
theorem dX5_isOne_8 : decode cX5_isOne 8 = .ok (.iaload, 1) := dk_46 (dk_at dksX5_isOne_0 8 rfl rfl)
theorem dX5_isOne_9 : decode cX5_isOne 9 = .ok (.iconst 1, 1) := dk_4 (dk_at dksX5_isOne_0 9 rfl rfl)
theorem dX5_isOne_10 : decode cX5_isOne 10 = .ok (.isub, 1) := dk_100 (dk_at dksX5_isOne_0 10 rfl rfl)
theorem dX5_isOne_11 : decode cX5_isOne 11 = .ok (.invokestatic 51, 3) := dk_184 0 51 (dk_at dksX5_isOne_0 11 rfl rfl)
theorem dX5_isOne_14 : decode cX5_isOne 14 = .ok (.ireturn, 1) := dk_172 (dk_at dksX5_isOne_0 14 rfl rfl)
abbrev cX5_sends : ByteArray := prog_20_method_39_code
def yX5_sends : MethodName := ⟨RX5, "sends", "(II)I"⟩
def dkwX5_sends_2 : List UInt8 := [42, 182, 0, 156, 42, 180, 0, 7, 16, 7, 92, 46, 4, 27, 120, 130, 79, 29, 172]
abbrev dktX5_sends_2 : List UInt8 := dkwX5_sends_2 ++ []
def dkwX5_sends_1 : List UInt8 := [42, 180, 0, 7, 16, 7, 46, 27, 122, 4, 126, 62, 29, 28, 160, 0, 10, 42, 16, 253, 182, 0, 55, 172]
abbrev dktX5_sends_1 : List UInt8 := dkwX5_sends_1 ++ dktX5_sends_2
def dkwX5_sends_0 : List UInt8 := [42, 27, 182, 0, 162, 153, 0, 12, 28, 3, 4, 184, 0, 51, 154, 0, 10, 42, 16, 254, 182, 0, 55, 172]
abbrev dktX5_sends_0 : List UInt8 := dkwX5_sends_0 ++ dktX5_sends_1
theorem dksX5_sends_0 : cX5_sends.data.toList.drop 0 = dktX5_sends_0 := by decide +kernel
theorem dksX5_sends_1 : cX5_sends.data.toList.drop 24 = dktX5_sends_1 := dk_seg dksX5_sends_0 24 rfl rfl
theorem dksX5_sends_2 : cX5_sends.data.toList.drop 48 = dktX5_sends_2 := dk_seg dksX5_sends_1 24 rfl rfl
theorem dX5_sends_0 : decode cX5_sends 0 = .ok (.aload_n 0, 1) := dk_42 (dk_at dksX5_sends_0 0 rfl rfl)
theorem dX5_sends_1 : decode cX5_sends 1 = .ok (.iload_n 1, 1) := dk_27 (dk_at dksX5_sends_0 1 rfl rfl)
theorem dX5_sends_2 : decode cX5_sends 2 = .ok (.invokevirtual 162, 3) := dk_182 0 162 (dk_at dksX5_sends_0 2 rfl rfl)
theorem dX5_sends_5 : decode cX5_sends 5 = .ok (.ifCond .eq 12, 3) := dk_153 0 12 (dk_at dksX5_sends_0 5 rfl rfl)
theorem dX5_sends_8 : decode cX5_sends 8 = .ok (.iload_n 2, 1) := dk_28 (dk_at dksX5_sends_0 8 rfl rfl)
theorem dX5_sends_9 : decode cX5_sends 9 = .ok (.iconst 0, 1) := dk_3 (dk_at dksX5_sends_0 9 rfl rfl)
theorem dX5_sends_10 : decode cX5_sends 10 = .ok (.iconst 1, 1) := dk_4 (dk_at dksX5_sends_0 10 rfl rfl)
theorem dX5_sends_11 : decode cX5_sends 11 = .ok (.invokestatic 51, 3) := dk_184 0 51 (dk_at dksX5_sends_0 11 rfl rfl)
theorem dX5_sends_14 : decode cX5_sends 14 = .ok (.ifCond .ne 10, 3) := dk_154 0 10 (dk_at dksX5_sends_0 14 rfl rfl)
theorem dX5_sends_17 : decode cX5_sends 17 = .ok (.aload_n 0, 1) := dk_42 (dk_at dksX5_sends_0 17 rfl rfl)
theorem dX5_sends_18 : decode cX5_sends 18 = .ok (.bipush (-2), 2) := dk_16 254 (dk_at dksX5_sends_0 18 rfl rfl)
theorem dX5_sends_20 : decode cX5_sends 20 = .ok (.invokevirtual 55, 3) := dk_182 0 55 (dk_at dksX5_sends_0 20 rfl rfl)
theorem dX5_sends_23 : decode cX5_sends 23 = .ok (.ireturn, 1) := dk_172 (dk_at dksX5_sends_0 23 rfl rfl)
theorem dX5_sends_24 : decode cX5_sends 24 = .ok (.aload_n 0, 1) := dk_42 (dk_at dksX5_sends_1 0 rfl rfl)
theorem dX5_sends_25 : decode cX5_sends 25 = .ok (.getfield 7, 3) := dk_180 0 7 (dk_at dksX5_sends_1 1 rfl rfl)
theorem dX5_sends_28 : decode cX5_sends 28 = .ok (.bipush 7, 2) := dk_16 7 (dk_at dksX5_sends_1 4 rfl rfl)
theorem dX5_sends_30 : decode cX5_sends 30 = .ok (.iaload, 1) := dk_46 (dk_at dksX5_sends_1 6 rfl rfl)
theorem dX5_sends_31 : decode cX5_sends 31 = .ok (.iload_n 1, 1) := dk_27 (dk_at dksX5_sends_1 7 rfl rfl)
theorem dX5_sends_32 : decode cX5_sends 32 = .ok (.ishr, 1) := dk_122 (dk_at dksX5_sends_1 8 rfl rfl)
theorem dX5_sends_33 : decode cX5_sends 33 = .ok (.iconst 1, 1) := dk_4 (dk_at dksX5_sends_1 9 rfl rfl)
theorem dX5_sends_34 : decode cX5_sends 34 = .ok (.iand, 1) := dk_126 (dk_at dksX5_sends_1 10 rfl rfl)
theorem dX5_sends_35 : decode cX5_sends 35 = .ok (.istore_n 3, 1) := dk_62 (dk_at dksX5_sends_1 11 rfl rfl)
theorem dX5_sends_36 : decode cX5_sends 36 = .ok (.iload_n 3, 1) := dk_29 (dk_at dksX5_sends_1 12 rfl rfl)
theorem dX5_sends_37 : decode cX5_sends 37 = .ok (.iload_n 2, 1) := dk_28 (dk_at dksX5_sends_1 13 rfl rfl)
theorem dX5_sends_38 : decode cX5_sends 38 = .ok (.if_icmp .ne 10, 3) := dk_160 0 10 (dk_at dksX5_sends_1 14 rfl rfl)
theorem dX5_sends_41 : decode cX5_sends 41 = .ok (.aload_n 0, 1) := dk_42 (dk_at dksX5_sends_1 17 rfl rfl)
theorem dX5_sends_42 : decode cX5_sends 42 = .ok (.bipush (-3), 2) := dk_16 253 (dk_at dksX5_sends_1 18 rfl rfl)
theorem dX5_sends_44 : decode cX5_sends 44 = .ok (.invokevirtual 55, 3) := dk_182 0 55 (dk_at dksX5_sends_1 20 rfl rfl)
theorem dX5_sends_47 : decode cX5_sends 47 = .ok (.ireturn, 1) := dk_172 (dk_at dksX5_sends_1 23 rfl rfl)
theorem dX5_sends_48 : decode cX5_sends 48 = .ok (.aload_n 0, 1) := dk_42 (dk_at dksX5_sends_2 0 rfl rfl)
theorem dX5_sends_49 : decode cX5_sends 49 = .ok (.invokevirtual 156, 3) := dk_182 0 156 (dk_at dksX5_sends_2 1 rfl rfl)
theorem dX5_sends_52 : decode cX5_sends 52 = .ok (.aload_n 0, 1) := dk_42 (dk_at dksX5_sends_2 4 rfl rfl)
theorem dX5_sends_53 : decode cX5_sends 53 = .ok (.getfield 7, 3) := dk_180 0 7 (dk_at dksX5_sends_2 5 rfl rfl)
theorem dX5_sends_56 : decode cX5_sends 56 = .ok (.bipush 7, 2) := dk_16 7 (dk_at dksX5_sends_2 8 rfl rfl)
theorem dX5_sends_58 : decode cX5_sends 58 = .ok (.dup2, 1) := dk_92 (dk_at dksX5_sends_2 10 rfl rfl)
theorem dX5_sends_59 : decode cX5_sends 59 = .ok (.iaload, 1) := dk_46 (dk_at dksX5_sends_2 11 rfl rfl)
theorem dX5_sends_60 : decode cX5_sends 60 = .ok (.iconst 1, 1) := dk_4 (dk_at dksX5_sends_2 12 rfl rfl)
theorem dX5_sends_61 : decode cX5_sends 61 = .ok (.iload_n 1, 1) := dk_27 (dk_at dksX5_sends_2 13 rfl rfl)
theorem dX5_sends_62 : decode cX5_sends 62 = .ok (.ishl, 1) := dk_120 (dk_at dksX5_sends_2 14 rfl rfl)
theorem dX5_sends_63 : decode cX5_sends 63 = .ok (.ixor, 1) := dk_130 (dk_at dksX5_sends_2 15 rfl rfl)
theorem dX5_sends_64 : decode cX5_sends 64 = .ok (.iastore, 1) := dk_79 (dk_at dksX5_sends_2 16 rfl rfl)
theorem dX5_sends_65 : decode cX5_sends 65 = .ok (.iload_n 3, 1) := dk_29 (dk_at dksX5_sends_2 17 rfl rfl)
theorem dX5_sends_66 : decode cX5_sends 66 = .ok (.ireturn, 1) := dk_172 (dk_at dksX5_sends_2 18 rfl rfl)
abbrev cX5_isAunt : ByteArray := prog_20_method_36_code
def yX5_isAunt : MethodName := ⟨RX5, "isAunt", "(I)Z"⟩
def dkwX5_isAunt_0 : List UInt8 := [27, 3, 42, 180, 0, 7, 16, 26, 46, 4, 100, 184, 0, 51, 172]
abbrev dktX5_isAunt_0 : List UInt8 := dkwX5_isAunt_0 ++ []
theorem dksX5_isAunt_0 : cX5_isAunt.data.toList.drop 0 = dktX5_isAunt_0 := by decide +kernel
theorem dX5_isAunt_0 : decode cX5_isAunt 0 = .ok (.iload_n 1, 1) := dk_27 (dk_at dksX5_isAunt_0 0 rfl rfl)
theorem dX5_isAunt_1 : decode cX5_isAunt 1 = .ok (.iconst 0, 1) := dk_3 (dk_at dksX5_isAunt_0 1 rfl rfl)
theorem dX5_isAunt_2 : decode cX5_isAunt 2 = .ok (.aload_n 0, 1) := dk_42 (dk_at dksX5_isAunt_0 2 rfl rfl)
theorem dX5_isAunt_3 : decode cX5_isAunt 3 = .ok (.getfield 7, 3) := dk_180 0 7 (dk_at dksX5_isAunt_0 3 rfl rfl)
theorem dX5_isAunt_6 : decode cX5_isAunt 6 = .ok (.bipush 26, 2) := dk_16 26 (dk_at dksX5_isAunt_0 6 rfl rfl)
theorem dX5_isAunt_8 : decode cX5_isAunt 8 = .ok (.iaload, 1) := dk_46 (dk_at dksX5_isAunt_0 8 rfl rfl)
theorem dX5_isAunt_9 : decode cX5_isAunt 9 = .ok (.iconst 1, 1) := dk_4 (dk_at dksX5_isAunt_0 9 rfl rfl)
theorem dX5_isAunt_10 : decode cX5_isAunt 10 = .ok (.isub, 1) := dk_100 (dk_at dksX5_isAunt_0 10 rfl rfl)
theorem dX5_isAunt_11 : decode cX5_isAunt 11 = .ok (.invokestatic 51, 3) := dk_184 0 51 (dk_at dksX5_isAunt_0 11 rfl rfl)
theorem dX5_isAunt_14 : decode cX5_isAunt 14 = .ok (.ireturn, 1) := dk_172 (dk_at dksX5_isAunt_0 14 rfl rfl)
abbrev cX5_undo : ByteArray := prog_20_method_40_code
def yX5_undo : MethodName := ⟨RX5, "undo", "()I"⟩
def dkwX5_undo_3 : List UInt8 := [180, 0, 7, 16, 9, 46, 172]
abbrev dktX5_undo_3 : List UInt8 := dkwX5_undo_3 ++ []
def dkwX5_undo_2 : List UInt8 := [16, 10, 42, 180, 0, 7, 16, 98, 46, 104, 96, 27, 96, 46, 79, 132, 1, 1, 167, 255, 221, 42]
abbrev dktX5_undo_2 : List UInt8 := dkwX5_undo_2 ++ dktX5_undo_3
def dkwX5_undo_1 : List UInt8 := [46, 4, 100, 79, 3, 60, 27, 16, 10, 162, 0, 35, 42, 180, 0, 7, 27, 42, 180, 0, 7, 16, 99]
abbrev dktX5_undo_1 : List UInt8 := dkwX5_undo_1 ++ dktX5_undo_2
def dkwX5_undo_0 : List UInt8 := [42, 180, 0, 7, 16, 98, 46, 154, 0, 10, 42, 16, 253, 182, 0, 55, 172, 42, 180, 0, 7, 16, 98, 92]
abbrev dktX5_undo_0 : List UInt8 := dkwX5_undo_0 ++ dktX5_undo_1
theorem dksX5_undo_0 : cX5_undo.data.toList.drop 0 = dktX5_undo_0 := by decide +kernel
theorem dksX5_undo_1 : cX5_undo.data.toList.drop 24 = dktX5_undo_1 := dk_seg dksX5_undo_0 24 rfl rfl
theorem dksX5_undo_2 : cX5_undo.data.toList.drop 47 = dktX5_undo_2 := dk_seg dksX5_undo_1 23 rfl rfl
theorem dksX5_undo_3 : cX5_undo.data.toList.drop 69 = dktX5_undo_3 := dk_seg dksX5_undo_2 22 rfl rfl
theorem dX5_undo_0 : decode cX5_undo 0 = .ok (.aload_n 0, 1) := dk_42 (dk_at dksX5_undo_0 0 rfl rfl)
theorem dX5_undo_1 : decode cX5_undo 1 = .ok (.getfield 7, 3) := dk_180 0 7 (dk_at dksX5_undo_0 1 rfl rfl)
theorem dX5_undo_4 : decode cX5_undo 4 = .ok (.bipush 98, 2) := dk_16 98 (dk_at dksX5_undo_0 4 rfl rfl)
theorem dX5_undo_6 : decode cX5_undo 6 = .ok (.iaload, 1) := dk_46 (dk_at dksX5_undo_0 6 rfl rfl)
theorem dX5_undo_7 : decode cX5_undo 7 = .ok (.ifCond .ne 10, 3) := dk_154 0 10 (dk_at dksX5_undo_0 7 rfl rfl)
theorem dX5_undo_10 : decode cX5_undo 10 = .ok (.aload_n 0, 1) := dk_42 (dk_at dksX5_undo_0 10 rfl rfl)
theorem dX5_undo_11 : decode cX5_undo 11 = .ok (.bipush (-3), 2) := dk_16 253 (dk_at dksX5_undo_0 11 rfl rfl)
theorem dX5_undo_13 : decode cX5_undo 13 = .ok (.invokevirtual 55, 3) := dk_182 0 55 (dk_at dksX5_undo_0 13 rfl rfl)
theorem dX5_undo_16 : decode cX5_undo 16 = .ok (.ireturn, 1) := dk_172 (dk_at dksX5_undo_0 16 rfl rfl)
theorem dX5_undo_17 : decode cX5_undo 17 = .ok (.aload_n 0, 1) := dk_42 (dk_at dksX5_undo_0 17 rfl rfl)
theorem dX5_undo_18 : decode cX5_undo 18 = .ok (.getfield 7, 3) := dk_180 0 7 (dk_at dksX5_undo_0 18 rfl rfl)
theorem dX5_undo_21 : decode cX5_undo 21 = .ok (.bipush 98, 2) := dk_16 98 (dk_at dksX5_undo_0 21 rfl rfl)
theorem dX5_undo_23 : decode cX5_undo 23 = .ok (.dup2, 1) := dk_92 (dk_at dksX5_undo_0 23 rfl rfl)
theorem dX5_undo_24 : decode cX5_undo 24 = .ok (.iaload, 1) := dk_46 (dk_at dksX5_undo_1 0 rfl rfl)
theorem dX5_undo_25 : decode cX5_undo 25 = .ok (.iconst 1, 1) := dk_4 (dk_at dksX5_undo_1 1 rfl rfl)
theorem dX5_undo_26 : decode cX5_undo 26 = .ok (.isub, 1) := dk_100 (dk_at dksX5_undo_1 2 rfl rfl)
theorem dX5_undo_27 : decode cX5_undo 27 = .ok (.iastore, 1) := dk_79 (dk_at dksX5_undo_1 3 rfl rfl)
theorem dX5_undo_28 : decode cX5_undo 28 = .ok (.iconst 0, 1) := dk_3 (dk_at dksX5_undo_1 4 rfl rfl)
theorem dX5_undo_29 : decode cX5_undo 29 = .ok (.istore_n 1, 1) := dk_60 (dk_at dksX5_undo_1 5 rfl rfl)
theorem dX5_undo_30 : decode cX5_undo 30 = .ok (.iload_n 1, 1) := dk_27 (dk_at dksX5_undo_1 6 rfl rfl)
theorem dX5_undo_31 : decode cX5_undo 31 = .ok (.bipush 10, 2) := dk_16 10 (dk_at dksX5_undo_1 7 rfl rfl)
theorem dX5_undo_33 : decode cX5_undo 33 = .ok (.if_icmp .ge 35, 3) := dk_162 0 35 (dk_at dksX5_undo_1 9 rfl rfl)
theorem dX5_undo_36 : decode cX5_undo 36 = .ok (.aload_n 0, 1) := dk_42 (dk_at dksX5_undo_1 12 rfl rfl)
theorem dX5_undo_37 : decode cX5_undo 37 = .ok (.getfield 7, 3) := dk_180 0 7 (dk_at dksX5_undo_1 13 rfl rfl)
theorem dX5_undo_40 : decode cX5_undo 40 = .ok (.iload_n 1, 1) := dk_27 (dk_at dksX5_undo_1 16 rfl rfl)
theorem dX5_undo_41 : decode cX5_undo 41 = .ok (.aload_n 0, 1) := dk_42 (dk_at dksX5_undo_1 17 rfl rfl)
theorem dX5_undo_42 : decode cX5_undo 42 = .ok (.getfield 7, 3) := dk_180 0 7 (dk_at dksX5_undo_1 18 rfl rfl)
theorem dX5_undo_45 : decode cX5_undo 45 = .ok (.bipush 99, 2) := dk_16 99 (dk_at dksX5_undo_1 21 rfl rfl)
theorem dX5_undo_47 : decode cX5_undo 47 = .ok (.bipush 10, 2) := dk_16 10 (dk_at dksX5_undo_2 0 rfl rfl)
theorem dX5_undo_49 : decode cX5_undo 49 = .ok (.aload_n 0, 1) := dk_42 (dk_at dksX5_undo_2 2 rfl rfl)
theorem dX5_undo_50 : decode cX5_undo 50 = .ok (.getfield 7, 3) := dk_180 0 7 (dk_at dksX5_undo_2 3 rfl rfl)
theorem dX5_undo_53 : decode cX5_undo 53 = .ok (.bipush 98, 2) := dk_16 98 (dk_at dksX5_undo_2 6 rfl rfl)
theorem dX5_undo_55 : decode cX5_undo 55 = .ok (.iaload, 1) := dk_46 (dk_at dksX5_undo_2 8 rfl rfl)
theorem dX5_undo_56 : decode cX5_undo 56 = .ok (.imul, 1) := dk_104 (dk_at dksX5_undo_2 9 rfl rfl)
theorem dX5_undo_57 : decode cX5_undo 57 = .ok (.iadd, 1) := dk_96 (dk_at dksX5_undo_2 10 rfl rfl)
theorem dX5_undo_58 : decode cX5_undo 58 = .ok (.iload_n 1, 1) := dk_27 (dk_at dksX5_undo_2 11 rfl rfl)
theorem dX5_undo_59 : decode cX5_undo 59 = .ok (.iadd, 1) := dk_96 (dk_at dksX5_undo_2 12 rfl rfl)
theorem dX5_undo_60 : decode cX5_undo 60 = .ok (.iaload, 1) := dk_46 (dk_at dksX5_undo_2 13 rfl rfl)
theorem dX5_undo_61 : decode cX5_undo 61 = .ok (.iastore, 1) := dk_79 (dk_at dksX5_undo_2 14 rfl rfl)
theorem dX5_undo_62 : decode cX5_undo 62 = .ok (.iinc 1 1, 3) := dk_132 1 1 (dk_at dksX5_undo_2 15 rfl rfl)
theorem dX5_undo_65 : decode cX5_undo 65 = .ok (.goto (-35), 3) := dk_167 255 221 (dk_at dksX5_undo_2 18 rfl rfl)
theorem dX5_undo_68 : decode cX5_undo 68 = .ok (.aload_n 0, 1) := dk_42 (dk_at dksX5_undo_2 21 rfl rfl)
theorem dX5_undo_69 : decode cX5_undo 69 = .ok (.getfield 7, 3) := dk_180 0 7 (dk_at dksX5_undo_3 0 rfl rfl)
theorem dX5_undo_72 : decode cX5_undo 72 = .ok (.bipush 9, 2) := dk_16 9 (dk_at dksX5_undo_3 3 rfl rfl)
theorem dX5_undo_74 : decode cX5_undo 74 = .ok (.iaload, 1) := dk_46 (dk_at dksX5_undo_3 5 rfl rfl)
theorem dX5_undo_75 : decode cX5_undo 75 = .ok (.ireturn, 1) := dk_172 (dk_at dksX5_undo_3 6 rfl rfl)
abbrev cX5_of : ByteArray := prog_20_method_41_code
def yX5_of : MethodName := ⟨RX5, "of", "(II)I"⟩
def dkwX5_of_2 : List UInt8 := [180, 0, 7, 16, 19, 27, 96, 46, 167, 0, 11, 42, 180, 0, 7, 3, 27, 96, 46, 172]
abbrev dktX5_of_2 : List UInt8 := dkwX5_of_2 ++ []
def dkwX5_of_1 : List UInt8 := [28, 154, 0, 15, 42, 180, 0, 7, 16, 12, 27, 96, 46, 167, 0, 28, 28, 4, 160, 0, 15, 42]
abbrev dktX5_of_1 : List UInt8 := dkwX5_of_1 ++ dktX5_of_2
def dkwX5_of_0 : List UInt8 := [42, 27, 182, 0, 159, 153, 0, 12, 28, 3, 5, 184, 0, 51, 154, 0, 10, 42, 16, 254, 182, 0, 55, 172]
abbrev dktX5_of_0 : List UInt8 := dkwX5_of_0 ++ dktX5_of_1
theorem dksX5_of_0 : cX5_of.data.toList.drop 0 = dktX5_of_0 := by decide +kernel
theorem dksX5_of_1 : cX5_of.data.toList.drop 24 = dktX5_of_1 := dk_seg dksX5_of_0 24 rfl rfl
theorem dksX5_of_2 : cX5_of.data.toList.drop 46 = dktX5_of_2 := dk_seg dksX5_of_1 22 rfl rfl
theorem dX5_of_0 : decode cX5_of 0 = .ok (.aload_n 0, 1) := dk_42 (dk_at dksX5_of_0 0 rfl rfl)
theorem dX5_of_1 : decode cX5_of 1 = .ok (.iload_n 1, 1) := dk_27 (dk_at dksX5_of_0 1 rfl rfl)
theorem dX5_of_2 : decode cX5_of 2 = .ok (.invokevirtual 159, 3) := dk_182 0 159 (dk_at dksX5_of_0 2 rfl rfl)
theorem dX5_of_5 : decode cX5_of 5 = .ok (.ifCond .eq 12, 3) := dk_153 0 12 (dk_at dksX5_of_0 5 rfl rfl)
theorem dX5_of_8 : decode cX5_of 8 = .ok (.iload_n 2, 1) := dk_28 (dk_at dksX5_of_0 8 rfl rfl)
theorem dX5_of_9 : decode cX5_of 9 = .ok (.iconst 0, 1) := dk_3 (dk_at dksX5_of_0 9 rfl rfl)
theorem dX5_of_10 : decode cX5_of 10 = .ok (.iconst 2, 1) := dk_5 (dk_at dksX5_of_0 10 rfl rfl)
theorem dX5_of_11 : decode cX5_of 11 = .ok (.invokestatic 51, 3) := dk_184 0 51 (dk_at dksX5_of_0 11 rfl rfl)
theorem dX5_of_14 : decode cX5_of 14 = .ok (.ifCond .ne 10, 3) := dk_154 0 10 (dk_at dksX5_of_0 14 rfl rfl)
theorem dX5_of_17 : decode cX5_of 17 = .ok (.aload_n 0, 1) := dk_42 (dk_at dksX5_of_0 17 rfl rfl)
theorem dX5_of_18 : decode cX5_of 18 = .ok (.bipush (-2), 2) := dk_16 254 (dk_at dksX5_of_0 18 rfl rfl)
theorem dX5_of_20 : decode cX5_of 20 = .ok (.invokevirtual 55, 3) := dk_182 0 55 (dk_at dksX5_of_0 20 rfl rfl)
theorem dX5_of_23 : decode cX5_of 23 = .ok (.ireturn, 1) := dk_172 (dk_at dksX5_of_0 23 rfl rfl)
theorem dX5_of_24 : decode cX5_of 24 = .ok (.iload_n 2, 1) := dk_28 (dk_at dksX5_of_1 0 rfl rfl)
theorem dX5_of_25 : decode cX5_of 25 = .ok (.ifCond .ne 15, 3) := dk_154 0 15 (dk_at dksX5_of_1 1 rfl rfl)
theorem dX5_of_28 : decode cX5_of 28 = .ok (.aload_n 0, 1) := dk_42 (dk_at dksX5_of_1 4 rfl rfl)
theorem dX5_of_29 : decode cX5_of 29 = .ok (.getfield 7, 3) := dk_180 0 7 (dk_at dksX5_of_1 5 rfl rfl)
theorem dX5_of_32 : decode cX5_of 32 = .ok (.bipush 12, 2) := dk_16 12 (dk_at dksX5_of_1 8 rfl rfl)
theorem dX5_of_34 : decode cX5_of 34 = .ok (.iload_n 1, 1) := dk_27 (dk_at dksX5_of_1 10 rfl rfl)
theorem dX5_of_35 : decode cX5_of 35 = .ok (.iadd, 1) := dk_96 (dk_at dksX5_of_1 11 rfl rfl)
theorem dX5_of_36 : decode cX5_of 36 = .ok (.iaload, 1) := dk_46 (dk_at dksX5_of_1 12 rfl rfl)
theorem dX5_of_37 : decode cX5_of 37 = .ok (.goto 28, 3) := dk_167 0 28 (dk_at dksX5_of_1 13 rfl rfl)
theorem dX5_of_40 : decode cX5_of 40 = .ok (.iload_n 2, 1) := dk_28 (dk_at dksX5_of_1 16 rfl rfl)
theorem dX5_of_41 : decode cX5_of 41 = .ok (.iconst 1, 1) := dk_4 (dk_at dksX5_of_1 17 rfl rfl)
theorem dX5_of_42 : decode cX5_of 42 = .ok (.if_icmp .ne 15, 3) := dk_160 0 15 (dk_at dksX5_of_1 18 rfl rfl)
theorem dX5_of_45 : decode cX5_of 45 = .ok (.aload_n 0, 1) := dk_42 (dk_at dksX5_of_1 21 rfl rfl)
theorem dX5_of_46 : decode cX5_of 46 = .ok (.getfield 7, 3) := dk_180 0 7 (dk_at dksX5_of_2 0 rfl rfl)
theorem dX5_of_49 : decode cX5_of 49 = .ok (.bipush 19, 2) := dk_16 19 (dk_at dksX5_of_2 3 rfl rfl)
theorem dX5_of_51 : decode cX5_of 51 = .ok (.iload_n 1, 1) := dk_27 (dk_at dksX5_of_2 5 rfl rfl)
theorem dX5_of_52 : decode cX5_of 52 = .ok (.iadd, 1) := dk_96 (dk_at dksX5_of_2 6 rfl rfl)
theorem dX5_of_53 : decode cX5_of 53 = .ok (.iaload, 1) := dk_46 (dk_at dksX5_of_2 7 rfl rfl)
theorem dX5_of_54 : decode cX5_of 54 = .ok (.goto 11, 3) := dk_167 0 11 (dk_at dksX5_of_2 8 rfl rfl)
theorem dX5_of_57 : decode cX5_of 57 = .ok (.aload_n 0, 1) := dk_42 (dk_at dksX5_of_2 11 rfl rfl)
theorem dX5_of_58 : decode cX5_of 58 = .ok (.getfield 7, 3) := dk_180 0 7 (dk_at dksX5_of_2 12 rfl rfl)
theorem dX5_of_61 : decode cX5_of 61 = .ok (.iconst 0, 1) := dk_3 (dk_at dksX5_of_2 15 rfl rfl)
theorem dX5_of_62 : decode cX5_of 62 = .ok (.iload_n 1, 1) := dk_27 (dk_at dksX5_of_2 16 rfl rfl)
theorem dX5_of_63 : decode cX5_of 63 = .ok (.iadd, 1) := dk_96 (dk_at dksX5_of_2 17 rfl rfl)
theorem dX5_of_64 : decode cX5_of 64 = .ok (.iaload, 1) := dk_46 (dk_at dksX5_of_2 18 rfl rfl)
theorem dX5_of_65 : decode cX5_of 65 = .ok (.ireturn, 1) := dk_172 (dk_at dksX5_of_2 19 rfl rfl)
abbrev cX5_about : ByteArray := prog_20_method_42_code
def yX5_about : MethodName := ⟨RX5, "about", "(II)I"⟩
def dkwX5_about_2 : List UInt8 := [180, 0, 7, 16, 31, 27, 96, 46, 167, 0, 14, 42, 180, 0, 7, 16, 7, 46, 27, 122, 4, 126, 172]
abbrev dktX5_about_2 : List UInt8 := dkwX5_about_2 ++ []
def dkwX5_about_1 : List UInt8 := [28, 154, 0, 15, 42, 180, 0, 7, 16, 27, 27, 96, 46, 167, 0, 31, 28, 4, 160, 0, 15, 42]
abbrev dktX5_about_1 : List UInt8 := dkwX5_about_1 ++ dktX5_about_2
def dkwX5_about_0 : List UInt8 := [42, 27, 182, 0, 162, 153, 0, 12, 28, 3, 5, 184, 0, 51, 154, 0, 10, 42, 16, 254, 182, 0, 55, 172]
abbrev dktX5_about_0 : List UInt8 := dkwX5_about_0 ++ dktX5_about_1
theorem dksX5_about_0 : cX5_about.data.toList.drop 0 = dktX5_about_0 := by decide +kernel
theorem dksX5_about_1 : cX5_about.data.toList.drop 24 = dktX5_about_1 := dk_seg dksX5_about_0 24 rfl rfl
theorem dksX5_about_2 : cX5_about.data.toList.drop 46 = dktX5_about_2 := dk_seg dksX5_about_1 22 rfl rfl
theorem dX5_about_0 : decode cX5_about 0 = .ok (.aload_n 0, 1) := dk_42 (dk_at dksX5_about_0 0 rfl rfl)
theorem dX5_about_1 : decode cX5_about 1 = .ok (.iload_n 1, 1) := dk_27 (dk_at dksX5_about_0 1 rfl rfl)
theorem dX5_about_2 : decode cX5_about 2 = .ok (.invokevirtual 162, 3) := dk_182 0 162 (dk_at dksX5_about_0 2 rfl rfl)
theorem dX5_about_5 : decode cX5_about 5 = .ok (.ifCond .eq 12, 3) := dk_153 0 12 (dk_at dksX5_about_0 5 rfl rfl)
theorem dX5_about_8 : decode cX5_about 8 = .ok (.iload_n 2, 1) := dk_28 (dk_at dksX5_about_0 8 rfl rfl)
theorem dX5_about_9 : decode cX5_about 9 = .ok (.iconst 0, 1) := dk_3 (dk_at dksX5_about_0 9 rfl rfl)
theorem dX5_about_10 : decode cX5_about 10 = .ok (.iconst 2, 1) := dk_5 (dk_at dksX5_about_0 10 rfl rfl)
theorem dX5_about_11 : decode cX5_about 11 = .ok (.invokestatic 51, 3) := dk_184 0 51 (dk_at dksX5_about_0 11 rfl rfl)
theorem dX5_about_14 : decode cX5_about 14 = .ok (.ifCond .ne 10, 3) := dk_154 0 10 (dk_at dksX5_about_0 14 rfl rfl)
theorem dX5_about_17 : decode cX5_about 17 = .ok (.aload_n 0, 1) := dk_42 (dk_at dksX5_about_0 17 rfl rfl)
theorem dX5_about_18 : decode cX5_about 18 = .ok (.bipush (-2), 2) := dk_16 254 (dk_at dksX5_about_0 18 rfl rfl)
theorem dX5_about_20 : decode cX5_about 20 = .ok (.invokevirtual 55, 3) := dk_182 0 55 (dk_at dksX5_about_0 20 rfl rfl)
theorem dX5_about_23 : decode cX5_about 23 = .ok (.ireturn, 1) := dk_172 (dk_at dksX5_about_0 23 rfl rfl)
theorem dX5_about_24 : decode cX5_about 24 = .ok (.iload_n 2, 1) := dk_28 (dk_at dksX5_about_1 0 rfl rfl)
theorem dX5_about_25 : decode cX5_about 25 = .ok (.ifCond .ne 15, 3) := dk_154 0 15 (dk_at dksX5_about_1 1 rfl rfl)
theorem dX5_about_28 : decode cX5_about 28 = .ok (.aload_n 0, 1) := dk_42 (dk_at dksX5_about_1 4 rfl rfl)
theorem dX5_about_29 : decode cX5_about 29 = .ok (.getfield 7, 3) := dk_180 0 7 (dk_at dksX5_about_1 5 rfl rfl)
theorem dX5_about_32 : decode cX5_about 32 = .ok (.bipush 27, 2) := dk_16 27 (dk_at dksX5_about_1 8 rfl rfl)
theorem dX5_about_34 : decode cX5_about 34 = .ok (.iload_n 1, 1) := dk_27 (dk_at dksX5_about_1 10 rfl rfl)
theorem dX5_about_35 : decode cX5_about 35 = .ok (.iadd, 1) := dk_96 (dk_at dksX5_about_1 11 rfl rfl)
theorem dX5_about_36 : decode cX5_about 36 = .ok (.iaload, 1) := dk_46 (dk_at dksX5_about_1 12 rfl rfl)
theorem dX5_about_37 : decode cX5_about 37 = .ok (.goto 31, 3) := dk_167 0 31 (dk_at dksX5_about_1 13 rfl rfl)
theorem dX5_about_40 : decode cX5_about 40 = .ok (.iload_n 2, 1) := dk_28 (dk_at dksX5_about_1 16 rfl rfl)
theorem dX5_about_41 : decode cX5_about 41 = .ok (.iconst 1, 1) := dk_4 (dk_at dksX5_about_1 17 rfl rfl)
theorem dX5_about_42 : decode cX5_about 42 = .ok (.if_icmp .ne 15, 3) := dk_160 0 15 (dk_at dksX5_about_1 18 rfl rfl)
theorem dX5_about_45 : decode cX5_about 45 = .ok (.aload_n 0, 1) := dk_42 (dk_at dksX5_about_1 21 rfl rfl)
theorem dX5_about_46 : decode cX5_about 46 = .ok (.getfield 7, 3) := dk_180 0 7 (dk_at dksX5_about_2 0 rfl rfl)
theorem dX5_about_49 : decode cX5_about 49 = .ok (.bipush 31, 2) := dk_16 31 (dk_at dksX5_about_2 3 rfl rfl)
theorem dX5_about_51 : decode cX5_about 51 = .ok (.iload_n 1, 1) := dk_27 (dk_at dksX5_about_2 5 rfl rfl)
theorem dX5_about_52 : decode cX5_about 52 = .ok (.iadd, 1) := dk_96 (dk_at dksX5_about_2 6 rfl rfl)
theorem dX5_about_53 : decode cX5_about 53 = .ok (.iaload, 1) := dk_46 (dk_at dksX5_about_2 7 rfl rfl)
theorem dX5_about_54 : decode cX5_about 54 = .ok (.goto 14, 3) := dk_167 0 14 (dk_at dksX5_about_2 8 rfl rfl)
theorem dX5_about_57 : decode cX5_about 57 = .ok (.aload_n 0, 1) := dk_42 (dk_at dksX5_about_2 11 rfl rfl)
theorem dX5_about_58 : decode cX5_about 58 = .ok (.getfield 7, 3) := dk_180 0 7 (dk_at dksX5_about_2 12 rfl rfl)
theorem dX5_about_61 : decode cX5_about 61 = .ok (.bipush 7, 2) := dk_16 7 (dk_at dksX5_about_2 15 rfl rfl)
theorem dX5_about_63 : decode cX5_about 63 = .ok (.iaload, 1) := dk_46 (dk_at dksX5_about_2 17 rfl rfl)
theorem dX5_about_64 : decode cX5_about 64 = .ok (.iload_n 1, 1) := dk_27 (dk_at dksX5_about_2 18 rfl rfl)
theorem dX5_about_65 : decode cX5_about 65 = .ok (.ishr, 1) := dk_122 (dk_at dksX5_about_2 19 rfl rfl)
theorem dX5_about_66 : decode cX5_about 66 = .ok (.iconst 1, 1) := dk_4 (dk_at dksX5_about_2 20 rfl rfl)
theorem dX5_about_67 : decode cX5_about 67 = .ok (.iand, 1) := dk_126 (dk_at dksX5_about_2 21 rfl rfl)
theorem dX5_about_68 : decode cX5_about 68 = .ok (.ireturn, 1) := dk_172 (dk_at dksX5_about_2 22 rfl rfl)
abbrev cX5_leans : ByteArray := prog_20_method_44_code
def yX5_leans : MethodName := ⟨RX5, "leans", "(III)I"⟩
def dkwX5_leans_2 : List UInt8 := [42, 180, 0, 7, 3, 27, 96, 46, 28, 184, 0, 135, 167, 0, 10, 42, 3, 27, 28, 182, 0, 146, 172]
abbrev dktX5_leans_2 : List UInt8 := dkwX5_leans_2 ++ []
def dkwX5_leans_1 : List UInt8 := [154, 0, 11, 42, 17, 252, 24, 182, 0, 165, 172, 29, 154, 0, 27, 42, 180, 0, 7, 16, 12, 27, 96, 46]
abbrev dktX5_leans_1 : List UInt8 := dkwX5_leans_1 ++ dktX5_leans_2
def dkwX5_leans_0 : List UInt8 := [42, 27, 182, 0, 159, 153, 0, 22, 28, 3, 16, 99, 184, 0, 51, 153, 0, 12, 29, 3, 4, 184, 0, 51]
abbrev dktX5_leans_0 : List UInt8 := dkwX5_leans_0 ++ dktX5_leans_1
theorem dksX5_leans_0 : cX5_leans.data.toList.drop 0 = dktX5_leans_0 := by decide +kernel
theorem dksX5_leans_1 : cX5_leans.data.toList.drop 24 = dktX5_leans_1 := dk_seg dksX5_leans_0 24 rfl rfl
theorem dksX5_leans_2 : cX5_leans.data.toList.drop 48 = dktX5_leans_2 := dk_seg dksX5_leans_1 24 rfl rfl
theorem dX5_leans_0 : decode cX5_leans 0 = .ok (.aload_n 0, 1) := dk_42 (dk_at dksX5_leans_0 0 rfl rfl)
theorem dX5_leans_1 : decode cX5_leans 1 = .ok (.iload_n 1, 1) := dk_27 (dk_at dksX5_leans_0 1 rfl rfl)
theorem dX5_leans_2 : decode cX5_leans 2 = .ok (.invokevirtual 159, 3) := dk_182 0 159 (dk_at dksX5_leans_0 2 rfl rfl)
theorem dX5_leans_5 : decode cX5_leans 5 = .ok (.ifCond .eq 22, 3) := dk_153 0 22 (dk_at dksX5_leans_0 5 rfl rfl)
theorem dX5_leans_8 : decode cX5_leans 8 = .ok (.iload_n 2, 1) := dk_28 (dk_at dksX5_leans_0 8 rfl rfl)
theorem dX5_leans_9 : decode cX5_leans 9 = .ok (.iconst 0, 1) := dk_3 (dk_at dksX5_leans_0 9 rfl rfl)
theorem dX5_leans_10 : decode cX5_leans 10 = .ok (.bipush 99, 2) := dk_16 99 (dk_at dksX5_leans_0 10 rfl rfl)
theorem dX5_leans_12 : decode cX5_leans 12 = .ok (.invokestatic 51, 3) := dk_184 0 51 (dk_at dksX5_leans_0 12 rfl rfl)
theorem dX5_leans_15 : decode cX5_leans 15 = .ok (.ifCond .eq 12, 3) := dk_153 0 12 (dk_at dksX5_leans_0 15 rfl rfl)
theorem dX5_leans_18 : decode cX5_leans 18 = .ok (.iload_n 3, 1) := dk_29 (dk_at dksX5_leans_0 18 rfl rfl)
theorem dX5_leans_19 : decode cX5_leans 19 = .ok (.iconst 0, 1) := dk_3 (dk_at dksX5_leans_0 19 rfl rfl)
theorem dX5_leans_20 : decode cX5_leans 20 = .ok (.iconst 1, 1) := dk_4 (dk_at dksX5_leans_0 20 rfl rfl)
theorem dX5_leans_21 : decode cX5_leans 21 = .ok (.invokestatic 51, 3) := dk_184 0 51 (dk_at dksX5_leans_0 21 rfl rfl)
theorem dX5_leans_24 : decode cX5_leans 24 = .ok (.ifCond .ne 11, 3) := dk_154 0 11 (dk_at dksX5_leans_1 0 rfl rfl)
theorem dX5_leans_27 : decode cX5_leans 27 = .ok (.aload_n 0, 1) := dk_42 (dk_at dksX5_leans_1 3 rfl rfl)
theorem dX5_leans_28 : decode cX5_leans 28 = .ok (.sipush (-1000), 3) := dk_17 252 24 (dk_at dksX5_leans_1 4 rfl rfl)
theorem dX5_leans_31 : decode cX5_leans 31 = .ok (.invokevirtual 165, 3) := dk_182 0 165 (dk_at dksX5_leans_1 7 rfl rfl)
theorem dX5_leans_34 : decode cX5_leans 34 = .ok (.ireturn, 1) := dk_172 (dk_at dksX5_leans_1 10 rfl rfl)
theorem dX5_leans_35 : decode cX5_leans 35 = .ok (.iload_n 3, 1) := dk_29 (dk_at dksX5_leans_1 11 rfl rfl)
theorem dX5_leans_36 : decode cX5_leans 36 = .ok (.ifCond .ne 27, 3) := dk_154 0 27 (dk_at dksX5_leans_1 12 rfl rfl)
theorem dX5_leans_39 : decode cX5_leans 39 = .ok (.aload_n 0, 1) := dk_42 (dk_at dksX5_leans_1 15 rfl rfl)
theorem dX5_leans_40 : decode cX5_leans 40 = .ok (.getfield 7, 3) := dk_180 0 7 (dk_at dksX5_leans_1 16 rfl rfl)
theorem dX5_leans_43 : decode cX5_leans 43 = .ok (.bipush 12, 2) := dk_16 12 (dk_at dksX5_leans_1 19 rfl rfl)
theorem dX5_leans_45 : decode cX5_leans 45 = .ok (.iload_n 1, 1) := dk_27 (dk_at dksX5_leans_1 21 rfl rfl)
theorem dX5_leans_46 : decode cX5_leans 46 = .ok (.iadd, 1) := dk_96 (dk_at dksX5_leans_1 22 rfl rfl)
theorem dX5_leans_47 : decode cX5_leans 47 = .ok (.iaload, 1) := dk_46 (dk_at dksX5_leans_1 23 rfl rfl)
theorem dX5_leans_48 : decode cX5_leans 48 = .ok (.aload_n 0, 1) := dk_42 (dk_at dksX5_leans_2 0 rfl rfl)
theorem dX5_leans_49 : decode cX5_leans 49 = .ok (.getfield 7, 3) := dk_180 0 7 (dk_at dksX5_leans_2 1 rfl rfl)
theorem dX5_leans_52 : decode cX5_leans 52 = .ok (.iconst 0, 1) := dk_3 (dk_at dksX5_leans_2 4 rfl rfl)
theorem dX5_leans_53 : decode cX5_leans 53 = .ok (.iload_n 1, 1) := dk_27 (dk_at dksX5_leans_2 5 rfl rfl)
theorem dX5_leans_54 : decode cX5_leans 54 = .ok (.iadd, 1) := dk_96 (dk_at dksX5_leans_2 6 rfl rfl)
theorem dX5_leans_55 : decode cX5_leans 55 = .ok (.iaload, 1) := dk_46 (dk_at dksX5_leans_2 7 rfl rfl)
theorem dX5_leans_56 : decode cX5_leans 56 = .ok (.iload_n 2, 1) := dk_28 (dk_at dksX5_leans_2 8 rfl rfl)
theorem dX5_leans_57 : decode cX5_leans 57 = .ok (.invokestatic 135, 3) := dk_184 0 135 (dk_at dksX5_leans_2 9 rfl rfl)
theorem dX5_leans_60 : decode cX5_leans 60 = .ok (.goto 10, 3) := dk_167 0 10 (dk_at dksX5_leans_2 12 rfl rfl)
theorem dX5_leans_63 : decode cX5_leans 63 = .ok (.aload_n 0, 1) := dk_42 (dk_at dksX5_leans_2 15 rfl rfl)
theorem dX5_leans_64 : decode cX5_leans 64 = .ok (.iconst 0, 1) := dk_3 (dk_at dksX5_leans_2 16 rfl rfl)
theorem dX5_leans_65 : decode cX5_leans 65 = .ok (.iload_n 1, 1) := dk_27 (dk_at dksX5_leans_2 17 rfl rfl)
theorem dX5_leans_66 : decode cX5_leans 66 = .ok (.iload_n 2, 1) := dk_28 (dk_at dksX5_leans_2 18 rfl rfl)
theorem dX5_leans_67 : decode cX5_leans 67 = .ok (.invokevirtual 146, 3) := dk_182 0 146 (dk_at dksX5_leans_2 19 rfl rfl)
theorem dX5_leans_70 : decode cX5_leans 70 = .ok (.ireturn, 1) := dk_172 (dk_at dksX5_leans_2 22 rfl rfl)
abbrev cX5_badAs : ByteArray := prog_20_method_43_code
def yX5_badAs : MethodName := ⟨RX5, "badAs", "(I)I"⟩
def dkwX5_badAs_0 : List UInt8 := [42, 16, 254, 182, 0, 55, 87, 27, 172]
abbrev dktX5_badAs_0 : List UInt8 := dkwX5_badAs_0 ++ []
theorem dksX5_badAs_0 : cX5_badAs.data.toList.drop 0 = dktX5_badAs_0 := by decide +kernel
theorem dX5_badAs_0 : decode cX5_badAs 0 = .ok (.aload_n 0, 1) := dk_42 (dk_at dksX5_badAs_0 0 rfl rfl)
theorem dX5_badAs_1 : decode cX5_badAs 1 = .ok (.bipush (-2), 2) := dk_16 254 (dk_at dksX5_badAs_0 1 rfl rfl)
theorem dX5_badAs_3 : decode cX5_badAs 3 = .ok (.invokevirtual 55, 3) := dk_182 0 55 (dk_at dksX5_badAs_0 3 rfl rfl)
theorem dX5_badAs_6 : decode cX5_badAs 6 = .ok (.pop, 1) := dk_87 (dk_at dksX5_badAs_0 6 rfl rfl)
theorem dX5_badAs_7 : decode cX5_badAs 7 = .ok (.iload_n 1, 1) := dk_27 (dk_at dksX5_badAs_0 7 rfl rfl)
theorem dX5_badAs_8 : decode cX5_badAs 8 = .ok (.ireturn, 1) := dk_172 (dk_at dksX5_badAs_0 8 rfl rfl)
abbrev cX5_sound : ByteArray := prog_20_method_45_code
def yX5_sound : MethodName := ⟨RX5, "sound", "(I)I"⟩
def dkwX5_sound_1 : List UInt8 := [182, 0, 55, 172]
abbrev dktX5_sound_1 : List UInt8 := dkwX5_sound_1 ++ []
def dkwX5_sound_0 : List UInt8 := [27, 3, 16, 99, 184, 0, 51, 153, 0, 12, 42, 3, 27, 182, 0, 153, 167, 0, 9, 42, 16, 254]
abbrev dktX5_sound_0 : List UInt8 := dkwX5_sound_0 ++ dktX5_sound_1
theorem dksX5_sound_0 : cX5_sound.data.toList.drop 0 = dktX5_sound_0 := by decide +kernel
theorem dksX5_sound_1 : cX5_sound.data.toList.drop 22 = dktX5_sound_1 := dk_seg dksX5_sound_0 22 rfl rfl
theorem dX5_sound_0 : decode cX5_sound 0 = .ok (.iload_n 1, 1) := dk_27 (dk_at dksX5_sound_0 0 rfl rfl)
theorem dX5_sound_1 : decode cX5_sound 1 = .ok (.iconst 0, 1) := dk_3 (dk_at dksX5_sound_0 1 rfl rfl)
theorem dX5_sound_2 : decode cX5_sound 2 = .ok (.bipush 99, 2) := dk_16 99 (dk_at dksX5_sound_0 2 rfl rfl)
theorem dX5_sound_4 : decode cX5_sound 4 = .ok (.invokestatic 51, 3) := dk_184 0 51 (dk_at dksX5_sound_0 4 rfl rfl)
theorem dX5_sound_7 : decode cX5_sound 7 = .ok (.ifCond .eq 12, 3) := dk_153 0 12 (dk_at dksX5_sound_0 7 rfl rfl)
theorem dX5_sound_10 : decode cX5_sound 10 = .ok (.aload_n 0, 1) := dk_42 (dk_at dksX5_sound_0 10 rfl rfl)
theorem dX5_sound_11 : decode cX5_sound 11 = .ok (.iconst 0, 1) := dk_3 (dk_at dksX5_sound_0 11 rfl rfl)
theorem dX5_sound_12 : decode cX5_sound 12 = .ok (.iload_n 1, 1) := dk_27 (dk_at dksX5_sound_0 12 rfl rfl)
theorem dX5_sound_13 : decode cX5_sound 13 = .ok (.invokevirtual 153, 3) := dk_182 0 153 (dk_at dksX5_sound_0 13 rfl rfl)
theorem dX5_sound_16 : decode cX5_sound 16 = .ok (.goto 9, 3) := dk_167 0 9 (dk_at dksX5_sound_0 16 rfl rfl)
theorem dX5_sound_19 : decode cX5_sound 19 = .ok (.aload_n 0, 1) := dk_42 (dk_at dksX5_sound_0 19 rfl rfl)
theorem dX5_sound_20 : decode cX5_sound 20 = .ok (.bipush (-2), 2) := dk_16 254 (dk_at dksX5_sound_0 20 rfl rfl)
theorem dX5_sound_22 : decode cX5_sound 22 = .ok (.invokevirtual 55, 3) := dk_182 0 55 (dk_at dksX5_sound_1 0 rfl rfl)
theorem dX5_sound_25 : decode cX5_sound 25 = .ok (.ireturn, 1) := dk_172 (dk_at dksX5_sound_1 3 rfl rfl)
abbrev cX5_entry : ByteArray := prog_20_method_46_code
def yX5_entry : MethodName := ⟨RX5, "entry", "()I"⟩
def dkwX5_entry_1 : List UInt8 := [158, 0, 5, 27, 172, 132, 1, 1, 167, 255, 228, 2, 172]
abbrev dktX5_entry_1 : List UInt8 := dkwX5_entry_1 ++ []
def dkwX5_entry_0 : List UInt8 := [3, 60, 27, 16, 61, 162, 0, 28, 42, 3, 42, 180, 0, 7, 16, 9, 46, 27, 96, 182, 0, 153]
abbrev dktX5_entry_0 : List UInt8 := dkwX5_entry_0 ++ dktX5_entry_1
theorem dksX5_entry_0 : cX5_entry.data.toList.drop 0 = dktX5_entry_0 := by decide +kernel
theorem dksX5_entry_1 : cX5_entry.data.toList.drop 22 = dktX5_entry_1 := dk_seg dksX5_entry_0 22 rfl rfl
theorem dX5_entry_0 : decode cX5_entry 0 = .ok (.iconst 0, 1) := dk_3 (dk_at dksX5_entry_0 0 rfl rfl)
theorem dX5_entry_1 : decode cX5_entry 1 = .ok (.istore_n 1, 1) := dk_60 (dk_at dksX5_entry_0 1 rfl rfl)
theorem dX5_entry_2 : decode cX5_entry 2 = .ok (.iload_n 1, 1) := dk_27 (dk_at dksX5_entry_0 2 rfl rfl)
theorem dX5_entry_3 : decode cX5_entry 3 = .ok (.bipush 61, 2) := dk_16 61 (dk_at dksX5_entry_0 3 rfl rfl)
theorem dX5_entry_5 : decode cX5_entry 5 = .ok (.if_icmp .ge 28, 3) := dk_162 0 28 (dk_at dksX5_entry_0 5 rfl rfl)
theorem dX5_entry_8 : decode cX5_entry 8 = .ok (.aload_n 0, 1) := dk_42 (dk_at dksX5_entry_0 8 rfl rfl)
theorem dX5_entry_9 : decode cX5_entry 9 = .ok (.iconst 0, 1) := dk_3 (dk_at dksX5_entry_0 9 rfl rfl)
theorem dX5_entry_10 : decode cX5_entry 10 = .ok (.aload_n 0, 1) := dk_42 (dk_at dksX5_entry_0 10 rfl rfl)
theorem dX5_entry_11 : decode cX5_entry 11 = .ok (.getfield 7, 3) := dk_180 0 7 (dk_at dksX5_entry_0 11 rfl rfl)
theorem dX5_entry_14 : decode cX5_entry 14 = .ok (.bipush 9, 2) := dk_16 9 (dk_at dksX5_entry_0 14 rfl rfl)
theorem dX5_entry_16 : decode cX5_entry 16 = .ok (.iaload, 1) := dk_46 (dk_at dksX5_entry_0 16 rfl rfl)
theorem dX5_entry_17 : decode cX5_entry 17 = .ok (.iload_n 1, 1) := dk_27 (dk_at dksX5_entry_0 17 rfl rfl)
theorem dX5_entry_18 : decode cX5_entry 18 = .ok (.iadd, 1) := dk_96 (dk_at dksX5_entry_0 18 rfl rfl)
theorem dX5_entry_19 : decode cX5_entry 19 = .ok (.invokevirtual 153, 3) := dk_182 0 153 (dk_at dksX5_entry_0 19 rfl rfl)
theorem dX5_entry_22 : decode cX5_entry 22 = .ok (.ifCond .le 5, 3) := dk_158 0 5 (dk_at dksX5_entry_1 0 rfl rfl)
theorem dX5_entry_25 : decode cX5_entry 25 = .ok (.iload_n 1, 1) := dk_27 (dk_at dksX5_entry_1 3 rfl rfl)
theorem dX5_entry_26 : decode cX5_entry 26 = .ok (.ireturn, 1) := dk_172 (dk_at dksX5_entry_1 4 rfl rfl)
theorem dX5_entry_27 : decode cX5_entry 27 = .ok (.iinc 1 1, 3) := dk_132 1 1 (dk_at dksX5_entry_1 5 rfl rfl)
theorem dX5_entry_30 : decode cX5_entry 30 = .ok (.goto (-28), 3) := dk_167 255 228 (dk_at dksX5_entry_1 8 rfl rfl)
theorem dX5_entry_33 : decode cX5_entry 33 = .ok (.iconst (-1), 1) := dk_2 (dk_at dksX5_entry_1 11 rfl rfl)
theorem dX5_entry_34 : decode cX5_entry 34 = .ok (.ireturn, 1) := dk_172 (dk_at dksX5_entry_1 12 rfl rfl)
abbrev cX5_then : ByteArray := prog_20_method_48_code
def yX5_then : MethodName := ⟨RX5, "then", "(I)I"⟩
def dkwX5_then_1 : List UInt8 := [17, 2, 25, 27, 182, 0, 118, 42, 180, 0, 7, 17, 2, 33, 46, 172]
abbrev dktX5_then_1 : List UInt8 := dkwX5_then_1 ++ []
def dkwX5_then_0 : List UInt8 := [27, 3, 16, 60, 184, 0, 51, 154, 0, 10, 42, 16, 254, 182, 0, 55, 172, 42, 182, 0, 168, 42]
abbrev dktX5_then_0 : List UInt8 := dkwX5_then_0 ++ dktX5_then_1
theorem dksX5_then_0 : cX5_then.data.toList.drop 0 = dktX5_then_0 := by decide +kernel
theorem dksX5_then_1 : cX5_then.data.toList.drop 22 = dktX5_then_1 := dk_seg dksX5_then_0 22 rfl rfl
theorem dX5_then_0 : decode cX5_then 0 = .ok (.iload_n 1, 1) := dk_27 (dk_at dksX5_then_0 0 rfl rfl)
theorem dX5_then_1 : decode cX5_then 1 = .ok (.iconst 0, 1) := dk_3 (dk_at dksX5_then_0 1 rfl rfl)
theorem dX5_then_2 : decode cX5_then 2 = .ok (.bipush 60, 2) := dk_16 60 (dk_at dksX5_then_0 2 rfl rfl)
theorem dX5_then_4 : decode cX5_then 4 = .ok (.invokestatic 51, 3) := dk_184 0 51 (dk_at dksX5_then_0 4 rfl rfl)
theorem dX5_then_7 : decode cX5_then 7 = .ok (.ifCond .ne 10, 3) := dk_154 0 10 (dk_at dksX5_then_0 7 rfl rfl)
theorem dX5_then_10 : decode cX5_then 10 = .ok (.aload_n 0, 1) := dk_42 (dk_at dksX5_then_0 10 rfl rfl)
theorem dX5_then_11 : decode cX5_then 11 = .ok (.bipush (-2), 2) := dk_16 254 (dk_at dksX5_then_0 11 rfl rfl)
theorem dX5_then_13 : decode cX5_then 13 = .ok (.invokevirtual 55, 3) := dk_182 0 55 (dk_at dksX5_then_0 13 rfl rfl)
theorem dX5_then_16 : decode cX5_then 16 = .ok (.ireturn, 1) := dk_172 (dk_at dksX5_then_0 16 rfl rfl)
theorem dX5_then_17 : decode cX5_then 17 = .ok (.aload_n 0, 1) := dk_42 (dk_at dksX5_then_0 17 rfl rfl)
theorem dX5_then_18 : decode cX5_then 18 = .ok (.invokevirtual 168, 3) := dk_182 0 168 (dk_at dksX5_then_0 18 rfl rfl)
theorem dX5_then_21 : decode cX5_then 21 = .ok (.aload_n 0, 1) := dk_42 (dk_at dksX5_then_0 21 rfl rfl)
theorem dX5_then_22 : decode cX5_then 22 = .ok (.sipush 537, 3) := dk_17 2 25 (dk_at dksX5_then_1 0 rfl rfl)
theorem dX5_then_25 : decode cX5_then 25 = .ok (.iload_n 1, 1) := dk_27 (dk_at dksX5_then_1 3 rfl rfl)
theorem dX5_then_26 : decode cX5_then 26 = .ok (.invokevirtual 118, 3) := dk_182 0 118 (dk_at dksX5_then_1 4 rfl rfl)
theorem dX5_then_29 : decode cX5_then 29 = .ok (.aload_n 0, 1) := dk_42 (dk_at dksX5_then_1 7 rfl rfl)
theorem dX5_then_30 : decode cX5_then 30 = .ok (.getfield 7, 3) := dk_180 0 7 (dk_at dksX5_then_1 8 rfl rfl)
theorem dX5_then_33 : decode cX5_then 33 = .ok (.sipush 545, 3) := dk_17 2 33 (dk_at dksX5_then_1 11 rfl rfl)
theorem dX5_then_36 : decode cX5_then 36 = .ok (.iaload, 1) := dk_46 (dk_at dksX5_then_1 14 rfl rfl)
theorem dX5_then_37 : decode cX5_then 37 = .ok (.ireturn, 1) := dk_172 (dk_at dksX5_then_1 15 rfl rfl)
abbrev cX5_layTried : ByteArray := prog_20_method_47_code
def yX5_layTried : MethodName := ⟨RX5, "layTried", "()V"⟩
def dkwX5_layTried_1 : List UInt8 := [132, 1, 1, 167, 255, 231, 177]
abbrev dktX5_layTried_1 : List UInt8 := dkwX5_layTried_1 ++ []
def dkwX5_layTried_0 : List UInt8 := [3, 60, 27, 16, 10, 162, 0, 25, 42, 180, 0, 7, 17, 2, 25, 27, 96, 42, 180, 0, 7, 27, 46, 79]
abbrev dktX5_layTried_0 : List UInt8 := dkwX5_layTried_0 ++ dktX5_layTried_1
theorem dksX5_layTried_0 : cX5_layTried.data.toList.drop 0 = dktX5_layTried_0 := by decide +kernel
theorem dksX5_layTried_1 : cX5_layTried.data.toList.drop 24 = dktX5_layTried_1 := dk_seg dksX5_layTried_0 24 rfl rfl
theorem dX5_layTried_0 : decode cX5_layTried 0 = .ok (.iconst 0, 1) := dk_3 (dk_at dksX5_layTried_0 0 rfl rfl)
theorem dX5_layTried_1 : decode cX5_layTried 1 = .ok (.istore_n 1, 1) := dk_60 (dk_at dksX5_layTried_0 1 rfl rfl)
theorem dX5_layTried_2 : decode cX5_layTried 2 = .ok (.iload_n 1, 1) := dk_27 (dk_at dksX5_layTried_0 2 rfl rfl)
theorem dX5_layTried_3 : decode cX5_layTried 3 = .ok (.bipush 10, 2) := dk_16 10 (dk_at dksX5_layTried_0 3 rfl rfl)
theorem dX5_layTried_5 : decode cX5_layTried 5 = .ok (.if_icmp .ge 25, 3) := dk_162 0 25 (dk_at dksX5_layTried_0 5 rfl rfl)
theorem dX5_layTried_8 : decode cX5_layTried 8 = .ok (.aload_n 0, 1) := dk_42 (dk_at dksX5_layTried_0 8 rfl rfl)
theorem dX5_layTried_9 : decode cX5_layTried 9 = .ok (.getfield 7, 3) := dk_180 0 7 (dk_at dksX5_layTried_0 9 rfl rfl)
theorem dX5_layTried_12 : decode cX5_layTried 12 = .ok (.sipush 537, 3) := dk_17 2 25 (dk_at dksX5_layTried_0 12 rfl rfl)
theorem dX5_layTried_15 : decode cX5_layTried 15 = .ok (.iload_n 1, 1) := dk_27 (dk_at dksX5_layTried_0 15 rfl rfl)
theorem dX5_layTried_16 : decode cX5_layTried 16 = .ok (.iadd, 1) := dk_96 (dk_at dksX5_layTried_0 16 rfl rfl)
theorem dX5_layTried_17 : decode cX5_layTried 17 = .ok (.aload_n 0, 1) := dk_42 (dk_at dksX5_layTried_0 17 rfl rfl)
theorem dX5_layTried_18 : decode cX5_layTried 18 = .ok (.getfield 7, 3) := dk_180 0 7 (dk_at dksX5_layTried_0 18 rfl rfl)
theorem dX5_layTried_21 : decode cX5_layTried 21 = .ok (.iload_n 1, 1) := dk_27 (dk_at dksX5_layTried_0 21 rfl rfl)
theorem dX5_layTried_22 : decode cX5_layTried 22 = .ok (.iaload, 1) := dk_46 (dk_at dksX5_layTried_0 22 rfl rfl)
theorem dX5_layTried_23 : decode cX5_layTried 23 = .ok (.iastore, 1) := dk_79 (dk_at dksX5_layTried_0 23 rfl rfl)
theorem dX5_layTried_24 : decode cX5_layTried 24 = .ok (.iinc 1 1, 3) := dk_132 1 1 (dk_at dksX5_layTried_1 0 rfl rfl)
theorem dX5_layTried_27 : decode cX5_layTried 27 = .ok (.goto (-25), 3) := dk_167 255 231 (dk_at dksX5_layTried_1 3 rfl rfl)
theorem dX5_layTried_30 : decode cX5_layTried 30 = .ok (.return_, 1) := dk_177 (dk_at dksX5_layTried_1 6 rfl rfl)
abbrev cX5_still : ByteArray := prog_20_method_50_code
def yX5_still : MethodName := ⟨RX5, "still", "(I)I"⟩
def dkwX5_still_4 : List UInt8 := [172]
abbrev dktX5_still_4 : List UInt8 := dkwX5_still_4 ++ []
def dkwX5_still_3 : List UInt8 := [153, 0, 15, 42, 27, 182, 0, 174, 153, 0, 7, 29, 167, 0, 4, 28, 61, 132, 3, 1, 167, 255, 189, 28]
abbrev dktX5_still_3 : List UInt8 := dkwX5_still_3 ++ dktX5_still_4
def dkwX5_still_2 : List UInt8 := [2, 159, 0, 14, 29, 184, 0, 171, 28, 184, 0, 171, 162, 0, 7, 4, 167, 0, 4, 3, 54, 4, 21, 4]
abbrev dktX5_still_2 : List UInt8 := dkwX5_still_2 ++ dktX5_still_3
def dkwX5_still_1 : List UInt8 := [62, 29, 4, 42, 180, 0, 7, 16, 26, 46, 120, 162, 0, 60, 42, 180, 0, 7, 17, 2, 32, 29, 79, 28]
abbrev dktX5_still_1 : List UInt8 := dkwX5_still_1 ++ dktX5_still_2
def dkwX5_still_0 : List UInt8 := [27, 4, 16, 60, 184, 0, 51, 154, 0, 10, 42, 16, 254, 182, 0, 55, 172, 42, 182, 0, 168, 2, 61, 3]
abbrev dktX5_still_0 : List UInt8 := dkwX5_still_0 ++ dktX5_still_1
theorem dksX5_still_0 : cX5_still.data.toList.drop 0 = dktX5_still_0 := by decide +kernel
theorem dksX5_still_1 : cX5_still.data.toList.drop 24 = dktX5_still_1 := dk_seg dksX5_still_0 24 rfl rfl
theorem dksX5_still_2 : cX5_still.data.toList.drop 48 = dktX5_still_2 := dk_seg dksX5_still_1 24 rfl rfl
theorem dksX5_still_3 : cX5_still.data.toList.drop 72 = dktX5_still_3 := dk_seg dksX5_still_2 24 rfl rfl
theorem dksX5_still_4 : cX5_still.data.toList.drop 96 = dktX5_still_4 := dk_seg dksX5_still_3 24 rfl rfl
theorem dX5_still_0 : decode cX5_still 0 = .ok (.iload_n 1, 1) := dk_27 (dk_at dksX5_still_0 0 rfl rfl)
theorem dX5_still_1 : decode cX5_still 1 = .ok (.iconst 1, 1) := dk_4 (dk_at dksX5_still_0 1 rfl rfl)
theorem dX5_still_2 : decode cX5_still 2 = .ok (.bipush 60, 2) := dk_16 60 (dk_at dksX5_still_0 2 rfl rfl)
theorem dX5_still_4 : decode cX5_still 4 = .ok (.invokestatic 51, 3) := dk_184 0 51 (dk_at dksX5_still_0 4 rfl rfl)
theorem dX5_still_7 : decode cX5_still 7 = .ok (.ifCond .ne 10, 3) := dk_154 0 10 (dk_at dksX5_still_0 7 rfl rfl)
theorem dX5_still_10 : decode cX5_still 10 = .ok (.aload_n 0, 1) := dk_42 (dk_at dksX5_still_0 10 rfl rfl)
theorem dX5_still_11 : decode cX5_still 11 = .ok (.bipush (-2), 2) := dk_16 254 (dk_at dksX5_still_0 11 rfl rfl)
theorem dX5_still_13 : decode cX5_still 13 = .ok (.invokevirtual 55, 3) := dk_182 0 55 (dk_at dksX5_still_0 13 rfl rfl)
theorem dX5_still_16 : decode cX5_still 16 = .ok (.ireturn, 1) := dk_172 (dk_at dksX5_still_0 16 rfl rfl)
theorem dX5_still_17 : decode cX5_still 17 = .ok (.aload_n 0, 1) := dk_42 (dk_at dksX5_still_0 17 rfl rfl)
theorem dX5_still_18 : decode cX5_still 18 = .ok (.invokevirtual 168, 3) := dk_182 0 168 (dk_at dksX5_still_0 18 rfl rfl)
theorem dX5_still_21 : decode cX5_still 21 = .ok (.iconst (-1), 1) := dk_2 (dk_at dksX5_still_0 21 rfl rfl)
theorem dX5_still_22 : decode cX5_still 22 = .ok (.istore_n 2, 1) := dk_61 (dk_at dksX5_still_0 22 rfl rfl)
theorem dX5_still_23 : decode cX5_still 23 = .ok (.iconst 0, 1) := dk_3 (dk_at dksX5_still_0 23 rfl rfl)
theorem dX5_still_24 : decode cX5_still 24 = .ok (.istore_n 3, 1) := dk_62 (dk_at dksX5_still_1 0 rfl rfl)
theorem dX5_still_25 : decode cX5_still 25 = .ok (.iload_n 3, 1) := dk_29 (dk_at dksX5_still_1 1 rfl rfl)
theorem dX5_still_26 : decode cX5_still 26 = .ok (.iconst 1, 1) := dk_4 (dk_at dksX5_still_1 2 rfl rfl)
theorem dX5_still_27 : decode cX5_still 27 = .ok (.aload_n 0, 1) := dk_42 (dk_at dksX5_still_1 3 rfl rfl)
theorem dX5_still_28 : decode cX5_still 28 = .ok (.getfield 7, 3) := dk_180 0 7 (dk_at dksX5_still_1 4 rfl rfl)
theorem dX5_still_31 : decode cX5_still 31 = .ok (.bipush 26, 2) := dk_16 26 (dk_at dksX5_still_1 7 rfl rfl)
theorem dX5_still_33 : decode cX5_still 33 = .ok (.iaload, 1) := dk_46 (dk_at dksX5_still_1 9 rfl rfl)
theorem dX5_still_34 : decode cX5_still 34 = .ok (.ishl, 1) := dk_120 (dk_at dksX5_still_1 10 rfl rfl)
theorem dX5_still_35 : decode cX5_still 35 = .ok (.if_icmp .ge 60, 3) := dk_162 0 60 (dk_at dksX5_still_1 11 rfl rfl)
theorem dX5_still_38 : decode cX5_still 38 = .ok (.aload_n 0, 1) := dk_42 (dk_at dksX5_still_1 14 rfl rfl)
theorem dX5_still_39 : decode cX5_still 39 = .ok (.getfield 7, 3) := dk_180 0 7 (dk_at dksX5_still_1 15 rfl rfl)
theorem dX5_still_42 : decode cX5_still 42 = .ok (.sipush 544, 3) := dk_17 2 32 (dk_at dksX5_still_1 18 rfl rfl)
theorem dX5_still_45 : decode cX5_still 45 = .ok (.iload_n 3, 1) := dk_29 (dk_at dksX5_still_1 21 rfl rfl)
theorem dX5_still_46 : decode cX5_still 46 = .ok (.iastore, 1) := dk_79 (dk_at dksX5_still_1 22 rfl rfl)
theorem dX5_still_47 : decode cX5_still 47 = .ok (.iload_n 2, 1) := dk_28 (dk_at dksX5_still_1 23 rfl rfl)
theorem dX5_still_48 : decode cX5_still 48 = .ok (.iconst (-1), 1) := dk_2 (dk_at dksX5_still_2 0 rfl rfl)
theorem dX5_still_49 : decode cX5_still 49 = .ok (.if_icmp .eq 14, 3) := dk_159 0 14 (dk_at dksX5_still_2 1 rfl rfl)
theorem dX5_still_52 : decode cX5_still 52 = .ok (.iload_n 3, 1) := dk_29 (dk_at dksX5_still_2 4 rfl rfl)
theorem dX5_still_53 : decode cX5_still 53 = .ok (.invokestatic 171, 3) := dk_184 0 171 (dk_at dksX5_still_2 5 rfl rfl)
theorem dX5_still_56 : decode cX5_still 56 = .ok (.iload_n 2, 1) := dk_28 (dk_at dksX5_still_2 8 rfl rfl)
theorem dX5_still_57 : decode cX5_still 57 = .ok (.invokestatic 171, 3) := dk_184 0 171 (dk_at dksX5_still_2 9 rfl rfl)
theorem dX5_still_60 : decode cX5_still 60 = .ok (.if_icmp .ge 7, 3) := dk_162 0 7 (dk_at dksX5_still_2 12 rfl rfl)
theorem dX5_still_63 : decode cX5_still 63 = .ok (.iconst 1, 1) := dk_4 (dk_at dksX5_still_2 15 rfl rfl)
theorem dX5_still_64 : decode cX5_still 64 = .ok (.goto 4, 3) := dk_167 0 4 (dk_at dksX5_still_2 16 rfl rfl)
theorem dX5_still_67 : decode cX5_still 67 = .ok (.iconst 0, 1) := dk_3 (dk_at dksX5_still_2 19 rfl rfl)
theorem dX5_still_68 : decode cX5_still 68 = .ok (.istore 4, 2) := dk_54 4 (dk_at dksX5_still_2 20 rfl rfl)
theorem dX5_still_70 : decode cX5_still 70 = .ok (.iload 4, 2) := dk_21 4 (dk_at dksX5_still_2 22 rfl rfl)
theorem dX5_still_72 : decode cX5_still 72 = .ok (.ifCond .eq 15, 3) := dk_153 0 15 (dk_at dksX5_still_3 0 rfl rfl)
theorem dX5_still_75 : decode cX5_still 75 = .ok (.aload_n 0, 1) := dk_42 (dk_at dksX5_still_3 3 rfl rfl)
theorem dX5_still_76 : decode cX5_still 76 = .ok (.iload_n 1, 1) := dk_27 (dk_at dksX5_still_3 4 rfl rfl)
theorem dX5_still_77 : decode cX5_still 77 = .ok (.invokevirtual 174, 3) := dk_182 0 174 (dk_at dksX5_still_3 5 rfl rfl)
theorem dX5_still_80 : decode cX5_still 80 = .ok (.ifCond .eq 7, 3) := dk_153 0 7 (dk_at dksX5_still_3 8 rfl rfl)
theorem dX5_still_83 : decode cX5_still 83 = .ok (.iload_n 3, 1) := dk_29 (dk_at dksX5_still_3 11 rfl rfl)
theorem dX5_still_84 : decode cX5_still 84 = .ok (.goto 4, 3) := dk_167 0 4 (dk_at dksX5_still_3 12 rfl rfl)
theorem dX5_still_87 : decode cX5_still 87 = .ok (.iload_n 2, 1) := dk_28 (dk_at dksX5_still_3 15 rfl rfl)
theorem dX5_still_88 : decode cX5_still 88 = .ok (.istore_n 2, 1) := dk_61 (dk_at dksX5_still_3 16 rfl rfl)
theorem dX5_still_89 : decode cX5_still 89 = .ok (.iinc 3 1, 3) := dk_132 3 1 (dk_at dksX5_still_3 17 rfl rfl)
theorem dX5_still_92 : decode cX5_still 92 = .ok (.goto (-67), 3) := dk_167 255 189 (dk_at dksX5_still_3 20 rfl rfl)
theorem dX5_still_95 : decode cX5_still 95 = .ok (.iload_n 2, 1) := dk_28 (dk_at dksX5_still_3 23 rfl rfl)
theorem dX5_still_96 : decode cX5_still 96 = .ok (.ireturn, 1) := dk_172 (dk_at dksX5_still_4 0 rfl rfl)
abbrev cX5_bits : ByteArray := prog_20_method_4_code
def yX5_bits : MethodName := ⟨RX5, "bits", "(I)I"⟩
def dkwX5_bits_1 : List UInt8 := [27, 172]
abbrev dktX5_bits_1 : List UInt8 := dkwX5_bits_1 ++ []
def dkwX5_bits_0 : List UInt8 := [3, 60, 3, 61, 28, 16, 31, 162, 0, 17, 27, 26, 28, 122, 4, 126, 96, 60, 132, 2, 1, 167, 255, 239]
abbrev dktX5_bits_0 : List UInt8 := dkwX5_bits_0 ++ dktX5_bits_1
theorem dksX5_bits_0 : cX5_bits.data.toList.drop 0 = dktX5_bits_0 := by decide +kernel
theorem dksX5_bits_1 : cX5_bits.data.toList.drop 24 = dktX5_bits_1 := dk_seg dksX5_bits_0 24 rfl rfl
theorem dX5_bits_0 : decode cX5_bits 0 = .ok (.iconst 0, 1) := dk_3 (dk_at dksX5_bits_0 0 rfl rfl)
theorem dX5_bits_1 : decode cX5_bits 1 = .ok (.istore_n 1, 1) := dk_60 (dk_at dksX5_bits_0 1 rfl rfl)
theorem dX5_bits_2 : decode cX5_bits 2 = .ok (.iconst 0, 1) := dk_3 (dk_at dksX5_bits_0 2 rfl rfl)
theorem dX5_bits_3 : decode cX5_bits 3 = .ok (.istore_n 2, 1) := dk_61 (dk_at dksX5_bits_0 3 rfl rfl)
theorem dX5_bits_4 : decode cX5_bits 4 = .ok (.iload_n 2, 1) := dk_28 (dk_at dksX5_bits_0 4 rfl rfl)
theorem dX5_bits_5 : decode cX5_bits 5 = .ok (.bipush 31, 2) := dk_16 31 (dk_at dksX5_bits_0 5 rfl rfl)
theorem dX5_bits_7 : decode cX5_bits 7 = .ok (.if_icmp .ge 17, 3) := dk_162 0 17 (dk_at dksX5_bits_0 7 rfl rfl)
theorem dX5_bits_10 : decode cX5_bits 10 = .ok (.iload_n 1, 1) := dk_27 (dk_at dksX5_bits_0 10 rfl rfl)
theorem dX5_bits_11 : decode cX5_bits 11 = .ok (.iload_n 0, 1) := dk_26 (dk_at dksX5_bits_0 11 rfl rfl)
theorem dX5_bits_12 : decode cX5_bits 12 = .ok (.iload_n 2, 1) := dk_28 (dk_at dksX5_bits_0 12 rfl rfl)
theorem dX5_bits_13 : decode cX5_bits 13 = .ok (.ishr, 1) := dk_122 (dk_at dksX5_bits_0 13 rfl rfl)
theorem dX5_bits_14 : decode cX5_bits 14 = .ok (.iconst 1, 1) := dk_4 (dk_at dksX5_bits_0 14 rfl rfl)
theorem dX5_bits_15 : decode cX5_bits 15 = .ok (.iand, 1) := dk_126 (dk_at dksX5_bits_0 15 rfl rfl)
theorem dX5_bits_16 : decode cX5_bits 16 = .ok (.iadd, 1) := dk_96 (dk_at dksX5_bits_0 16 rfl rfl)
theorem dX5_bits_17 : decode cX5_bits 17 = .ok (.istore_n 1, 1) := dk_60 (dk_at dksX5_bits_0 17 rfl rfl)
theorem dX5_bits_18 : decode cX5_bits 18 = .ok (.iinc 2 1, 3) := dk_132 2 1 (dk_at dksX5_bits_0 18 rfl rfl)
theorem dX5_bits_21 : decode cX5_bits 21 = .ok (.goto (-17), 3) := dk_167 255 239 (dk_at dksX5_bits_0 21 rfl rfl)
theorem dX5_bits_24 : decode cX5_bits 24 = .ok (.iload_n 1, 1) := dk_27 (dk_at dksX5_bits_1 0 rfl rfl)
theorem dX5_bits_25 : decode cX5_bits 25 = .ok (.ireturn, 1) := dk_172 (dk_at dksX5_bits_1 1 rfl rfl)
abbrev cX5_isStill : ByteArray := prog_20_method_49_code
def yX5_isStill : MethodName := ⟨RX5, "isStill", "(I)Z"⟩
def dkwX5_isStill_1 : List UInt8 := [29, 96, 182, 0, 153, 154, 0, 7, 4, 167, 0, 4, 3, 61, 132, 3, 1, 167, 255, 219, 28, 172]
abbrev dktX5_isStill_1 : List UInt8 := dkwX5_isStill_1 ++ []
def dkwX5_isStill_0 : List UInt8 := [4, 61, 3, 62, 29, 27, 162, 0, 38, 28, 153, 0, 34, 42, 17, 2, 25, 42, 180, 0, 7, 16, 9, 46]
abbrev dktX5_isStill_0 : List UInt8 := dkwX5_isStill_0 ++ dktX5_isStill_1
theorem dksX5_isStill_0 : cX5_isStill.data.toList.drop 0 = dktX5_isStill_0 := by decide +kernel
theorem dksX5_isStill_1 : cX5_isStill.data.toList.drop 24 = dktX5_isStill_1 := dk_seg dksX5_isStill_0 24 rfl rfl
theorem dX5_isStill_0 : decode cX5_isStill 0 = .ok (.iconst 1, 1) := dk_4 (dk_at dksX5_isStill_0 0 rfl rfl)
theorem dX5_isStill_1 : decode cX5_isStill 1 = .ok (.istore_n 2, 1) := dk_61 (dk_at dksX5_isStill_0 1 rfl rfl)
theorem dX5_isStill_2 : decode cX5_isStill 2 = .ok (.iconst 0, 1) := dk_3 (dk_at dksX5_isStill_0 2 rfl rfl)
theorem dX5_isStill_3 : decode cX5_isStill 3 = .ok (.istore_n 3, 1) := dk_62 (dk_at dksX5_isStill_0 3 rfl rfl)
theorem dX5_isStill_4 : decode cX5_isStill 4 = .ok (.iload_n 3, 1) := dk_29 (dk_at dksX5_isStill_0 4 rfl rfl)
theorem dX5_isStill_5 : decode cX5_isStill 5 = .ok (.iload_n 1, 1) := dk_27 (dk_at dksX5_isStill_0 5 rfl rfl)
theorem dX5_isStill_6 : decode cX5_isStill 6 = .ok (.if_icmp .ge 38, 3) := dk_162 0 38 (dk_at dksX5_isStill_0 6 rfl rfl)
theorem dX5_isStill_9 : decode cX5_isStill 9 = .ok (.iload_n 2, 1) := dk_28 (dk_at dksX5_isStill_0 9 rfl rfl)
theorem dX5_isStill_10 : decode cX5_isStill 10 = .ok (.ifCond .eq 34, 3) := dk_153 0 34 (dk_at dksX5_isStill_0 10 rfl rfl)
theorem dX5_isStill_13 : decode cX5_isStill 13 = .ok (.aload_n 0, 1) := dk_42 (dk_at dksX5_isStill_0 13 rfl rfl)
theorem dX5_isStill_14 : decode cX5_isStill 14 = .ok (.sipush 537, 3) := dk_17 2 25 (dk_at dksX5_isStill_0 14 rfl rfl)
theorem dX5_isStill_17 : decode cX5_isStill 17 = .ok (.aload_n 0, 1) := dk_42 (dk_at dksX5_isStill_0 17 rfl rfl)
theorem dX5_isStill_18 : decode cX5_isStill 18 = .ok (.getfield 7, 3) := dk_180 0 7 (dk_at dksX5_isStill_0 18 rfl rfl)
theorem dX5_isStill_21 : decode cX5_isStill 21 = .ok (.bipush 9, 2) := dk_16 9 (dk_at dksX5_isStill_0 21 rfl rfl)
theorem dX5_isStill_23 : decode cX5_isStill 23 = .ok (.iaload, 1) := dk_46 (dk_at dksX5_isStill_0 23 rfl rfl)
theorem dX5_isStill_24 : decode cX5_isStill 24 = .ok (.iload_n 3, 1) := dk_29 (dk_at dksX5_isStill_1 0 rfl rfl)
theorem dX5_isStill_25 : decode cX5_isStill 25 = .ok (.iadd, 1) := dk_96 (dk_at dksX5_isStill_1 1 rfl rfl)
theorem dX5_isStill_26 : decode cX5_isStill 26 = .ok (.invokevirtual 153, 3) := dk_182 0 153 (dk_at dksX5_isStill_1 2 rfl rfl)
theorem dX5_isStill_29 : decode cX5_isStill 29 = .ok (.ifCond .ne 7, 3) := dk_154 0 7 (dk_at dksX5_isStill_1 5 rfl rfl)
theorem dX5_isStill_32 : decode cX5_isStill 32 = .ok (.iconst 1, 1) := dk_4 (dk_at dksX5_isStill_1 8 rfl rfl)
theorem dX5_isStill_33 : decode cX5_isStill 33 = .ok (.goto 4, 3) := dk_167 0 4 (dk_at dksX5_isStill_1 9 rfl rfl)
theorem dX5_isStill_36 : decode cX5_isStill 36 = .ok (.iconst 0, 1) := dk_3 (dk_at dksX5_isStill_1 12 rfl rfl)
theorem dX5_isStill_37 : decode cX5_isStill 37 = .ok (.istore_n 2, 1) := dk_61 (dk_at dksX5_isStill_1 13 rfl rfl)
theorem dX5_isStill_38 : decode cX5_isStill 38 = .ok (.iinc 3 1, 3) := dk_132 3 1 (dk_at dksX5_isStill_1 14 rfl rfl)
theorem dX5_isStill_41 : decode cX5_isStill 41 = .ok (.goto (-37), 3) := dk_167 255 219 (dk_at dksX5_isStill_1 17 rfl rfl)
theorem dX5_isStill_44 : decode cX5_isStill 44 = .ok (.iload_n 2, 1) := dk_28 (dk_at dksX5_isStill_1 20 rfl rfl)
theorem dX5_isStill_45 : decode cX5_isStill 45 = .ok (.ireturn, 1) := dk_172 (dk_at dksX5_isStill_1 21 rfl rfl)
abbrev cX5_push : ByteArray := prog_20_method_51_code
def yX5_push : MethodName := ⟨RX5, "push", "(II)I"⟩
def dkwX5_push_2 : List UInt8 := [42, 17, 2, 25, 28, 182, 0, 153, 158, 0, 5, 29, 172, 132, 3, 1, 167, 255, 223, 2, 172]
abbrev dktX5_push_2 : List UInt8 := dkwX5_push_2 ++ []
def dkwX5_push_1 : List UInt8 := [172, 42, 182, 0, 168, 3, 62, 29, 16, 10, 162, 0, 33, 42, 180, 0, 7, 17, 2, 25, 27, 96, 29, 79]
abbrev dktX5_push_1 : List UInt8 := dkwX5_push_1 ++ dktX5_push_2
def dkwX5_push_0 : List UInt8 := [42, 27, 182, 0, 159, 153, 0, 13, 28, 3, 16, 99, 184, 0, 51, 154, 0, 10, 42, 16, 254, 182, 0, 55]
abbrev dktX5_push_0 : List UInt8 := dkwX5_push_0 ++ dktX5_push_1
theorem dksX5_push_0 : cX5_push.data.toList.drop 0 = dktX5_push_0 := by decide +kernel
theorem dksX5_push_1 : cX5_push.data.toList.drop 24 = dktX5_push_1 := dk_seg dksX5_push_0 24 rfl rfl
theorem dksX5_push_2 : cX5_push.data.toList.drop 48 = dktX5_push_2 := dk_seg dksX5_push_1 24 rfl rfl
theorem dX5_push_0 : decode cX5_push 0 = .ok (.aload_n 0, 1) := dk_42 (dk_at dksX5_push_0 0 rfl rfl)
theorem dX5_push_1 : decode cX5_push 1 = .ok (.iload_n 1, 1) := dk_27 (dk_at dksX5_push_0 1 rfl rfl)
theorem dX5_push_2 : decode cX5_push 2 = .ok (.invokevirtual 159, 3) := dk_182 0 159 (dk_at dksX5_push_0 2 rfl rfl)
theorem dX5_push_5 : decode cX5_push 5 = .ok (.ifCond .eq 13, 3) := dk_153 0 13 (dk_at dksX5_push_0 5 rfl rfl)
theorem dX5_push_8 : decode cX5_push 8 = .ok (.iload_n 2, 1) := dk_28 (dk_at dksX5_push_0 8 rfl rfl)
theorem dX5_push_9 : decode cX5_push 9 = .ok (.iconst 0, 1) := dk_3 (dk_at dksX5_push_0 9 rfl rfl)
theorem dX5_push_10 : decode cX5_push 10 = .ok (.bipush 99, 2) := dk_16 99 (dk_at dksX5_push_0 10 rfl rfl)
theorem dX5_push_12 : decode cX5_push 12 = .ok (.invokestatic 51, 3) := dk_184 0 51 (dk_at dksX5_push_0 12 rfl rfl)
theorem dX5_push_15 : decode cX5_push 15 = .ok (.ifCond .ne 10, 3) := dk_154 0 10 (dk_at dksX5_push_0 15 rfl rfl)
theorem dX5_push_18 : decode cX5_push 18 = .ok (.aload_n 0, 1) := dk_42 (dk_at dksX5_push_0 18 rfl rfl)
theorem dX5_push_19 : decode cX5_push 19 = .ok (.bipush (-2), 2) := dk_16 254 (dk_at dksX5_push_0 19 rfl rfl)
theorem dX5_push_21 : decode cX5_push 21 = .ok (.invokevirtual 55, 3) := dk_182 0 55 (dk_at dksX5_push_0 21 rfl rfl)
theorem dX5_push_24 : decode cX5_push 24 = .ok (.ireturn, 1) := dk_172 (dk_at dksX5_push_1 0 rfl rfl)
theorem dX5_push_25 : decode cX5_push 25 = .ok (.aload_n 0, 1) := dk_42 (dk_at dksX5_push_1 1 rfl rfl)
theorem dX5_push_26 : decode cX5_push 26 = .ok (.invokevirtual 168, 3) := dk_182 0 168 (dk_at dksX5_push_1 2 rfl rfl)
theorem dX5_push_29 : decode cX5_push 29 = .ok (.iconst 0, 1) := dk_3 (dk_at dksX5_push_1 5 rfl rfl)
theorem dX5_push_30 : decode cX5_push 30 = .ok (.istore_n 3, 1) := dk_62 (dk_at dksX5_push_1 6 rfl rfl)
theorem dX5_push_31 : decode cX5_push 31 = .ok (.iload_n 3, 1) := dk_29 (dk_at dksX5_push_1 7 rfl rfl)
theorem dX5_push_32 : decode cX5_push 32 = .ok (.bipush 10, 2) := dk_16 10 (dk_at dksX5_push_1 8 rfl rfl)
theorem dX5_push_34 : decode cX5_push 34 = .ok (.if_icmp .ge 33, 3) := dk_162 0 33 (dk_at dksX5_push_1 10 rfl rfl)
theorem dX5_push_37 : decode cX5_push 37 = .ok (.aload_n 0, 1) := dk_42 (dk_at dksX5_push_1 13 rfl rfl)
theorem dX5_push_38 : decode cX5_push 38 = .ok (.getfield 7, 3) := dk_180 0 7 (dk_at dksX5_push_1 14 rfl rfl)
theorem dX5_push_41 : decode cX5_push 41 = .ok (.sipush 537, 3) := dk_17 2 25 (dk_at dksX5_push_1 17 rfl rfl)
theorem dX5_push_44 : decode cX5_push 44 = .ok (.iload_n 1, 1) := dk_27 (dk_at dksX5_push_1 20 rfl rfl)
theorem dX5_push_45 : decode cX5_push 45 = .ok (.iadd, 1) := dk_96 (dk_at dksX5_push_1 21 rfl rfl)
theorem dX5_push_46 : decode cX5_push 46 = .ok (.iload_n 3, 1) := dk_29 (dk_at dksX5_push_1 22 rfl rfl)
theorem dX5_push_47 : decode cX5_push 47 = .ok (.iastore, 1) := dk_79 (dk_at dksX5_push_1 23 rfl rfl)
theorem dX5_push_48 : decode cX5_push 48 = .ok (.aload_n 0, 1) := dk_42 (dk_at dksX5_push_2 0 rfl rfl)
theorem dX5_push_49 : decode cX5_push 49 = .ok (.sipush 537, 3) := dk_17 2 25 (dk_at dksX5_push_2 1 rfl rfl)
theorem dX5_push_52 : decode cX5_push 52 = .ok (.iload_n 2, 1) := dk_28 (dk_at dksX5_push_2 4 rfl rfl)
theorem dX5_push_53 : decode cX5_push 53 = .ok (.invokevirtual 153, 3) := dk_182 0 153 (dk_at dksX5_push_2 5 rfl rfl)
theorem dX5_push_56 : decode cX5_push 56 = .ok (.ifCond .le 5, 3) := dk_158 0 5 (dk_at dksX5_push_2 8 rfl rfl)
theorem dX5_push_59 : decode cX5_push 59 = .ok (.iload_n 3, 1) := dk_29 (dk_at dksX5_push_2 11 rfl rfl)
theorem dX5_push_60 : decode cX5_push 60 = .ok (.ireturn, 1) := dk_172 (dk_at dksX5_push_2 12 rfl rfl)
theorem dX5_push_61 : decode cX5_push 61 = .ok (.iinc 3 1, 3) := dk_132 3 1 (dk_at dksX5_push_2 13 rfl rfl)
theorem dX5_push_64 : decode cX5_push 64 = .ok (.goto (-33), 3) := dk_167 255 223 (dk_at dksX5_push_2 16 rfl rfl)
theorem dX5_push_67 : decode cX5_push 67 = .ok (.iconst (-1), 1) := dk_2 (dk_at dksX5_push_2 19 rfl rfl)
theorem dX5_push_68 : decode cX5_push 68 = .ok (.ireturn, 1) := dk_172 (dk_at dksX5_push_2 20 rfl rfl)
abbrev cX5_widest : ByteArray := prog_20_method_52_code
def yX5_widest : MethodName := ⟨RX5, "widest", "()I"⟩
def dkwX5_widest_2 : List UInt8 := [167, 255, 213, 2, 172]
abbrev dktX5_widest_2 : List UInt8 := dkwX5_widest_2 ++ []
def dkwX5_widest_1 : List UInt8 := [16, 9, 46, 28, 96, 2, 182, 0, 149, 158, 0, 5, 27, 172, 132, 2, 1, 167, 255, 226, 132, 1, 255]
abbrev dktX5_widest_1 : List UInt8 := dkwX5_widest_1 ++ dktX5_widest_2
def dkwX5_widest_0 : List UInt8 := [16, 30, 60, 27, 6, 164, 0, 44, 3, 61, 28, 16, 60, 162, 0, 30, 42, 3, 27, 42, 180, 0, 7]
abbrev dktX5_widest_0 : List UInt8 := dkwX5_widest_0 ++ dktX5_widest_1
theorem dksX5_widest_0 : cX5_widest.data.toList.drop 0 = dktX5_widest_0 := by decide +kernel
theorem dksX5_widest_1 : cX5_widest.data.toList.drop 23 = dktX5_widest_1 := dk_seg dksX5_widest_0 23 rfl rfl
theorem dksX5_widest_2 : cX5_widest.data.toList.drop 46 = dktX5_widest_2 := dk_seg dksX5_widest_1 23 rfl rfl
theorem dX5_widest_0 : decode cX5_widest 0 = .ok (.bipush 30, 2) := dk_16 30 (dk_at dksX5_widest_0 0 rfl rfl)
theorem dX5_widest_2 : decode cX5_widest 2 = .ok (.istore_n 1, 1) := dk_60 (dk_at dksX5_widest_0 2 rfl rfl)
theorem dX5_widest_3 : decode cX5_widest 3 = .ok (.iload_n 1, 1) := dk_27 (dk_at dksX5_widest_0 3 rfl rfl)
theorem dX5_widest_4 : decode cX5_widest 4 = .ok (.iconst 3, 1) := dk_6 (dk_at dksX5_widest_0 4 rfl rfl)
theorem dX5_widest_5 : decode cX5_widest 5 = .ok (.if_icmp .le 44, 3) := dk_164 0 44 (dk_at dksX5_widest_0 5 rfl rfl)
theorem dX5_widest_8 : decode cX5_widest 8 = .ok (.iconst 0, 1) := dk_3 (dk_at dksX5_widest_0 8 rfl rfl)
theorem dX5_widest_9 : decode cX5_widest 9 = .ok (.istore_n 2, 1) := dk_61 (dk_at dksX5_widest_0 9 rfl rfl)
theorem dX5_widest_10 : decode cX5_widest 10 = .ok (.iload_n 2, 1) := dk_28 (dk_at dksX5_widest_0 10 rfl rfl)
theorem dX5_widest_11 : decode cX5_widest 11 = .ok (.bipush 60, 2) := dk_16 60 (dk_at dksX5_widest_0 11 rfl rfl)
theorem dX5_widest_13 : decode cX5_widest 13 = .ok (.if_icmp .ge 30, 3) := dk_162 0 30 (dk_at dksX5_widest_0 13 rfl rfl)
theorem dX5_widest_16 : decode cX5_widest 16 = .ok (.aload_n 0, 1) := dk_42 (dk_at dksX5_widest_0 16 rfl rfl)
theorem dX5_widest_17 : decode cX5_widest 17 = .ok (.iconst 0, 1) := dk_3 (dk_at dksX5_widest_0 17 rfl rfl)
theorem dX5_widest_18 : decode cX5_widest 18 = .ok (.iload_n 1, 1) := dk_27 (dk_at dksX5_widest_0 18 rfl rfl)
theorem dX5_widest_19 : decode cX5_widest 19 = .ok (.aload_n 0, 1) := dk_42 (dk_at dksX5_widest_0 19 rfl rfl)
theorem dX5_widest_20 : decode cX5_widest 20 = .ok (.getfield 7, 3) := dk_180 0 7 (dk_at dksX5_widest_0 20 rfl rfl)
theorem dX5_widest_23 : decode cX5_widest 23 = .ok (.bipush 9, 2) := dk_16 9 (dk_at dksX5_widest_1 0 rfl rfl)
theorem dX5_widest_25 : decode cX5_widest 25 = .ok (.iaload, 1) := dk_46 (dk_at dksX5_widest_1 2 rfl rfl)
theorem dX5_widest_26 : decode cX5_widest 26 = .ok (.iload_n 2, 1) := dk_28 (dk_at dksX5_widest_1 3 rfl rfl)
theorem dX5_widest_27 : decode cX5_widest 27 = .ok (.iadd, 1) := dk_96 (dk_at dksX5_widest_1 4 rfl rfl)
theorem dX5_widest_28 : decode cX5_widest 28 = .ok (.iconst (-1), 1) := dk_2 (dk_at dksX5_widest_1 5 rfl rfl)
theorem dX5_widest_29 : decode cX5_widest 29 = .ok (.invokevirtual 149, 3) := dk_182 0 149 (dk_at dksX5_widest_1 6 rfl rfl)
theorem dX5_widest_32 : decode cX5_widest 32 = .ok (.ifCond .le 5, 3) := dk_158 0 5 (dk_at dksX5_widest_1 9 rfl rfl)
theorem dX5_widest_35 : decode cX5_widest 35 = .ok (.iload_n 1, 1) := dk_27 (dk_at dksX5_widest_1 12 rfl rfl)
theorem dX5_widest_36 : decode cX5_widest 36 = .ok (.ireturn, 1) := dk_172 (dk_at dksX5_widest_1 13 rfl rfl)
theorem dX5_widest_37 : decode cX5_widest 37 = .ok (.iinc 2 1, 3) := dk_132 2 1 (dk_at dksX5_widest_1 14 rfl rfl)
theorem dX5_widest_40 : decode cX5_widest 40 = .ok (.goto (-30), 3) := dk_167 255 226 (dk_at dksX5_widest_1 17 rfl rfl)
theorem dX5_widest_43 : decode cX5_widest 43 = .ok (.iinc 1 (-1), 3) := dk_132 1 255 (dk_at dksX5_widest_1 20 rfl rfl)
theorem dX5_widest_46 : decode cX5_widest 46 = .ok (.goto (-43), 3) := dk_167 255 213 (dk_at dksX5_widest_2 0 rfl rfl)
theorem dX5_widest_49 : decode cX5_widest 49 = .ok (.iconst (-1), 1) := dk_2 (dk_at dksX5_widest_2 3 rfl rfl)
theorem dX5_widest_50 : decode cX5_widest 50 = .ok (.ireturn, 1) := dk_172 (dk_at dksX5_widest_2 4 rfl rfl)
abbrev cX5_wrong : ByteArray := prog_20_method_53_code
def yX5_wrong : MethodName := ⟨RX5, "wrong", "(I)I"⟩
def dkwX5_wrong_3 : List UInt8 := [154, 0, 10, 4, 21, 4, 120, 167, 0, 4, 3, 128, 61, 132, 4, 1, 167, 255, 208, 28, 172]
abbrev dktX5_wrong_3 : List UInt8 := dkwX5_wrong_3 ++ []
def dkwX5_wrong_2 : List UInt8 := [162, 0, 42, 29, 153, 0, 38, 28, 42, 3, 42, 180, 0, 7, 16, 10, 46, 27, 21, 4, 182, 0, 149]
abbrev dktX5_wrong_2 : List UInt8 := dkwX5_wrong_2 ++ dktX5_wrong_3
def dkwX5_wrong_1 : List UInt8 := [182, 0, 153, 158, 0, 7, 4, 167, 0, 4, 3, 62, 3, 54, 4, 21, 4, 42, 180, 0, 7, 16, 11, 46]
abbrev dktX5_wrong_1 : List UInt8 := dkwX5_wrong_1 ++ dktX5_wrong_2
def dkwX5_wrong_0 : List UInt8 := [27, 3, 16, 99, 184, 0, 51, 154, 0, 10, 42, 16, 254, 182, 0, 55, 172, 3, 61, 42, 3, 27]
abbrev dktX5_wrong_0 : List UInt8 := dkwX5_wrong_0 ++ dktX5_wrong_1
theorem dksX5_wrong_0 : cX5_wrong.data.toList.drop 0 = dktX5_wrong_0 := by decide +kernel
theorem dksX5_wrong_1 : cX5_wrong.data.toList.drop 22 = dktX5_wrong_1 := dk_seg dksX5_wrong_0 22 rfl rfl
theorem dksX5_wrong_2 : cX5_wrong.data.toList.drop 46 = dktX5_wrong_2 := dk_seg dksX5_wrong_1 24 rfl rfl
theorem dksX5_wrong_3 : cX5_wrong.data.toList.drop 69 = dktX5_wrong_3 := dk_seg dksX5_wrong_2 23 rfl rfl
theorem dX5_wrong_0 : decode cX5_wrong 0 = .ok (.iload_n 1, 1) := dk_27 (dk_at dksX5_wrong_0 0 rfl rfl)
theorem dX5_wrong_1 : decode cX5_wrong 1 = .ok (.iconst 0, 1) := dk_3 (dk_at dksX5_wrong_0 1 rfl rfl)
theorem dX5_wrong_2 : decode cX5_wrong 2 = .ok (.bipush 99, 2) := dk_16 99 (dk_at dksX5_wrong_0 2 rfl rfl)
theorem dX5_wrong_4 : decode cX5_wrong 4 = .ok (.invokestatic 51, 3) := dk_184 0 51 (dk_at dksX5_wrong_0 4 rfl rfl)
theorem dX5_wrong_7 : decode cX5_wrong 7 = .ok (.ifCond .ne 10, 3) := dk_154 0 10 (dk_at dksX5_wrong_0 7 rfl rfl)
theorem dX5_wrong_10 : decode cX5_wrong 10 = .ok (.aload_n 0, 1) := dk_42 (dk_at dksX5_wrong_0 10 rfl rfl)
theorem dX5_wrong_11 : decode cX5_wrong 11 = .ok (.bipush (-2), 2) := dk_16 254 (dk_at dksX5_wrong_0 11 rfl rfl)
theorem dX5_wrong_13 : decode cX5_wrong 13 = .ok (.invokevirtual 55, 3) := dk_182 0 55 (dk_at dksX5_wrong_0 13 rfl rfl)
theorem dX5_wrong_16 : decode cX5_wrong 16 = .ok (.ireturn, 1) := dk_172 (dk_at dksX5_wrong_0 16 rfl rfl)
theorem dX5_wrong_17 : decode cX5_wrong 17 = .ok (.iconst 0, 1) := dk_3 (dk_at dksX5_wrong_0 17 rfl rfl)
theorem dX5_wrong_18 : decode cX5_wrong 18 = .ok (.istore_n 2, 1) := dk_61 (dk_at dksX5_wrong_0 18 rfl rfl)
theorem dX5_wrong_19 : decode cX5_wrong 19 = .ok (.aload_n 0, 1) := dk_42 (dk_at dksX5_wrong_0 19 rfl rfl)
theorem dX5_wrong_20 : decode cX5_wrong 20 = .ok (.iconst 0, 1) := dk_3 (dk_at dksX5_wrong_0 20 rfl rfl)
theorem dX5_wrong_21 : decode cX5_wrong 21 = .ok (.iload_n 1, 1) := dk_27 (dk_at dksX5_wrong_0 21 rfl rfl)
theorem dX5_wrong_22 : decode cX5_wrong 22 = .ok (.invokevirtual 153, 3) := dk_182 0 153 (dk_at dksX5_wrong_1 0 rfl rfl)
theorem dX5_wrong_25 : decode cX5_wrong 25 = .ok (.ifCond .le 7, 3) := dk_158 0 7 (dk_at dksX5_wrong_1 3 rfl rfl)
theorem dX5_wrong_28 : decode cX5_wrong 28 = .ok (.iconst 1, 1) := dk_4 (dk_at dksX5_wrong_1 6 rfl rfl)
theorem dX5_wrong_29 : decode cX5_wrong 29 = .ok (.goto 4, 3) := dk_167 0 4 (dk_at dksX5_wrong_1 7 rfl rfl)
theorem dX5_wrong_32 : decode cX5_wrong 32 = .ok (.iconst 0, 1) := dk_3 (dk_at dksX5_wrong_1 10 rfl rfl)
theorem dX5_wrong_33 : decode cX5_wrong 33 = .ok (.istore_n 3, 1) := dk_62 (dk_at dksX5_wrong_1 11 rfl rfl)
theorem dX5_wrong_34 : decode cX5_wrong 34 = .ok (.iconst 0, 1) := dk_3 (dk_at dksX5_wrong_1 12 rfl rfl)
theorem dX5_wrong_35 : decode cX5_wrong 35 = .ok (.istore 4, 2) := dk_54 4 (dk_at dksX5_wrong_1 13 rfl rfl)
theorem dX5_wrong_37 : decode cX5_wrong 37 = .ok (.iload 4, 2) := dk_21 4 (dk_at dksX5_wrong_1 15 rfl rfl)
theorem dX5_wrong_39 : decode cX5_wrong 39 = .ok (.aload_n 0, 1) := dk_42 (dk_at dksX5_wrong_1 17 rfl rfl)
theorem dX5_wrong_40 : decode cX5_wrong 40 = .ok (.getfield 7, 3) := dk_180 0 7 (dk_at dksX5_wrong_1 18 rfl rfl)
theorem dX5_wrong_43 : decode cX5_wrong 43 = .ok (.bipush 11, 2) := dk_16 11 (dk_at dksX5_wrong_1 21 rfl rfl)
theorem dX5_wrong_45 : decode cX5_wrong 45 = .ok (.iaload, 1) := dk_46 (dk_at dksX5_wrong_1 23 rfl rfl)
theorem dX5_wrong_46 : decode cX5_wrong 46 = .ok (.if_icmp .ge 42, 3) := dk_162 0 42 (dk_at dksX5_wrong_2 0 rfl rfl)
theorem dX5_wrong_49 : decode cX5_wrong 49 = .ok (.iload_n 3, 1) := dk_29 (dk_at dksX5_wrong_2 3 rfl rfl)
theorem dX5_wrong_50 : decode cX5_wrong 50 = .ok (.ifCond .eq 38, 3) := dk_153 0 38 (dk_at dksX5_wrong_2 4 rfl rfl)
theorem dX5_wrong_53 : decode cX5_wrong 53 = .ok (.iload_n 2, 1) := dk_28 (dk_at dksX5_wrong_2 7 rfl rfl)
theorem dX5_wrong_54 : decode cX5_wrong 54 = .ok (.aload_n 0, 1) := dk_42 (dk_at dksX5_wrong_2 8 rfl rfl)
theorem dX5_wrong_55 : decode cX5_wrong 55 = .ok (.iconst 0, 1) := dk_3 (dk_at dksX5_wrong_2 9 rfl rfl)
theorem dX5_wrong_56 : decode cX5_wrong 56 = .ok (.aload_n 0, 1) := dk_42 (dk_at dksX5_wrong_2 10 rfl rfl)
theorem dX5_wrong_57 : decode cX5_wrong 57 = .ok (.getfield 7, 3) := dk_180 0 7 (dk_at dksX5_wrong_2 11 rfl rfl)
theorem dX5_wrong_60 : decode cX5_wrong 60 = .ok (.bipush 10, 2) := dk_16 10 (dk_at dksX5_wrong_2 14 rfl rfl)
theorem dX5_wrong_62 : decode cX5_wrong 62 = .ok (.iaload, 1) := dk_46 (dk_at dksX5_wrong_2 16 rfl rfl)
theorem dX5_wrong_63 : decode cX5_wrong 63 = .ok (.iload_n 1, 1) := dk_27 (dk_at dksX5_wrong_2 17 rfl rfl)
theorem dX5_wrong_64 : decode cX5_wrong 64 = .ok (.iload 4, 2) := dk_21 4 (dk_at dksX5_wrong_2 18 rfl rfl)
theorem dX5_wrong_66 : decode cX5_wrong 66 = .ok (.invokevirtual 149, 3) := dk_182 0 149 (dk_at dksX5_wrong_2 20 rfl rfl)
theorem dX5_wrong_69 : decode cX5_wrong 69 = .ok (.ifCond .ne 10, 3) := dk_154 0 10 (dk_at dksX5_wrong_3 0 rfl rfl)
theorem dX5_wrong_72 : decode cX5_wrong 72 = .ok (.iconst 1, 1) := dk_4 (dk_at dksX5_wrong_3 3 rfl rfl)
theorem dX5_wrong_73 : decode cX5_wrong 73 = .ok (.iload 4, 2) := dk_21 4 (dk_at dksX5_wrong_3 4 rfl rfl)
theorem dX5_wrong_75 : decode cX5_wrong 75 = .ok (.ishl, 1) := dk_120 (dk_at dksX5_wrong_3 6 rfl rfl)
theorem dX5_wrong_76 : decode cX5_wrong 76 = .ok (.goto 4, 3) := dk_167 0 4 (dk_at dksX5_wrong_3 7 rfl rfl)
theorem dX5_wrong_79 : decode cX5_wrong 79 = .ok (.iconst 0, 1) := dk_3 (dk_at dksX5_wrong_3 10 rfl rfl)
theorem dX5_wrong_80 : decode cX5_wrong 80 = .ok (.ior, 1) := dk_128 (dk_at dksX5_wrong_3 11 rfl rfl)
theorem dX5_wrong_81 : decode cX5_wrong 81 = .ok (.istore_n 2, 1) := dk_61 (dk_at dksX5_wrong_3 12 rfl rfl)
theorem dX5_wrong_82 : decode cX5_wrong 82 = .ok (.iinc 4 1, 3) := dk_132 4 1 (dk_at dksX5_wrong_3 13 rfl rfl)
theorem dX5_wrong_85 : decode cX5_wrong 85 = .ok (.goto (-48), 3) := dk_167 255 208 (dk_at dksX5_wrong_3 16 rfl rfl)
theorem dX5_wrong_88 : decode cX5_wrong 88 = .ok (.iload_n 2, 1) := dk_28 (dk_at dksX5_wrong_3 19 rfl rfl)
theorem dX5_wrong_89 : decode cX5_wrong 89 = .ok (.ireturn, 1) := dk_172 (dk_at dksX5_wrong_3 20 rfl rfl)
abbrev cX5_marry : ByteArray := prog_20_method_58_code
def yX5_marry : MethodName := ⟨RX5, "marry", "(I)I"⟩
def dkwX5_marry_1 : List UInt8 := [61, 27, 2, 160, 0, 7, 28, 167, 0, 9, 42, 180, 0, 42, 27, 46, 172]
abbrev dktX5_marry_1 : List UInt8 := dkwX5_marry_1 ++ []
def dkwX5_marry_0 : List UInt8 := [27, 2, 159, 0, 18, 42, 27, 182, 0, 159, 154, 0, 10, 42, 16, 246, 182, 0, 165, 172, 42, 182, 0, 192]
abbrev dktX5_marry_0 : List UInt8 := dkwX5_marry_0 ++ dktX5_marry_1
theorem dksX5_marry_0 : cX5_marry.data.toList.drop 0 = dktX5_marry_0 := by decide +kernel
theorem dksX5_marry_1 : cX5_marry.data.toList.drop 24 = dktX5_marry_1 := dk_seg dksX5_marry_0 24 rfl rfl
theorem dX5_marry_0 : decode cX5_marry 0 = .ok (.iload_n 1, 1) := dk_27 (dk_at dksX5_marry_0 0 rfl rfl)
theorem dX5_marry_1 : decode cX5_marry 1 = .ok (.iconst (-1), 1) := dk_2 (dk_at dksX5_marry_0 1 rfl rfl)
theorem dX5_marry_2 : decode cX5_marry 2 = .ok (.if_icmp .eq 18, 3) := dk_159 0 18 (dk_at dksX5_marry_0 2 rfl rfl)
theorem dX5_marry_5 : decode cX5_marry 5 = .ok (.aload_n 0, 1) := dk_42 (dk_at dksX5_marry_0 5 rfl rfl)
theorem dX5_marry_6 : decode cX5_marry 6 = .ok (.iload_n 1, 1) := dk_27 (dk_at dksX5_marry_0 6 rfl rfl)
theorem dX5_marry_7 : decode cX5_marry 7 = .ok (.invokevirtual 159, 3) := dk_182 0 159 (dk_at dksX5_marry_0 7 rfl rfl)
theorem dX5_marry_10 : decode cX5_marry 10 = .ok (.ifCond .ne 10, 3) := dk_154 0 10 (dk_at dksX5_marry_0 10 rfl rfl)
theorem dX5_marry_13 : decode cX5_marry 13 = .ok (.aload_n 0, 1) := dk_42 (dk_at dksX5_marry_0 13 rfl rfl)
theorem dX5_marry_14 : decode cX5_marry 14 = .ok (.bipush (-10), 2) := dk_16 246 (dk_at dksX5_marry_0 14 rfl rfl)
theorem dX5_marry_16 : decode cX5_marry 16 = .ok (.invokevirtual 165, 3) := dk_182 0 165 (dk_at dksX5_marry_0 16 rfl rfl)
theorem dX5_marry_19 : decode cX5_marry 19 = .ok (.ireturn, 1) := dk_172 (dk_at dksX5_marry_0 19 rfl rfl)
theorem dX5_marry_20 : decode cX5_marry 20 = .ok (.aload_n 0, 1) := dk_42 (dk_at dksX5_marry_0 20 rfl rfl)
theorem dX5_marry_21 : decode cX5_marry 21 = .ok (.invokevirtual 192, 3) := dk_182 0 192 (dk_at dksX5_marry_0 21 rfl rfl)
theorem dX5_marry_24 : decode cX5_marry 24 = .ok (.istore_n 2, 1) := dk_61 (dk_at dksX5_marry_1 0 rfl rfl)
theorem dX5_marry_25 : decode cX5_marry 25 = .ok (.iload_n 1, 1) := dk_27 (dk_at dksX5_marry_1 1 rfl rfl)
theorem dX5_marry_26 : decode cX5_marry 26 = .ok (.iconst (-1), 1) := dk_2 (dk_at dksX5_marry_1 2 rfl rfl)
theorem dX5_marry_27 : decode cX5_marry 27 = .ok (.if_icmp .ne 7, 3) := dk_160 0 7 (dk_at dksX5_marry_1 3 rfl rfl)
theorem dX5_marry_30 : decode cX5_marry 30 = .ok (.iload_n 2, 1) := dk_28 (dk_at dksX5_marry_1 6 rfl rfl)
theorem dX5_marry_31 : decode cX5_marry 31 = .ok (.goto 9, 3) := dk_167 0 9 (dk_at dksX5_marry_1 7 rfl rfl)
theorem dX5_marry_34 : decode cX5_marry 34 = .ok (.aload_n 0, 1) := dk_42 (dk_at dksX5_marry_1 10 rfl rfl)
theorem dX5_marry_35 : decode cX5_marry 35 = .ok (.getfield 42, 3) := dk_180 0 42 (dk_at dksX5_marry_1 11 rfl rfl)
theorem dX5_marry_38 : decode cX5_marry 38 = .ok (.iload_n 1, 1) := dk_27 (dk_at dksX5_marry_1 14 rfl rfl)
theorem dX5_marry_39 : decode cX5_marry 39 = .ok (.iaload, 1) := dk_46 (dk_at dksX5_marry_1 15 rfl rfl)
theorem dX5_marry_40 : decode cX5_marry 40 = .ok (.ireturn, 1) := dk_172 (dk_at dksX5_marry_1 16 rfl rfl)
abbrev cX5_mostPairs : ByteArray := prog_20_method_57_code
def yX5_mostPairs : MethodName := ⟨RX5, "mostPairs", "()I"⟩
def dkwX5_mostPairs_3 : List UInt8 := [21, 5, 42, 180, 0, 39, 21, 5, 46, 79, 132, 5, 1, 167, 255, 232, 132, 3, 1, 167, 255, 202, 28, 172]
abbrev dktX5_mostPairs_3 : List UInt8 := dkwX5_mostPairs_3 ++ []
def dkwX5_mostPairs_2 : List UInt8 := [21, 4, 28, 164, 0, 36, 21, 4, 61, 3, 54, 5, 21, 5, 16, 7, 162, 0, 23, 42, 180, 0, 42]
abbrev dktX5_mostPairs_2 : List UInt8 := dkwX5_mostPairs_2 ++ dktX5_mostPairs_3
def dkwX5_mostPairs_1 : List UInt8 := [60, 132, 2, 1, 167, 255, 236, 2, 61, 3, 62, 29, 27, 162, 0, 55, 42, 29, 182, 0, 189, 54, 4]
abbrev dktX5_mostPairs_1 : List UInt8 := dkwX5_mostPairs_1 ++ dktX5_mostPairs_2
def dkwX5_mostPairs_0 : List UInt8 := [42, 182, 0, 186, 4, 60, 3, 61, 28, 42, 180, 0, 177, 162, 0, 18, 27, 42, 180, 0, 180, 4, 96, 104]
abbrev dktX5_mostPairs_0 : List UInt8 := dkwX5_mostPairs_0 ++ dktX5_mostPairs_1
theorem dksX5_mostPairs_0 : cX5_mostPairs.data.toList.drop 0 = dktX5_mostPairs_0 := by decide +kernel
theorem dksX5_mostPairs_1 : cX5_mostPairs.data.toList.drop 24 = dktX5_mostPairs_1 := dk_seg dksX5_mostPairs_0 24 rfl rfl
theorem dksX5_mostPairs_2 : cX5_mostPairs.data.toList.drop 47 = dktX5_mostPairs_2 := dk_seg dksX5_mostPairs_1 23 rfl rfl
theorem dksX5_mostPairs_3 : cX5_mostPairs.data.toList.drop 70 = dktX5_mostPairs_3 := dk_seg dksX5_mostPairs_2 23 rfl rfl
theorem dX5_mostPairs_0 : decode cX5_mostPairs 0 = .ok (.aload_n 0, 1) := dk_42 (dk_at dksX5_mostPairs_0 0 rfl rfl)
theorem dX5_mostPairs_1 : decode cX5_mostPairs 1 = .ok (.invokevirtual 186, 3) := dk_182 0 186 (dk_at dksX5_mostPairs_0 1 rfl rfl)
theorem dX5_mostPairs_4 : decode cX5_mostPairs 4 = .ok (.iconst 1, 1) := dk_4 (dk_at dksX5_mostPairs_0 4 rfl rfl)
theorem dX5_mostPairs_5 : decode cX5_mostPairs 5 = .ok (.istore_n 1, 1) := dk_60 (dk_at dksX5_mostPairs_0 5 rfl rfl)
theorem dX5_mostPairs_6 : decode cX5_mostPairs 6 = .ok (.iconst 0, 1) := dk_3 (dk_at dksX5_mostPairs_0 6 rfl rfl)
theorem dX5_mostPairs_7 : decode cX5_mostPairs 7 = .ok (.istore_n 2, 1) := dk_61 (dk_at dksX5_mostPairs_0 7 rfl rfl)
theorem dX5_mostPairs_8 : decode cX5_mostPairs 8 = .ok (.iload_n 2, 1) := dk_28 (dk_at dksX5_mostPairs_0 8 rfl rfl)
theorem dX5_mostPairs_9 : decode cX5_mostPairs 9 = .ok (.aload_n 0, 1) := dk_42 (dk_at dksX5_mostPairs_0 9 rfl rfl)
theorem dX5_mostPairs_10 : decode cX5_mostPairs 10 = .ok (.getfield 177, 3) := dk_180 0 177 (dk_at dksX5_mostPairs_0 10 rfl rfl)
theorem dX5_mostPairs_13 : decode cX5_mostPairs 13 = .ok (.if_icmp .ge 18, 3) := dk_162 0 18 (dk_at dksX5_mostPairs_0 13 rfl rfl)
theorem dX5_mostPairs_16 : decode cX5_mostPairs 16 = .ok (.iload_n 1, 1) := dk_27 (dk_at dksX5_mostPairs_0 16 rfl rfl)
theorem dX5_mostPairs_17 : decode cX5_mostPairs 17 = .ok (.aload_n 0, 1) := dk_42 (dk_at dksX5_mostPairs_0 17 rfl rfl)
theorem dX5_mostPairs_18 : decode cX5_mostPairs 18 = .ok (.getfield 180, 3) := dk_180 0 180 (dk_at dksX5_mostPairs_0 18 rfl rfl)
theorem dX5_mostPairs_21 : decode cX5_mostPairs 21 = .ok (.iconst 1, 1) := dk_4 (dk_at dksX5_mostPairs_0 21 rfl rfl)
theorem dX5_mostPairs_22 : decode cX5_mostPairs 22 = .ok (.iadd, 1) := dk_96 (dk_at dksX5_mostPairs_0 22 rfl rfl)
theorem dX5_mostPairs_23 : decode cX5_mostPairs 23 = .ok (.imul, 1) := dk_104 (dk_at dksX5_mostPairs_0 23 rfl rfl)
theorem dX5_mostPairs_24 : decode cX5_mostPairs 24 = .ok (.istore_n 1, 1) := dk_60 (dk_at dksX5_mostPairs_1 0 rfl rfl)
theorem dX5_mostPairs_25 : decode cX5_mostPairs 25 = .ok (.iinc 2 1, 3) := dk_132 2 1 (dk_at dksX5_mostPairs_1 1 rfl rfl)
theorem dX5_mostPairs_28 : decode cX5_mostPairs 28 = .ok (.goto (-20), 3) := dk_167 255 236 (dk_at dksX5_mostPairs_1 4 rfl rfl)
theorem dX5_mostPairs_31 : decode cX5_mostPairs 31 = .ok (.iconst (-1), 1) := dk_2 (dk_at dksX5_mostPairs_1 7 rfl rfl)
theorem dX5_mostPairs_32 : decode cX5_mostPairs 32 = .ok (.istore_n 2, 1) := dk_61 (dk_at dksX5_mostPairs_1 8 rfl rfl)
theorem dX5_mostPairs_33 : decode cX5_mostPairs 33 = .ok (.iconst 0, 1) := dk_3 (dk_at dksX5_mostPairs_1 9 rfl rfl)
theorem dX5_mostPairs_34 : decode cX5_mostPairs 34 = .ok (.istore_n 3, 1) := dk_62 (dk_at dksX5_mostPairs_1 10 rfl rfl)
theorem dX5_mostPairs_35 : decode cX5_mostPairs 35 = .ok (.iload_n 3, 1) := dk_29 (dk_at dksX5_mostPairs_1 11 rfl rfl)
theorem dX5_mostPairs_36 : decode cX5_mostPairs 36 = .ok (.iload_n 1, 1) := dk_27 (dk_at dksX5_mostPairs_1 12 rfl rfl)
theorem dX5_mostPairs_37 : decode cX5_mostPairs 37 = .ok (.if_icmp .ge 55, 3) := dk_162 0 55 (dk_at dksX5_mostPairs_1 13 rfl rfl)
theorem dX5_mostPairs_40 : decode cX5_mostPairs 40 = .ok (.aload_n 0, 1) := dk_42 (dk_at dksX5_mostPairs_1 16 rfl rfl)
theorem dX5_mostPairs_41 : decode cX5_mostPairs 41 = .ok (.iload_n 3, 1) := dk_29 (dk_at dksX5_mostPairs_1 17 rfl rfl)
theorem dX5_mostPairs_42 : decode cX5_mostPairs 42 = .ok (.invokevirtual 189, 3) := dk_182 0 189 (dk_at dksX5_mostPairs_1 18 rfl rfl)
theorem dX5_mostPairs_45 : decode cX5_mostPairs 45 = .ok (.istore 4, 2) := dk_54 4 (dk_at dksX5_mostPairs_1 21 rfl rfl)
theorem dX5_mostPairs_47 : decode cX5_mostPairs 47 = .ok (.iload 4, 2) := dk_21 4 (dk_at dksX5_mostPairs_2 0 rfl rfl)
theorem dX5_mostPairs_49 : decode cX5_mostPairs 49 = .ok (.iload_n 2, 1) := dk_28 (dk_at dksX5_mostPairs_2 2 rfl rfl)
theorem dX5_mostPairs_50 : decode cX5_mostPairs 50 = .ok (.if_icmp .le 36, 3) := dk_164 0 36 (dk_at dksX5_mostPairs_2 3 rfl rfl)
theorem dX5_mostPairs_53 : decode cX5_mostPairs 53 = .ok (.iload 4, 2) := dk_21 4 (dk_at dksX5_mostPairs_2 6 rfl rfl)
theorem dX5_mostPairs_55 : decode cX5_mostPairs 55 = .ok (.istore_n 2, 1) := dk_61 (dk_at dksX5_mostPairs_2 8 rfl rfl)
theorem dX5_mostPairs_56 : decode cX5_mostPairs 56 = .ok (.iconst 0, 1) := dk_3 (dk_at dksX5_mostPairs_2 9 rfl rfl)
theorem dX5_mostPairs_57 : decode cX5_mostPairs 57 = .ok (.istore 5, 2) := dk_54 5 (dk_at dksX5_mostPairs_2 10 rfl rfl)
theorem dX5_mostPairs_59 : decode cX5_mostPairs 59 = .ok (.iload 5, 2) := dk_21 5 (dk_at dksX5_mostPairs_2 12 rfl rfl)
theorem dX5_mostPairs_61 : decode cX5_mostPairs 61 = .ok (.bipush 7, 2) := dk_16 7 (dk_at dksX5_mostPairs_2 14 rfl rfl)
theorem dX5_mostPairs_63 : decode cX5_mostPairs 63 = .ok (.if_icmp .ge 23, 3) := dk_162 0 23 (dk_at dksX5_mostPairs_2 16 rfl rfl)
theorem dX5_mostPairs_66 : decode cX5_mostPairs 66 = .ok (.aload_n 0, 1) := dk_42 (dk_at dksX5_mostPairs_2 19 rfl rfl)
theorem dX5_mostPairs_67 : decode cX5_mostPairs 67 = .ok (.getfield 42, 3) := dk_180 0 42 (dk_at dksX5_mostPairs_2 20 rfl rfl)
theorem dX5_mostPairs_70 : decode cX5_mostPairs 70 = .ok (.iload 5, 2) := dk_21 5 (dk_at dksX5_mostPairs_3 0 rfl rfl)
theorem dX5_mostPairs_72 : decode cX5_mostPairs 72 = .ok (.aload_n 0, 1) := dk_42 (dk_at dksX5_mostPairs_3 2 rfl rfl)
theorem dX5_mostPairs_73 : decode cX5_mostPairs 73 = .ok (.getfield 39, 3) := dk_180 0 39 (dk_at dksX5_mostPairs_3 3 rfl rfl)
theorem dX5_mostPairs_76 : decode cX5_mostPairs 76 = .ok (.iload 5, 2) := dk_21 5 (dk_at dksX5_mostPairs_3 6 rfl rfl)
theorem dX5_mostPairs_78 : decode cX5_mostPairs 78 = .ok (.iaload, 1) := dk_46 (dk_at dksX5_mostPairs_3 8 rfl rfl)
theorem dX5_mostPairs_79 : decode cX5_mostPairs 79 = .ok (.iastore, 1) := dk_79 (dk_at dksX5_mostPairs_3 9 rfl rfl)
theorem dX5_mostPairs_80 : decode cX5_mostPairs 80 = .ok (.iinc 5 1, 3) := dk_132 5 1 (dk_at dksX5_mostPairs_3 10 rfl rfl)
theorem dX5_mostPairs_83 : decode cX5_mostPairs 83 = .ok (.goto (-24), 3) := dk_167 255 232 (dk_at dksX5_mostPairs_3 13 rfl rfl)
theorem dX5_mostPairs_86 : decode cX5_mostPairs 86 = .ok (.iinc 3 1, 3) := dk_132 3 1 (dk_at dksX5_mostPairs_3 16 rfl rfl)
theorem dX5_mostPairs_89 : decode cX5_mostPairs 89 = .ok (.goto (-54), 3) := dk_167 255 202 (dk_at dksX5_mostPairs_3 19 rfl rfl)
theorem dX5_mostPairs_92 : decode cX5_mostPairs 92 = .ok (.iload_n 2, 1) := dk_28 (dk_at dksX5_mostPairs_3 22 rfl rfl)
theorem dX5_mostPairs_93 : decode cX5_mostPairs 93 = .ok (.ireturn, 1) := dk_172 (dk_at dksX5_mostPairs_3 23 rfl rfl)
abbrev cX5_laySides : ByteArray := prog_20_method_55_code
def yX5_laySides : MethodName := ⟨RX5, "laySides", "()V"⟩
def dkwX5_laySides_3 : List UInt8 := [180, 0, 180, 4, 96, 181, 0, 180, 132, 1, 1, 167, 255, 187, 177]
abbrev dktX5_laySides_3 : List UInt8 := dkwX5_laySides_3 ++ []
def dkwX5_laySides_2 : List UInt8 := [180, 0, 177, 4, 96, 181, 0, 177, 167, 0, 23, 42, 180, 0, 36, 42, 180, 0, 180, 27, 79, 42, 89]
abbrev dktX5_laySides_2 : List UInt8 := dkwX5_laySides_2 ++ dktX5_laySides_3
def dkwX5_laySides_1 : List UInt8 := [180, 0, 7, 16, 19, 27, 96, 46, 154, 0, 26, 42, 180, 0, 33, 42, 180, 0, 177, 27, 79, 42, 89]
abbrev dktX5_laySides_1 : List UInt8 := dkwX5_laySides_1 ++ dktX5_laySides_2
def dkwX5_laySides_0 : List UInt8 := [42, 3, 181, 0, 177, 42, 3, 181, 0, 180, 3, 60, 27, 42, 180, 0, 7, 16, 11, 46, 162, 0, 64, 42]
abbrev dktX5_laySides_0 : List UInt8 := dkwX5_laySides_0 ++ dktX5_laySides_1
theorem dksX5_laySides_0 : cX5_laySides.data.toList.drop 0 = dktX5_laySides_0 := by decide +kernel
theorem dksX5_laySides_1 : cX5_laySides.data.toList.drop 24 = dktX5_laySides_1 := dk_seg dksX5_laySides_0 24 rfl rfl
theorem dksX5_laySides_2 : cX5_laySides.data.toList.drop 47 = dktX5_laySides_2 := dk_seg dksX5_laySides_1 23 rfl rfl
theorem dksX5_laySides_3 : cX5_laySides.data.toList.drop 70 = dktX5_laySides_3 := dk_seg dksX5_laySides_2 23 rfl rfl
theorem dX5_laySides_0 : decode cX5_laySides 0 = .ok (.aload_n 0, 1) := dk_42 (dk_at dksX5_laySides_0 0 rfl rfl)
theorem dX5_laySides_1 : decode cX5_laySides 1 = .ok (.iconst 0, 1) := dk_3 (dk_at dksX5_laySides_0 1 rfl rfl)
theorem dX5_laySides_2 : decode cX5_laySides 2 = .ok (.putfield 177, 3) := dk_181 0 177 (dk_at dksX5_laySides_0 2 rfl rfl)
theorem dX5_laySides_5 : decode cX5_laySides 5 = .ok (.aload_n 0, 1) := dk_42 (dk_at dksX5_laySides_0 5 rfl rfl)
theorem dX5_laySides_6 : decode cX5_laySides 6 = .ok (.iconst 0, 1) := dk_3 (dk_at dksX5_laySides_0 6 rfl rfl)
theorem dX5_laySides_7 : decode cX5_laySides 7 = .ok (.putfield 180, 3) := dk_181 0 180 (dk_at dksX5_laySides_0 7 rfl rfl)
theorem dX5_laySides_10 : decode cX5_laySides 10 = .ok (.iconst 0, 1) := dk_3 (dk_at dksX5_laySides_0 10 rfl rfl)
theorem dX5_laySides_11 : decode cX5_laySides 11 = .ok (.istore_n 1, 1) := dk_60 (dk_at dksX5_laySides_0 11 rfl rfl)
theorem dX5_laySides_12 : decode cX5_laySides 12 = .ok (.iload_n 1, 1) := dk_27 (dk_at dksX5_laySides_0 12 rfl rfl)
theorem dX5_laySides_13 : decode cX5_laySides 13 = .ok (.aload_n 0, 1) := dk_42 (dk_at dksX5_laySides_0 13 rfl rfl)
theorem dX5_laySides_14 : decode cX5_laySides 14 = .ok (.getfield 7, 3) := dk_180 0 7 (dk_at dksX5_laySides_0 14 rfl rfl)
theorem dX5_laySides_17 : decode cX5_laySides 17 = .ok (.bipush 11, 2) := dk_16 11 (dk_at dksX5_laySides_0 17 rfl rfl)
theorem dX5_laySides_19 : decode cX5_laySides 19 = .ok (.iaload, 1) := dk_46 (dk_at dksX5_laySides_0 19 rfl rfl)
theorem dX5_laySides_20 : decode cX5_laySides 20 = .ok (.if_icmp .ge 64, 3) := dk_162 0 64 (dk_at dksX5_laySides_0 20 rfl rfl)
theorem dX5_laySides_23 : decode cX5_laySides 23 = .ok (.aload_n 0, 1) := dk_42 (dk_at dksX5_laySides_0 23 rfl rfl)
theorem dX5_laySides_24 : decode cX5_laySides 24 = .ok (.getfield 7, 3) := dk_180 0 7 (dk_at dksX5_laySides_1 0 rfl rfl)
theorem dX5_laySides_27 : decode cX5_laySides 27 = .ok (.bipush 19, 2) := dk_16 19 (dk_at dksX5_laySides_1 3 rfl rfl)
theorem dX5_laySides_29 : decode cX5_laySides 29 = .ok (.iload_n 1, 1) := dk_27 (dk_at dksX5_laySides_1 5 rfl rfl)
theorem dX5_laySides_30 : decode cX5_laySides 30 = .ok (.iadd, 1) := dk_96 (dk_at dksX5_laySides_1 6 rfl rfl)
theorem dX5_laySides_31 : decode cX5_laySides 31 = .ok (.iaload, 1) := dk_46 (dk_at dksX5_laySides_1 7 rfl rfl)
theorem dX5_laySides_32 : decode cX5_laySides 32 = .ok (.ifCond .ne 26, 3) := dk_154 0 26 (dk_at dksX5_laySides_1 8 rfl rfl)
theorem dX5_laySides_35 : decode cX5_laySides 35 = .ok (.aload_n 0, 1) := dk_42 (dk_at dksX5_laySides_1 11 rfl rfl)
theorem dX5_laySides_36 : decode cX5_laySides 36 = .ok (.getfield 33, 3) := dk_180 0 33 (dk_at dksX5_laySides_1 12 rfl rfl)
theorem dX5_laySides_39 : decode cX5_laySides 39 = .ok (.aload_n 0, 1) := dk_42 (dk_at dksX5_laySides_1 15 rfl rfl)
theorem dX5_laySides_40 : decode cX5_laySides 40 = .ok (.getfield 177, 3) := dk_180 0 177 (dk_at dksX5_laySides_1 16 rfl rfl)
theorem dX5_laySides_43 : decode cX5_laySides 43 = .ok (.iload_n 1, 1) := dk_27 (dk_at dksX5_laySides_1 19 rfl rfl)
theorem dX5_laySides_44 : decode cX5_laySides 44 = .ok (.iastore, 1) := dk_79 (dk_at dksX5_laySides_1 20 rfl rfl)
theorem dX5_laySides_45 : decode cX5_laySides 45 = .ok (.aload_n 0, 1) := dk_42 (dk_at dksX5_laySides_1 21 rfl rfl)
theorem dX5_laySides_46 : decode cX5_laySides 46 = .ok (.dup, 1) := dk_89 (dk_at dksX5_laySides_1 22 rfl rfl)
theorem dX5_laySides_47 : decode cX5_laySides 47 = .ok (.getfield 177, 3) := dk_180 0 177 (dk_at dksX5_laySides_2 0 rfl rfl)
theorem dX5_laySides_50 : decode cX5_laySides 50 = .ok (.iconst 1, 1) := dk_4 (dk_at dksX5_laySides_2 3 rfl rfl)
theorem dX5_laySides_51 : decode cX5_laySides 51 = .ok (.iadd, 1) := dk_96 (dk_at dksX5_laySides_2 4 rfl rfl)
theorem dX5_laySides_52 : decode cX5_laySides 52 = .ok (.putfield 177, 3) := dk_181 0 177 (dk_at dksX5_laySides_2 5 rfl rfl)
theorem dX5_laySides_55 : decode cX5_laySides 55 = .ok (.goto 23, 3) := dk_167 0 23 (dk_at dksX5_laySides_2 8 rfl rfl)
theorem dX5_laySides_58 : decode cX5_laySides 58 = .ok (.aload_n 0, 1) := dk_42 (dk_at dksX5_laySides_2 11 rfl rfl)
theorem dX5_laySides_59 : decode cX5_laySides 59 = .ok (.getfield 36, 3) := dk_180 0 36 (dk_at dksX5_laySides_2 12 rfl rfl)
theorem dX5_laySides_62 : decode cX5_laySides 62 = .ok (.aload_n 0, 1) := dk_42 (dk_at dksX5_laySides_2 15 rfl rfl)
theorem dX5_laySides_63 : decode cX5_laySides 63 = .ok (.getfield 180, 3) := dk_180 0 180 (dk_at dksX5_laySides_2 16 rfl rfl)
theorem dX5_laySides_66 : decode cX5_laySides 66 = .ok (.iload_n 1, 1) := dk_27 (dk_at dksX5_laySides_2 19 rfl rfl)
theorem dX5_laySides_67 : decode cX5_laySides 67 = .ok (.iastore, 1) := dk_79 (dk_at dksX5_laySides_2 20 rfl rfl)
theorem dX5_laySides_68 : decode cX5_laySides 68 = .ok (.aload_n 0, 1) := dk_42 (dk_at dksX5_laySides_2 21 rfl rfl)
theorem dX5_laySides_69 : decode cX5_laySides 69 = .ok (.dup, 1) := dk_89 (dk_at dksX5_laySides_2 22 rfl rfl)
theorem dX5_laySides_70 : decode cX5_laySides 70 = .ok (.getfield 180, 3) := dk_180 0 180 (dk_at dksX5_laySides_3 0 rfl rfl)
theorem dX5_laySides_73 : decode cX5_laySides 73 = .ok (.iconst 1, 1) := dk_4 (dk_at dksX5_laySides_3 3 rfl rfl)
theorem dX5_laySides_74 : decode cX5_laySides 74 = .ok (.iadd, 1) := dk_96 (dk_at dksX5_laySides_3 4 rfl rfl)
theorem dX5_laySides_75 : decode cX5_laySides 75 = .ok (.putfield 180, 3) := dk_181 0 180 (dk_at dksX5_laySides_3 5 rfl rfl)
theorem dX5_laySides_78 : decode cX5_laySides 78 = .ok (.iinc 1 1, 3) := dk_132 1 1 (dk_at dksX5_laySides_3 8 rfl rfl)
theorem dX5_laySides_81 : decode cX5_laySides 81 = .ok (.goto (-69), 3) := dk_167 255 187 (dk_at dksX5_laySides_3 11 rfl rfl)
theorem dX5_laySides_84 : decode cX5_laySides 84 = .ok (.return_, 1) := dk_177 (dk_at dksX5_laySides_3 14 rfl rfl)
abbrev cX5_pairsBy : ByteArray := prog_20_method_56_code
def yX5_pairsBy : MethodName := ⟨RX5, "pairsBy", "(I)I"⟩
def dkwX5_pairsBy_6 : List UInt8 := [167, 255, 149, 21, 4, 153, 0, 7, 29, 167, 0, 4, 2, 172]
abbrev dktX5_pairsBy_6 : List UInt8 := dkwX5_pairsBy_6 ++ []
def dkwX5_pairsBy_5 : List UInt8 := [180, 0, 39, 21, 7, 21, 8, 79, 42, 180, 0, 39, 21, 8, 21, 7, 79, 132, 3, 1, 132, 5, 255]
abbrev dktX5_pairsBy_5 : List UInt8 := dkwX5_pairsBy_5 ++ dktX5_pairsBy_6
def dkwX5_pairsBy_4 : List UInt8 := [46, 2, 160, 0, 18, 42, 21, 7, 21, 8, 182, 0, 183, 153, 0, 7, 4, 167, 0, 4, 3, 54, 4, 42]
abbrev dktX5_pairsBy_4 : List UInt8 := dkwX5_pairsBy_4 ++ dktX5_pairsBy_5
def dkwX5_pairsBy_3 : List UInt8 := [54, 7, 42, 180, 0, 36, 21, 6, 4, 100, 46, 54, 8, 21, 4, 153, 0, 29, 42, 180, 0, 39, 21, 8]
abbrev dktX5_pairsBy_3 : List UInt8 := dkwX5_pairsBy_3 ++ dktX5_pairsBy_4
def dkwX5_pairsBy_2 : List UInt8 := [112, 54, 6, 28, 42, 180, 0, 180, 4, 96, 108, 61, 21, 6, 158, 0, 78, 42, 180, 0, 33, 21, 5, 46]
abbrev dktX5_pairsBy_2 : List UInt8 := dkwX5_pairsBy_2 ++ dktX5_pairsBy_3
def dkwX5_pairsBy_1 : List UInt8 := [62, 4, 54, 4, 42, 180, 0, 177, 4, 100, 54, 5, 21, 5, 155, 0, 108, 28, 42, 180, 0, 180, 4, 96]
abbrev dktX5_pairsBy_1 : List UInt8 := dkwX5_pairsBy_1 ++ dktX5_pairsBy_2
def dkwX5_pairsBy_0 : List UInt8 := [3, 61, 28, 16, 7, 162, 0, 16, 42, 180, 0, 39, 28, 2, 79, 132, 2, 1, 167, 255, 240, 27, 61, 3]
abbrev dktX5_pairsBy_0 : List UInt8 := dkwX5_pairsBy_0 ++ dktX5_pairsBy_1
theorem dksX5_pairsBy_0 : cX5_pairsBy.data.toList.drop 0 = dktX5_pairsBy_0 := by decide +kernel
theorem dksX5_pairsBy_1 : cX5_pairsBy.data.toList.drop 24 = dktX5_pairsBy_1 := dk_seg dksX5_pairsBy_0 24 rfl rfl
theorem dksX5_pairsBy_2 : cX5_pairsBy.data.toList.drop 48 = dktX5_pairsBy_2 := dk_seg dksX5_pairsBy_1 24 rfl rfl
theorem dksX5_pairsBy_3 : cX5_pairsBy.data.toList.drop 72 = dktX5_pairsBy_3 := dk_seg dksX5_pairsBy_2 24 rfl rfl
theorem dksX5_pairsBy_4 : cX5_pairsBy.data.toList.drop 96 = dktX5_pairsBy_4 := dk_seg dksX5_pairsBy_3 24 rfl rfl
theorem dksX5_pairsBy_5 : cX5_pairsBy.data.toList.drop 120 = dktX5_pairsBy_5 := dk_seg dksX5_pairsBy_4 24 rfl rfl
theorem dksX5_pairsBy_6 : cX5_pairsBy.data.toList.drop 143 = dktX5_pairsBy_6 := dk_seg dksX5_pairsBy_5 23 rfl rfl
theorem dX5_pairsBy_0 : decode cX5_pairsBy 0 = .ok (.iconst 0, 1) := dk_3 (dk_at dksX5_pairsBy_0 0 rfl rfl)
theorem dX5_pairsBy_1 : decode cX5_pairsBy 1 = .ok (.istore_n 2, 1) := dk_61 (dk_at dksX5_pairsBy_0 1 rfl rfl)
theorem dX5_pairsBy_2 : decode cX5_pairsBy 2 = .ok (.iload_n 2, 1) := dk_28 (dk_at dksX5_pairsBy_0 2 rfl rfl)
theorem dX5_pairsBy_3 : decode cX5_pairsBy 3 = .ok (.bipush 7, 2) := dk_16 7 (dk_at dksX5_pairsBy_0 3 rfl rfl)
theorem dX5_pairsBy_5 : decode cX5_pairsBy 5 = .ok (.if_icmp .ge 16, 3) := dk_162 0 16 (dk_at dksX5_pairsBy_0 5 rfl rfl)
theorem dX5_pairsBy_8 : decode cX5_pairsBy 8 = .ok (.aload_n 0, 1) := dk_42 (dk_at dksX5_pairsBy_0 8 rfl rfl)
theorem dX5_pairsBy_9 : decode cX5_pairsBy 9 = .ok (.getfield 39, 3) := dk_180 0 39 (dk_at dksX5_pairsBy_0 9 rfl rfl)
theorem dX5_pairsBy_12 : decode cX5_pairsBy 12 = .ok (.iload_n 2, 1) := dk_28 (dk_at dksX5_pairsBy_0 12 rfl rfl)
theorem dX5_pairsBy_13 : decode cX5_pairsBy 13 = .ok (.iconst (-1), 1) := dk_2 (dk_at dksX5_pairsBy_0 13 rfl rfl)
theorem dX5_pairsBy_14 : decode cX5_pairsBy 14 = .ok (.iastore, 1) := dk_79 (dk_at dksX5_pairsBy_0 14 rfl rfl)
theorem dX5_pairsBy_15 : decode cX5_pairsBy 15 = .ok (.iinc 2 1, 3) := dk_132 2 1 (dk_at dksX5_pairsBy_0 15 rfl rfl)
theorem dX5_pairsBy_18 : decode cX5_pairsBy 18 = .ok (.goto (-16), 3) := dk_167 255 240 (dk_at dksX5_pairsBy_0 18 rfl rfl)
theorem dX5_pairsBy_21 : decode cX5_pairsBy 21 = .ok (.iload_n 1, 1) := dk_27 (dk_at dksX5_pairsBy_0 21 rfl rfl)
theorem dX5_pairsBy_22 : decode cX5_pairsBy 22 = .ok (.istore_n 2, 1) := dk_61 (dk_at dksX5_pairsBy_0 22 rfl rfl)
theorem dX5_pairsBy_23 : decode cX5_pairsBy 23 = .ok (.iconst 0, 1) := dk_3 (dk_at dksX5_pairsBy_0 23 rfl rfl)
theorem dX5_pairsBy_24 : decode cX5_pairsBy 24 = .ok (.istore_n 3, 1) := dk_62 (dk_at dksX5_pairsBy_1 0 rfl rfl)
theorem dX5_pairsBy_25 : decode cX5_pairsBy 25 = .ok (.iconst 1, 1) := dk_4 (dk_at dksX5_pairsBy_1 1 rfl rfl)
theorem dX5_pairsBy_26 : decode cX5_pairsBy 26 = .ok (.istore 4, 2) := dk_54 4 (dk_at dksX5_pairsBy_1 2 rfl rfl)
theorem dX5_pairsBy_28 : decode cX5_pairsBy 28 = .ok (.aload_n 0, 1) := dk_42 (dk_at dksX5_pairsBy_1 4 rfl rfl)
theorem dX5_pairsBy_29 : decode cX5_pairsBy 29 = .ok (.getfield 177, 3) := dk_180 0 177 (dk_at dksX5_pairsBy_1 5 rfl rfl)
theorem dX5_pairsBy_32 : decode cX5_pairsBy 32 = .ok (.iconst 1, 1) := dk_4 (dk_at dksX5_pairsBy_1 8 rfl rfl)
theorem dX5_pairsBy_33 : decode cX5_pairsBy 33 = .ok (.isub, 1) := dk_100 (dk_at dksX5_pairsBy_1 9 rfl rfl)
theorem dX5_pairsBy_34 : decode cX5_pairsBy 34 = .ok (.istore 5, 2) := dk_54 5 (dk_at dksX5_pairsBy_1 10 rfl rfl)
theorem dX5_pairsBy_36 : decode cX5_pairsBy 36 = .ok (.iload 5, 2) := dk_21 5 (dk_at dksX5_pairsBy_1 12 rfl rfl)
theorem dX5_pairsBy_38 : decode cX5_pairsBy 38 = .ok (.ifCond .lt 108, 3) := dk_155 0 108 (dk_at dksX5_pairsBy_1 14 rfl rfl)
theorem dX5_pairsBy_41 : decode cX5_pairsBy 41 = .ok (.iload_n 2, 1) := dk_28 (dk_at dksX5_pairsBy_1 17 rfl rfl)
theorem dX5_pairsBy_42 : decode cX5_pairsBy 42 = .ok (.aload_n 0, 1) := dk_42 (dk_at dksX5_pairsBy_1 18 rfl rfl)
theorem dX5_pairsBy_43 : decode cX5_pairsBy 43 = .ok (.getfield 180, 3) := dk_180 0 180 (dk_at dksX5_pairsBy_1 19 rfl rfl)
theorem dX5_pairsBy_46 : decode cX5_pairsBy 46 = .ok (.iconst 1, 1) := dk_4 (dk_at dksX5_pairsBy_1 22 rfl rfl)
theorem dX5_pairsBy_47 : decode cX5_pairsBy 47 = .ok (.iadd, 1) := dk_96 (dk_at dksX5_pairsBy_1 23 rfl rfl)
theorem dX5_pairsBy_48 : decode cX5_pairsBy 48 = .ok (.irem, 1) := dk_112 (dk_at dksX5_pairsBy_2 0 rfl rfl)
theorem dX5_pairsBy_49 : decode cX5_pairsBy 49 = .ok (.istore 6, 2) := dk_54 6 (dk_at dksX5_pairsBy_2 1 rfl rfl)
theorem dX5_pairsBy_51 : decode cX5_pairsBy 51 = .ok (.iload_n 2, 1) := dk_28 (dk_at dksX5_pairsBy_2 3 rfl rfl)
theorem dX5_pairsBy_52 : decode cX5_pairsBy 52 = .ok (.aload_n 0, 1) := dk_42 (dk_at dksX5_pairsBy_2 4 rfl rfl)
theorem dX5_pairsBy_53 : decode cX5_pairsBy 53 = .ok (.getfield 180, 3) := dk_180 0 180 (dk_at dksX5_pairsBy_2 5 rfl rfl)
theorem dX5_pairsBy_56 : decode cX5_pairsBy 56 = .ok (.iconst 1, 1) := dk_4 (dk_at dksX5_pairsBy_2 8 rfl rfl)
theorem dX5_pairsBy_57 : decode cX5_pairsBy 57 = .ok (.iadd, 1) := dk_96 (dk_at dksX5_pairsBy_2 9 rfl rfl)
theorem dX5_pairsBy_58 : decode cX5_pairsBy 58 = .ok (.idiv, 1) := dk_108 (dk_at dksX5_pairsBy_2 10 rfl rfl)
theorem dX5_pairsBy_59 : decode cX5_pairsBy 59 = .ok (.istore_n 2, 1) := dk_61 (dk_at dksX5_pairsBy_2 11 rfl rfl)
theorem dX5_pairsBy_60 : decode cX5_pairsBy 60 = .ok (.iload 6, 2) := dk_21 6 (dk_at dksX5_pairsBy_2 12 rfl rfl)
theorem dX5_pairsBy_62 : decode cX5_pairsBy 62 = .ok (.ifCond .le 78, 3) := dk_158 0 78 (dk_at dksX5_pairsBy_2 14 rfl rfl)
theorem dX5_pairsBy_65 : decode cX5_pairsBy 65 = .ok (.aload_n 0, 1) := dk_42 (dk_at dksX5_pairsBy_2 17 rfl rfl)
theorem dX5_pairsBy_66 : decode cX5_pairsBy 66 = .ok (.getfield 33, 3) := dk_180 0 33 (dk_at dksX5_pairsBy_2 18 rfl rfl)
theorem dX5_pairsBy_69 : decode cX5_pairsBy 69 = .ok (.iload 5, 2) := dk_21 5 (dk_at dksX5_pairsBy_2 21 rfl rfl)
theorem dX5_pairsBy_71 : decode cX5_pairsBy 71 = .ok (.iaload, 1) := dk_46 (dk_at dksX5_pairsBy_2 23 rfl rfl)
theorem dX5_pairsBy_72 : decode cX5_pairsBy 72 = .ok (.istore 7, 2) := dk_54 7 (dk_at dksX5_pairsBy_3 0 rfl rfl)
theorem dX5_pairsBy_74 : decode cX5_pairsBy 74 = .ok (.aload_n 0, 1) := dk_42 (dk_at dksX5_pairsBy_3 2 rfl rfl)
theorem dX5_pairsBy_75 : decode cX5_pairsBy 75 = .ok (.getfield 36, 3) := dk_180 0 36 (dk_at dksX5_pairsBy_3 3 rfl rfl)
theorem dX5_pairsBy_78 : decode cX5_pairsBy 78 = .ok (.iload 6, 2) := dk_21 6 (dk_at dksX5_pairsBy_3 6 rfl rfl)
theorem dX5_pairsBy_80 : decode cX5_pairsBy 80 = .ok (.iconst 1, 1) := dk_4 (dk_at dksX5_pairsBy_3 8 rfl rfl)
theorem dX5_pairsBy_81 : decode cX5_pairsBy 81 = .ok (.isub, 1) := dk_100 (dk_at dksX5_pairsBy_3 9 rfl rfl)
theorem dX5_pairsBy_82 : decode cX5_pairsBy 82 = .ok (.iaload, 1) := dk_46 (dk_at dksX5_pairsBy_3 10 rfl rfl)
theorem dX5_pairsBy_83 : decode cX5_pairsBy 83 = .ok (.istore 8, 2) := dk_54 8 (dk_at dksX5_pairsBy_3 11 rfl rfl)
theorem dX5_pairsBy_85 : decode cX5_pairsBy 85 = .ok (.iload 4, 2) := dk_21 4 (dk_at dksX5_pairsBy_3 13 rfl rfl)
theorem dX5_pairsBy_87 : decode cX5_pairsBy 87 = .ok (.ifCond .eq 29, 3) := dk_153 0 29 (dk_at dksX5_pairsBy_3 15 rfl rfl)
theorem dX5_pairsBy_90 : decode cX5_pairsBy 90 = .ok (.aload_n 0, 1) := dk_42 (dk_at dksX5_pairsBy_3 18 rfl rfl)
theorem dX5_pairsBy_91 : decode cX5_pairsBy 91 = .ok (.getfield 39, 3) := dk_180 0 39 (dk_at dksX5_pairsBy_3 19 rfl rfl)
theorem dX5_pairsBy_94 : decode cX5_pairsBy 94 = .ok (.iload 8, 2) := dk_21 8 (dk_at dksX5_pairsBy_3 22 rfl rfl)
theorem dX5_pairsBy_96 : decode cX5_pairsBy 96 = .ok (.iaload, 1) := dk_46 (dk_at dksX5_pairsBy_4 0 rfl rfl)
theorem dX5_pairsBy_97 : decode cX5_pairsBy 97 = .ok (.iconst (-1), 1) := dk_2 (dk_at dksX5_pairsBy_4 1 rfl rfl)
theorem dX5_pairsBy_98 : decode cX5_pairsBy 98 = .ok (.if_icmp .ne 18, 3) := dk_160 0 18 (dk_at dksX5_pairsBy_4 2 rfl rfl)
theorem dX5_pairsBy_101 : decode cX5_pairsBy 101 = .ok (.aload_n 0, 1) := dk_42 (dk_at dksX5_pairsBy_4 5 rfl rfl)
theorem dX5_pairsBy_102 : decode cX5_pairsBy 102 = .ok (.iload 7, 2) := dk_21 7 (dk_at dksX5_pairsBy_4 6 rfl rfl)
theorem dX5_pairsBy_104 : decode cX5_pairsBy 104 = .ok (.iload 8, 2) := dk_21 8 (dk_at dksX5_pairsBy_4 8 rfl rfl)
theorem dX5_pairsBy_106 : decode cX5_pairsBy 106 = .ok (.invokevirtual 183, 3) := dk_182 0 183 (dk_at dksX5_pairsBy_4 10 rfl rfl)
theorem dX5_pairsBy_109 : decode cX5_pairsBy 109 = .ok (.ifCond .eq 7, 3) := dk_153 0 7 (dk_at dksX5_pairsBy_4 13 rfl rfl)
theorem dX5_pairsBy_112 : decode cX5_pairsBy 112 = .ok (.iconst 1, 1) := dk_4 (dk_at dksX5_pairsBy_4 16 rfl rfl)
theorem dX5_pairsBy_113 : decode cX5_pairsBy 113 = .ok (.goto 4, 3) := dk_167 0 4 (dk_at dksX5_pairsBy_4 17 rfl rfl)
theorem dX5_pairsBy_116 : decode cX5_pairsBy 116 = .ok (.iconst 0, 1) := dk_3 (dk_at dksX5_pairsBy_4 20 rfl rfl)
theorem dX5_pairsBy_117 : decode cX5_pairsBy 117 = .ok (.istore 4, 2) := dk_54 4 (dk_at dksX5_pairsBy_4 21 rfl rfl)
theorem dX5_pairsBy_119 : decode cX5_pairsBy 119 = .ok (.aload_n 0, 1) := dk_42 (dk_at dksX5_pairsBy_4 23 rfl rfl)
theorem dX5_pairsBy_120 : decode cX5_pairsBy 120 = .ok (.getfield 39, 3) := dk_180 0 39 (dk_at dksX5_pairsBy_5 0 rfl rfl)
theorem dX5_pairsBy_123 : decode cX5_pairsBy 123 = .ok (.iload 7, 2) := dk_21 7 (dk_at dksX5_pairsBy_5 3 rfl rfl)
theorem dX5_pairsBy_125 : decode cX5_pairsBy 125 = .ok (.iload 8, 2) := dk_21 8 (dk_at dksX5_pairsBy_5 5 rfl rfl)
theorem dX5_pairsBy_127 : decode cX5_pairsBy 127 = .ok (.iastore, 1) := dk_79 (dk_at dksX5_pairsBy_5 7 rfl rfl)
theorem dX5_pairsBy_128 : decode cX5_pairsBy 128 = .ok (.aload_n 0, 1) := dk_42 (dk_at dksX5_pairsBy_5 8 rfl rfl)
theorem dX5_pairsBy_129 : decode cX5_pairsBy 129 = .ok (.getfield 39, 3) := dk_180 0 39 (dk_at dksX5_pairsBy_5 9 rfl rfl)
theorem dX5_pairsBy_132 : decode cX5_pairsBy 132 = .ok (.iload 8, 2) := dk_21 8 (dk_at dksX5_pairsBy_5 12 rfl rfl)
theorem dX5_pairsBy_134 : decode cX5_pairsBy 134 = .ok (.iload 7, 2) := dk_21 7 (dk_at dksX5_pairsBy_5 14 rfl rfl)
theorem dX5_pairsBy_136 : decode cX5_pairsBy 136 = .ok (.iastore, 1) := dk_79 (dk_at dksX5_pairsBy_5 16 rfl rfl)
theorem dX5_pairsBy_137 : decode cX5_pairsBy 137 = .ok (.iinc 3 1, 3) := dk_132 3 1 (dk_at dksX5_pairsBy_5 17 rfl rfl)
theorem dX5_pairsBy_140 : decode cX5_pairsBy 140 = .ok (.iinc 5 (-1), 3) := dk_132 5 255 (dk_at dksX5_pairsBy_5 20 rfl rfl)
theorem dX5_pairsBy_143 : decode cX5_pairsBy 143 = .ok (.goto (-107), 3) := dk_167 255 149 (dk_at dksX5_pairsBy_6 0 rfl rfl)
theorem dX5_pairsBy_146 : decode cX5_pairsBy 146 = .ok (.iload 4, 2) := dk_21 4 (dk_at dksX5_pairsBy_6 3 rfl rfl)
theorem dX5_pairsBy_148 : decode cX5_pairsBy 148 = .ok (.ifCond .eq 7, 3) := dk_153 0 7 (dk_at dksX5_pairsBy_6 5 rfl rfl)
theorem dX5_pairsBy_151 : decode cX5_pairsBy 151 = .ok (.iload_n 3, 1) := dk_29 (dk_at dksX5_pairsBy_6 8 rfl rfl)
theorem dX5_pairsBy_152 : decode cX5_pairsBy 152 = .ok (.goto 4, 3) := dk_167 0 4 (dk_at dksX5_pairsBy_6 9 rfl rfl)
theorem dX5_pairsBy_155 : decode cX5_pairsBy 155 = .ok (.iconst (-1), 1) := dk_2 (dk_at dksX5_pairsBy_6 12 rfl rfl)
theorem dX5_pairsBy_156 : decode cX5_pairsBy 156 = .ok (.ireturn, 1) := dk_172 (dk_at dksX5_pairsBy_6 13 rfl rfl)
abbrev cX5_areAlike : ByteArray := prog_20_method_54_code
def yX5_areAlike : MethodName := ⟨RX5, "areAlike", "(II)Z"⟩
def dkwX5_areAlike_3 : List UInt8 := [153, 0, 7, 4, 167, 0, 4, 3, 62, 132, 4, 1, 167, 255, 179, 29, 172]
abbrev dktX5_areAlike_3 : List UInt8 := dkwX5_areAlike_3 ++ []
def dkwX5_areAlike_2 : List UInt8 := [96, 46, 21, 4, 184, 0, 135, 100, 54, 5, 29, 153, 0, 18, 21, 5, 16, 254, 5, 184, 0, 51]
abbrev dktX5_areAlike_2 : List UInt8 := dkwX5_areAlike_2 ++ dktX5_areAlike_3
def dkwX5_areAlike_1 : List UInt8 := [3, 27, 96, 46, 21, 4, 184, 0, 135, 42, 180, 0, 7, 16, 12, 28, 96, 46, 42, 180, 0, 7, 3, 28]
abbrev dktX5_areAlike_1 : List UInt8 := dkwX5_areAlike_1 ++ dktX5_areAlike_2
def dkwX5_areAlike_0 : List UInt8 := [4, 62, 3, 54, 4, 21, 4, 7, 162, 0, 77, 42, 180, 0, 7, 16, 12, 27, 96, 46, 42, 180, 0, 7]
abbrev dktX5_areAlike_0 : List UInt8 := dkwX5_areAlike_0 ++ dktX5_areAlike_1
theorem dksX5_areAlike_0 : cX5_areAlike.data.toList.drop 0 = dktX5_areAlike_0 := by decide +kernel
theorem dksX5_areAlike_1 : cX5_areAlike.data.toList.drop 24 = dktX5_areAlike_1 := dk_seg dksX5_areAlike_0 24 rfl rfl
theorem dksX5_areAlike_2 : cX5_areAlike.data.toList.drop 48 = dktX5_areAlike_2 := dk_seg dksX5_areAlike_1 24 rfl rfl
theorem dksX5_areAlike_3 : cX5_areAlike.data.toList.drop 70 = dktX5_areAlike_3 := dk_seg dksX5_areAlike_2 22 rfl rfl
theorem dX5_areAlike_0 : decode cX5_areAlike 0 = .ok (.iconst 1, 1) := dk_4 (dk_at dksX5_areAlike_0 0 rfl rfl)
theorem dX5_areAlike_1 : decode cX5_areAlike 1 = .ok (.istore_n 3, 1) := dk_62 (dk_at dksX5_areAlike_0 1 rfl rfl)
theorem dX5_areAlike_2 : decode cX5_areAlike 2 = .ok (.iconst 0, 1) := dk_3 (dk_at dksX5_areAlike_0 2 rfl rfl)
theorem dX5_areAlike_3 : decode cX5_areAlike 3 = .ok (.istore 4, 2) := dk_54 4 (dk_at dksX5_areAlike_0 3 rfl rfl)
theorem dX5_areAlike_5 : decode cX5_areAlike 5 = .ok (.iload 4, 2) := dk_21 4 (dk_at dksX5_areAlike_0 5 rfl rfl)
theorem dX5_areAlike_7 : decode cX5_areAlike 7 = .ok (.iconst 4, 1) := dk_7 (dk_at dksX5_areAlike_0 7 rfl rfl)
theorem dX5_areAlike_8 : decode cX5_areAlike 8 = .ok (.if_icmp .ge 77, 3) := dk_162 0 77 (dk_at dksX5_areAlike_0 8 rfl rfl)
theorem dX5_areAlike_11 : decode cX5_areAlike 11 = .ok (.aload_n 0, 1) := dk_42 (dk_at dksX5_areAlike_0 11 rfl rfl)
theorem dX5_areAlike_12 : decode cX5_areAlike 12 = .ok (.getfield 7, 3) := dk_180 0 7 (dk_at dksX5_areAlike_0 12 rfl rfl)
theorem dX5_areAlike_15 : decode cX5_areAlike 15 = .ok (.bipush 12, 2) := dk_16 12 (dk_at dksX5_areAlike_0 15 rfl rfl)
theorem dX5_areAlike_17 : decode cX5_areAlike 17 = .ok (.iload_n 1, 1) := dk_27 (dk_at dksX5_areAlike_0 17 rfl rfl)
theorem dX5_areAlike_18 : decode cX5_areAlike 18 = .ok (.iadd, 1) := dk_96 (dk_at dksX5_areAlike_0 18 rfl rfl)
theorem dX5_areAlike_19 : decode cX5_areAlike 19 = .ok (.iaload, 1) := dk_46 (dk_at dksX5_areAlike_0 19 rfl rfl)
theorem dX5_areAlike_20 : decode cX5_areAlike 20 = .ok (.aload_n 0, 1) := dk_42 (dk_at dksX5_areAlike_0 20 rfl rfl)
theorem dX5_areAlike_21 : decode cX5_areAlike 21 = .ok (.getfield 7, 3) := dk_180 0 7 (dk_at dksX5_areAlike_0 21 rfl rfl)
theorem dX5_areAlike_24 : decode cX5_areAlike 24 = .ok (.iconst 0, 1) := dk_3 (dk_at dksX5_areAlike_1 0 rfl rfl)
theorem dX5_areAlike_25 : decode cX5_areAlike 25 = .ok (.iload_n 1, 1) := dk_27 (dk_at dksX5_areAlike_1 1 rfl rfl)
theorem dX5_areAlike_26 : decode cX5_areAlike 26 = .ok (.iadd, 1) := dk_96 (dk_at dksX5_areAlike_1 2 rfl rfl)
theorem dX5_areAlike_27 : decode cX5_areAlike 27 = .ok (.iaload, 1) := dk_46 (dk_at dksX5_areAlike_1 3 rfl rfl)
theorem dX5_areAlike_28 : decode cX5_areAlike 28 = .ok (.iload 4, 2) := dk_21 4 (dk_at dksX5_areAlike_1 4 rfl rfl)
theorem dX5_areAlike_30 : decode cX5_areAlike 30 = .ok (.invokestatic 135, 3) := dk_184 0 135 (dk_at dksX5_areAlike_1 6 rfl rfl)
theorem dX5_areAlike_33 : decode cX5_areAlike 33 = .ok (.aload_n 0, 1) := dk_42 (dk_at dksX5_areAlike_1 9 rfl rfl)
theorem dX5_areAlike_34 : decode cX5_areAlike 34 = .ok (.getfield 7, 3) := dk_180 0 7 (dk_at dksX5_areAlike_1 10 rfl rfl)
theorem dX5_areAlike_37 : decode cX5_areAlike 37 = .ok (.bipush 12, 2) := dk_16 12 (dk_at dksX5_areAlike_1 13 rfl rfl)
theorem dX5_areAlike_39 : decode cX5_areAlike 39 = .ok (.iload_n 2, 1) := dk_28 (dk_at dksX5_areAlike_1 15 rfl rfl)
theorem dX5_areAlike_40 : decode cX5_areAlike 40 = .ok (.iadd, 1) := dk_96 (dk_at dksX5_areAlike_1 16 rfl rfl)
theorem dX5_areAlike_41 : decode cX5_areAlike 41 = .ok (.iaload, 1) := dk_46 (dk_at dksX5_areAlike_1 17 rfl rfl)
theorem dX5_areAlike_42 : decode cX5_areAlike 42 = .ok (.aload_n 0, 1) := dk_42 (dk_at dksX5_areAlike_1 18 rfl rfl)
theorem dX5_areAlike_43 : decode cX5_areAlike 43 = .ok (.getfield 7, 3) := dk_180 0 7 (dk_at dksX5_areAlike_1 19 rfl rfl)
theorem dX5_areAlike_46 : decode cX5_areAlike 46 = .ok (.iconst 0, 1) := dk_3 (dk_at dksX5_areAlike_1 22 rfl rfl)
theorem dX5_areAlike_47 : decode cX5_areAlike 47 = .ok (.iload_n 2, 1) := dk_28 (dk_at dksX5_areAlike_1 23 rfl rfl)
theorem dX5_areAlike_48 : decode cX5_areAlike 48 = .ok (.iadd, 1) := dk_96 (dk_at dksX5_areAlike_2 0 rfl rfl)
theorem dX5_areAlike_49 : decode cX5_areAlike 49 = .ok (.iaload, 1) := dk_46 (dk_at dksX5_areAlike_2 1 rfl rfl)
theorem dX5_areAlike_50 : decode cX5_areAlike 50 = .ok (.iload 4, 2) := dk_21 4 (dk_at dksX5_areAlike_2 2 rfl rfl)
theorem dX5_areAlike_52 : decode cX5_areAlike 52 = .ok (.invokestatic 135, 3) := dk_184 0 135 (dk_at dksX5_areAlike_2 4 rfl rfl)
theorem dX5_areAlike_55 : decode cX5_areAlike 55 = .ok (.isub, 1) := dk_100 (dk_at dksX5_areAlike_2 7 rfl rfl)
theorem dX5_areAlike_56 : decode cX5_areAlike 56 = .ok (.istore 5, 2) := dk_54 5 (dk_at dksX5_areAlike_2 8 rfl rfl)
theorem dX5_areAlike_58 : decode cX5_areAlike 58 = .ok (.iload_n 3, 1) := dk_29 (dk_at dksX5_areAlike_2 10 rfl rfl)
theorem dX5_areAlike_59 : decode cX5_areAlike 59 = .ok (.ifCond .eq 18, 3) := dk_153 0 18 (dk_at dksX5_areAlike_2 11 rfl rfl)
theorem dX5_areAlike_62 : decode cX5_areAlike 62 = .ok (.iload 5, 2) := dk_21 5 (dk_at dksX5_areAlike_2 14 rfl rfl)
theorem dX5_areAlike_64 : decode cX5_areAlike 64 = .ok (.bipush (-2), 2) := dk_16 254 (dk_at dksX5_areAlike_2 16 rfl rfl)
theorem dX5_areAlike_66 : decode cX5_areAlike 66 = .ok (.iconst 2, 1) := dk_5 (dk_at dksX5_areAlike_2 18 rfl rfl)
theorem dX5_areAlike_67 : decode cX5_areAlike 67 = .ok (.invokestatic 51, 3) := dk_184 0 51 (dk_at dksX5_areAlike_2 19 rfl rfl)
theorem dX5_areAlike_70 : decode cX5_areAlike 70 = .ok (.ifCond .eq 7, 3) := dk_153 0 7 (dk_at dksX5_areAlike_3 0 rfl rfl)
theorem dX5_areAlike_73 : decode cX5_areAlike 73 = .ok (.iconst 1, 1) := dk_4 (dk_at dksX5_areAlike_3 3 rfl rfl)
theorem dX5_areAlike_74 : decode cX5_areAlike 74 = .ok (.goto 4, 3) := dk_167 0 4 (dk_at dksX5_areAlike_3 4 rfl rfl)
theorem dX5_areAlike_77 : decode cX5_areAlike 77 = .ok (.iconst 0, 1) := dk_3 (dk_at dksX5_areAlike_3 7 rfl rfl)
theorem dX5_areAlike_78 : decode cX5_areAlike 78 = .ok (.istore_n 3, 1) := dk_62 (dk_at dksX5_areAlike_3 8 rfl rfl)
theorem dX5_areAlike_79 : decode cX5_areAlike 79 = .ok (.iinc 4 1, 3) := dk_132 4 1 (dk_at dksX5_areAlike_3 9 rfl rfl)
theorem dX5_areAlike_82 : decode cX5_areAlike 82 = .ok (.goto (-77), 3) := dk_167 255 179 (dk_at dksX5_areAlike_3 12 rfl rfl)
theorem dX5_areAlike_85 : decode cX5_areAlike 85 = .ok (.iload_n 3, 1) := dk_29 (dk_at dksX5_areAlike_3 15 rfl rfl)
theorem dX5_areAlike_86 : decode cX5_areAlike 86 = .ok (.ireturn, 1) := dk_172 (dk_at dksX5_areAlike_3 16 rfl rfl)
abbrev cX5_heard : ByteArray := prog_20_method_59_code
def yX5_heard : MethodName := ⟨RX5, "heard", "(II)I"⟩
def dkwX5_heard_3 : List UInt8 := [29, 4, 96, 28, 79, 42, 180, 0, 7, 16, 35, 92, 46, 4, 96, 79, 42, 180, 0, 7, 16, 35, 46, 172]
abbrev dktX5_heard_3 : List UInt8 := dkwX5_heard_3 ++ []
def dkwX5_heard_2 : List UInt8 := [16, 36, 5, 42, 180, 0, 7, 16, 35, 46, 104, 96, 62, 42, 180, 0, 7, 29, 27, 79, 42, 180, 0, 7]
abbrev dktX5_heard_2 : List UInt8 := dkwX5_heard_2 ++ dktX5_heard_3
def dkwX5_heard_1 : List UInt8 := [182, 0, 55, 172, 42, 180, 0, 7, 16, 35, 46, 16, 6, 160, 0, 10, 42, 16, 252, 182, 0, 55, 172]
abbrev dktX5_heard_1 : List UInt8 := dkwX5_heard_1 ++ dktX5_heard_2
def dkwX5_heard_0 : List UInt8 := [27, 3, 16, 99, 184, 0, 51, 153, 0, 12, 28, 3, 4, 184, 0, 51, 154, 0, 10, 42, 16, 254]
abbrev dktX5_heard_0 : List UInt8 := dkwX5_heard_0 ++ dktX5_heard_1
theorem dksX5_heard_0 : cX5_heard.data.toList.drop 0 = dktX5_heard_0 := by decide +kernel
theorem dksX5_heard_1 : cX5_heard.data.toList.drop 22 = dktX5_heard_1 := dk_seg dksX5_heard_0 22 rfl rfl
theorem dksX5_heard_2 : cX5_heard.data.toList.drop 45 = dktX5_heard_2 := dk_seg dksX5_heard_1 23 rfl rfl
theorem dksX5_heard_3 : cX5_heard.data.toList.drop 69 = dktX5_heard_3 := dk_seg dksX5_heard_2 24 rfl rfl
theorem dX5_heard_0 : decode cX5_heard 0 = .ok (.iload_n 1, 1) := dk_27 (dk_at dksX5_heard_0 0 rfl rfl)
theorem dX5_heard_1 : decode cX5_heard 1 = .ok (.iconst 0, 1) := dk_3 (dk_at dksX5_heard_0 1 rfl rfl)
theorem dX5_heard_2 : decode cX5_heard 2 = .ok (.bipush 99, 2) := dk_16 99 (dk_at dksX5_heard_0 2 rfl rfl)
theorem dX5_heard_4 : decode cX5_heard 4 = .ok (.invokestatic 51, 3) := dk_184 0 51 (dk_at dksX5_heard_0 4 rfl rfl)
theorem dX5_heard_7 : decode cX5_heard 7 = .ok (.ifCond .eq 12, 3) := dk_153 0 12 (dk_at dksX5_heard_0 7 rfl rfl)
theorem dX5_heard_10 : decode cX5_heard 10 = .ok (.iload_n 2, 1) := dk_28 (dk_at dksX5_heard_0 10 rfl rfl)
theorem dX5_heard_11 : decode cX5_heard 11 = .ok (.iconst 0, 1) := dk_3 (dk_at dksX5_heard_0 11 rfl rfl)
theorem dX5_heard_12 : decode cX5_heard 12 = .ok (.iconst 1, 1) := dk_4 (dk_at dksX5_heard_0 12 rfl rfl)
theorem dX5_heard_13 : decode cX5_heard 13 = .ok (.invokestatic 51, 3) := dk_184 0 51 (dk_at dksX5_heard_0 13 rfl rfl)
theorem dX5_heard_16 : decode cX5_heard 16 = .ok (.ifCond .ne 10, 3) := dk_154 0 10 (dk_at dksX5_heard_0 16 rfl rfl)
theorem dX5_heard_19 : decode cX5_heard 19 = .ok (.aload_n 0, 1) := dk_42 (dk_at dksX5_heard_0 19 rfl rfl)
theorem dX5_heard_20 : decode cX5_heard 20 = .ok (.bipush (-2), 2) := dk_16 254 (dk_at dksX5_heard_0 20 rfl rfl)
theorem dX5_heard_22 : decode cX5_heard 22 = .ok (.invokevirtual 55, 3) := dk_182 0 55 (dk_at dksX5_heard_1 0 rfl rfl)
theorem dX5_heard_25 : decode cX5_heard 25 = .ok (.ireturn, 1) := dk_172 (dk_at dksX5_heard_1 3 rfl rfl)
theorem dX5_heard_26 : decode cX5_heard 26 = .ok (.aload_n 0, 1) := dk_42 (dk_at dksX5_heard_1 4 rfl rfl)
theorem dX5_heard_27 : decode cX5_heard 27 = .ok (.getfield 7, 3) := dk_180 0 7 (dk_at dksX5_heard_1 5 rfl rfl)
theorem dX5_heard_30 : decode cX5_heard 30 = .ok (.bipush 35, 2) := dk_16 35 (dk_at dksX5_heard_1 8 rfl rfl)
theorem dX5_heard_32 : decode cX5_heard 32 = .ok (.iaload, 1) := dk_46 (dk_at dksX5_heard_1 10 rfl rfl)
theorem dX5_heard_33 : decode cX5_heard 33 = .ok (.bipush 6, 2) := dk_16 6 (dk_at dksX5_heard_1 11 rfl rfl)
theorem dX5_heard_35 : decode cX5_heard 35 = .ok (.if_icmp .ne 10, 3) := dk_160 0 10 (dk_at dksX5_heard_1 13 rfl rfl)
theorem dX5_heard_38 : decode cX5_heard 38 = .ok (.aload_n 0, 1) := dk_42 (dk_at dksX5_heard_1 16 rfl rfl)
theorem dX5_heard_39 : decode cX5_heard 39 = .ok (.bipush (-4), 2) := dk_16 252 (dk_at dksX5_heard_1 17 rfl rfl)
theorem dX5_heard_41 : decode cX5_heard 41 = .ok (.invokevirtual 55, 3) := dk_182 0 55 (dk_at dksX5_heard_1 19 rfl rfl)
theorem dX5_heard_44 : decode cX5_heard 44 = .ok (.ireturn, 1) := dk_172 (dk_at dksX5_heard_1 22 rfl rfl)
theorem dX5_heard_45 : decode cX5_heard 45 = .ok (.bipush 36, 2) := dk_16 36 (dk_at dksX5_heard_2 0 rfl rfl)
theorem dX5_heard_47 : decode cX5_heard 47 = .ok (.iconst 2, 1) := dk_5 (dk_at dksX5_heard_2 2 rfl rfl)
theorem dX5_heard_48 : decode cX5_heard 48 = .ok (.aload_n 0, 1) := dk_42 (dk_at dksX5_heard_2 3 rfl rfl)
theorem dX5_heard_49 : decode cX5_heard 49 = .ok (.getfield 7, 3) := dk_180 0 7 (dk_at dksX5_heard_2 4 rfl rfl)
theorem dX5_heard_52 : decode cX5_heard 52 = .ok (.bipush 35, 2) := dk_16 35 (dk_at dksX5_heard_2 7 rfl rfl)
theorem dX5_heard_54 : decode cX5_heard 54 = .ok (.iaload, 1) := dk_46 (dk_at dksX5_heard_2 9 rfl rfl)
theorem dX5_heard_55 : decode cX5_heard 55 = .ok (.imul, 1) := dk_104 (dk_at dksX5_heard_2 10 rfl rfl)
theorem dX5_heard_56 : decode cX5_heard 56 = .ok (.iadd, 1) := dk_96 (dk_at dksX5_heard_2 11 rfl rfl)
theorem dX5_heard_57 : decode cX5_heard 57 = .ok (.istore_n 3, 1) := dk_62 (dk_at dksX5_heard_2 12 rfl rfl)
theorem dX5_heard_58 : decode cX5_heard 58 = .ok (.aload_n 0, 1) := dk_42 (dk_at dksX5_heard_2 13 rfl rfl)
theorem dX5_heard_59 : decode cX5_heard 59 = .ok (.getfield 7, 3) := dk_180 0 7 (dk_at dksX5_heard_2 14 rfl rfl)
theorem dX5_heard_62 : decode cX5_heard 62 = .ok (.iload_n 3, 1) := dk_29 (dk_at dksX5_heard_2 17 rfl rfl)
theorem dX5_heard_63 : decode cX5_heard 63 = .ok (.iload_n 1, 1) := dk_27 (dk_at dksX5_heard_2 18 rfl rfl)
theorem dX5_heard_64 : decode cX5_heard 64 = .ok (.iastore, 1) := dk_79 (dk_at dksX5_heard_2 19 rfl rfl)
theorem dX5_heard_65 : decode cX5_heard 65 = .ok (.aload_n 0, 1) := dk_42 (dk_at dksX5_heard_2 20 rfl rfl)
theorem dX5_heard_66 : decode cX5_heard 66 = .ok (.getfield 7, 3) := dk_180 0 7 (dk_at dksX5_heard_2 21 rfl rfl)
theorem dX5_heard_69 : decode cX5_heard 69 = .ok (.iload_n 3, 1) := dk_29 (dk_at dksX5_heard_3 0 rfl rfl)
theorem dX5_heard_70 : decode cX5_heard 70 = .ok (.iconst 1, 1) := dk_4 (dk_at dksX5_heard_3 1 rfl rfl)
theorem dX5_heard_71 : decode cX5_heard 71 = .ok (.iadd, 1) := dk_96 (dk_at dksX5_heard_3 2 rfl rfl)
theorem dX5_heard_72 : decode cX5_heard 72 = .ok (.iload_n 2, 1) := dk_28 (dk_at dksX5_heard_3 3 rfl rfl)
theorem dX5_heard_73 : decode cX5_heard 73 = .ok (.iastore, 1) := dk_79 (dk_at dksX5_heard_3 4 rfl rfl)
theorem dX5_heard_74 : decode cX5_heard 74 = .ok (.aload_n 0, 1) := dk_42 (dk_at dksX5_heard_3 5 rfl rfl)
theorem dX5_heard_75 : decode cX5_heard 75 = .ok (.getfield 7, 3) := dk_180 0 7 (dk_at dksX5_heard_3 6 rfl rfl)
theorem dX5_heard_78 : decode cX5_heard 78 = .ok (.bipush 35, 2) := dk_16 35 (dk_at dksX5_heard_3 9 rfl rfl)
theorem dX5_heard_80 : decode cX5_heard 80 = .ok (.dup2, 1) := dk_92 (dk_at dksX5_heard_3 11 rfl rfl)
theorem dX5_heard_81 : decode cX5_heard 81 = .ok (.iaload, 1) := dk_46 (dk_at dksX5_heard_3 12 rfl rfl)
theorem dX5_heard_82 : decode cX5_heard 82 = .ok (.iconst 1, 1) := dk_4 (dk_at dksX5_heard_3 13 rfl rfl)
theorem dX5_heard_83 : decode cX5_heard 83 = .ok (.iadd, 1) := dk_96 (dk_at dksX5_heard_3 14 rfl rfl)
theorem dX5_heard_84 : decode cX5_heard 84 = .ok (.iastore, 1) := dk_79 (dk_at dksX5_heard_3 15 rfl rfl)
theorem dX5_heard_85 : decode cX5_heard 85 = .ok (.aload_n 0, 1) := dk_42 (dk_at dksX5_heard_3 16 rfl rfl)
theorem dX5_heard_86 : decode cX5_heard 86 = .ok (.getfield 7, 3) := dk_180 0 7 (dk_at dksX5_heard_3 17 rfl rfl)
theorem dX5_heard_89 : decode cX5_heard 89 = .ok (.bipush 35, 2) := dk_16 35 (dk_at dksX5_heard_3 20 rfl rfl)
theorem dX5_heard_91 : decode cX5_heard 91 = .ok (.iaload, 1) := dk_46 (dk_at dksX5_heard_3 22 rfl rfl)
theorem dX5_heard_92 : decode cX5_heard 92 = .ok (.ireturn, 1) := dk_172 (dk_at dksX5_heard_3 23 rfl rfl)
abbrev cX5_lanes : ByteArray := prog_20_method_61_code
def yX5_lanes : MethodName := ⟨RX5, "lanes", "()I"⟩
def dkwX5_lanes_1 : List UInt8 := [120, 167, 0, 4, 3, 128, 60, 132, 2, 1, 167, 255, 226, 27, 172]
abbrev dktX5_lanes_1 : List UInt8 := dkwX5_lanes_1 ++ []
def dkwX5_lanes_0 : List UInt8 := [3, 60, 7, 61, 28, 16, 31, 162, 0, 30, 27, 42, 3, 28, 182, 0, 195, 153, 0, 11, 4, 28, 7, 100]
abbrev dktX5_lanes_0 : List UInt8 := dkwX5_lanes_0 ++ dktX5_lanes_1
theorem dksX5_lanes_0 : cX5_lanes.data.toList.drop 0 = dktX5_lanes_0 := by decide +kernel
theorem dksX5_lanes_1 : cX5_lanes.data.toList.drop 24 = dktX5_lanes_1 := dk_seg dksX5_lanes_0 24 rfl rfl
theorem dX5_lanes_0 : decode cX5_lanes 0 = .ok (.iconst 0, 1) := dk_3 (dk_at dksX5_lanes_0 0 rfl rfl)
theorem dX5_lanes_1 : decode cX5_lanes 1 = .ok (.istore_n 1, 1) := dk_60 (dk_at dksX5_lanes_0 1 rfl rfl)
theorem dX5_lanes_2 : decode cX5_lanes 2 = .ok (.iconst 4, 1) := dk_7 (dk_at dksX5_lanes_0 2 rfl rfl)
theorem dX5_lanes_3 : decode cX5_lanes 3 = .ok (.istore_n 2, 1) := dk_61 (dk_at dksX5_lanes_0 3 rfl rfl)
theorem dX5_lanes_4 : decode cX5_lanes 4 = .ok (.iload_n 2, 1) := dk_28 (dk_at dksX5_lanes_0 4 rfl rfl)
theorem dX5_lanes_5 : decode cX5_lanes 5 = .ok (.bipush 31, 2) := dk_16 31 (dk_at dksX5_lanes_0 5 rfl rfl)
theorem dX5_lanes_7 : decode cX5_lanes 7 = .ok (.if_icmp .ge 30, 3) := dk_162 0 30 (dk_at dksX5_lanes_0 7 rfl rfl)
theorem dX5_lanes_10 : decode cX5_lanes 10 = .ok (.iload_n 1, 1) := dk_27 (dk_at dksX5_lanes_0 10 rfl rfl)
theorem dX5_lanes_11 : decode cX5_lanes 11 = .ok (.aload_n 0, 1) := dk_42 (dk_at dksX5_lanes_0 11 rfl rfl)
theorem dX5_lanes_12 : decode cX5_lanes 12 = .ok (.iconst 0, 1) := dk_3 (dk_at dksX5_lanes_0 12 rfl rfl)
theorem dX5_lanes_13 : decode cX5_lanes 13 = .ok (.iload_n 2, 1) := dk_28 (dk_at dksX5_lanes_0 13 rfl rfl)
theorem dX5_lanes_14 : decode cX5_lanes 14 = .ok (.invokevirtual 195, 3) := dk_182 0 195 (dk_at dksX5_lanes_0 14 rfl rfl)
theorem dX5_lanes_17 : decode cX5_lanes 17 = .ok (.ifCond .eq 11, 3) := dk_153 0 11 (dk_at dksX5_lanes_0 17 rfl rfl)
theorem dX5_lanes_20 : decode cX5_lanes 20 = .ok (.iconst 1, 1) := dk_4 (dk_at dksX5_lanes_0 20 rfl rfl)
theorem dX5_lanes_21 : decode cX5_lanes 21 = .ok (.iload_n 2, 1) := dk_28 (dk_at dksX5_lanes_0 21 rfl rfl)
theorem dX5_lanes_22 : decode cX5_lanes 22 = .ok (.iconst 4, 1) := dk_7 (dk_at dksX5_lanes_0 22 rfl rfl)
theorem dX5_lanes_23 : decode cX5_lanes 23 = .ok (.isub, 1) := dk_100 (dk_at dksX5_lanes_0 23 rfl rfl)
theorem dX5_lanes_24 : decode cX5_lanes 24 = .ok (.ishl, 1) := dk_120 (dk_at dksX5_lanes_1 0 rfl rfl)
theorem dX5_lanes_25 : decode cX5_lanes 25 = .ok (.goto 4, 3) := dk_167 0 4 (dk_at dksX5_lanes_1 1 rfl rfl)
theorem dX5_lanes_28 : decode cX5_lanes 28 = .ok (.iconst 0, 1) := dk_3 (dk_at dksX5_lanes_1 4 rfl rfl)
theorem dX5_lanes_29 : decode cX5_lanes 29 = .ok (.ior, 1) := dk_128 (dk_at dksX5_lanes_1 5 rfl rfl)
theorem dX5_lanes_30 : decode cX5_lanes 30 = .ok (.istore_n 1, 1) := dk_60 (dk_at dksX5_lanes_1 6 rfl rfl)
theorem dX5_lanes_31 : decode cX5_lanes 31 = .ok (.iinc 2 1, 3) := dk_132 2 1 (dk_at dksX5_lanes_1 7 rfl rfl)
theorem dX5_lanes_34 : decode cX5_lanes 34 = .ok (.goto (-30), 3) := dk_167 255 226 (dk_at dksX5_lanes_1 10 rfl rfl)
theorem dX5_lanes_37 : decode cX5_lanes 37 = .ok (.iload_n 1, 1) := dk_27 (dk_at dksX5_lanes_1 13 rfl rfl)
theorem dX5_lanes_38 : decode cX5_lanes 38 = .ok (.ireturn, 1) := dk_172 (dk_at dksX5_lanes_1 14 rfl rfl)
abbrev cX5_isHeardSo : ByteArray := prog_20_method_60_code
def yX5_isHeardSo : MethodName := ⟨RX5, "isHeardSo", "(II)Z"⟩
def dkwX5_isHeardSo_3 : List UInt8 := [160, 0, 7, 4, 167, 0, 4, 3, 62, 132, 4, 1, 167, 255, 178, 29, 172]
abbrev dktX5_isHeardSo_3 : List UInt8 := dkwX5_isHeardSo_3 ++ []
def dkwX5_isHeardSo_2 : List UInt8 := [42, 180, 0, 7, 16, 36, 5, 21, 4, 104, 96, 4, 96, 46, 4, 160, 0, 7, 4, 167, 0, 4, 3]
abbrev dktX5_isHeardSo_2 : List UInt8 := dkwX5_isHeardSo_2 ++ dktX5_isHeardSo_3
def dkwX5_isHeardSo_1 : List UInt8 := [42, 180, 0, 7, 16, 36, 5, 21, 4, 104, 96, 46, 2, 182, 0, 149, 158, 0, 7, 4, 167, 0, 4, 3]
abbrev dktX5_isHeardSo_1 : List UInt8 := dkwX5_isHeardSo_1 ++ dktX5_isHeardSo_2
def dkwX5_isHeardSo_0 : List UInt8 := [4, 62, 3, 54, 4, 21, 4, 42, 180, 0, 7, 16, 35, 46, 162, 0, 72, 29, 153, 0, 68, 42, 27, 28]
abbrev dktX5_isHeardSo_0 : List UInt8 := dkwX5_isHeardSo_0 ++ dktX5_isHeardSo_1
theorem dksX5_isHeardSo_0 : cX5_isHeardSo.data.toList.drop 0 = dktX5_isHeardSo_0 := by decide +kernel
theorem dksX5_isHeardSo_1 : cX5_isHeardSo.data.toList.drop 24 = dktX5_isHeardSo_1 := dk_seg dksX5_isHeardSo_0 24 rfl rfl
theorem dksX5_isHeardSo_2 : cX5_isHeardSo.data.toList.drop 48 = dktX5_isHeardSo_2 := dk_seg dksX5_isHeardSo_1 24 rfl rfl
theorem dksX5_isHeardSo_3 : cX5_isHeardSo.data.toList.drop 71 = dktX5_isHeardSo_3 := dk_seg dksX5_isHeardSo_2 23 rfl rfl
theorem dX5_isHeardSo_0 : decode cX5_isHeardSo 0 = .ok (.iconst 1, 1) := dk_4 (dk_at dksX5_isHeardSo_0 0 rfl rfl)
theorem dX5_isHeardSo_1 : decode cX5_isHeardSo 1 = .ok (.istore_n 3, 1) := dk_62 (dk_at dksX5_isHeardSo_0 1 rfl rfl)
theorem dX5_isHeardSo_2 : decode cX5_isHeardSo 2 = .ok (.iconst 0, 1) := dk_3 (dk_at dksX5_isHeardSo_0 2 rfl rfl)
theorem dX5_isHeardSo_3 : decode cX5_isHeardSo 3 = .ok (.istore 4, 2) := dk_54 4 (dk_at dksX5_isHeardSo_0 3 rfl rfl)
theorem dX5_isHeardSo_5 : decode cX5_isHeardSo 5 = .ok (.iload 4, 2) := dk_21 4 (dk_at dksX5_isHeardSo_0 5 rfl rfl)
theorem dX5_isHeardSo_7 : decode cX5_isHeardSo 7 = .ok (.aload_n 0, 1) := dk_42 (dk_at dksX5_isHeardSo_0 7 rfl rfl)
theorem dX5_isHeardSo_8 : decode cX5_isHeardSo 8 = .ok (.getfield 7, 3) := dk_180 0 7 (dk_at dksX5_isHeardSo_0 8 rfl rfl)
theorem dX5_isHeardSo_11 : decode cX5_isHeardSo 11 = .ok (.bipush 35, 2) := dk_16 35 (dk_at dksX5_isHeardSo_0 11 rfl rfl)
theorem dX5_isHeardSo_13 : decode cX5_isHeardSo 13 = .ok (.iaload, 1) := dk_46 (dk_at dksX5_isHeardSo_0 13 rfl rfl)
theorem dX5_isHeardSo_14 : decode cX5_isHeardSo 14 = .ok (.if_icmp .ge 72, 3) := dk_162 0 72 (dk_at dksX5_isHeardSo_0 14 rfl rfl)
theorem dX5_isHeardSo_17 : decode cX5_isHeardSo 17 = .ok (.iload_n 3, 1) := dk_29 (dk_at dksX5_isHeardSo_0 17 rfl rfl)
theorem dX5_isHeardSo_18 : decode cX5_isHeardSo 18 = .ok (.ifCond .eq 68, 3) := dk_153 0 68 (dk_at dksX5_isHeardSo_0 18 rfl rfl)
theorem dX5_isHeardSo_21 : decode cX5_isHeardSo 21 = .ok (.aload_n 0, 1) := dk_42 (dk_at dksX5_isHeardSo_0 21 rfl rfl)
theorem dX5_isHeardSo_22 : decode cX5_isHeardSo 22 = .ok (.iload_n 1, 1) := dk_27 (dk_at dksX5_isHeardSo_0 22 rfl rfl)
theorem dX5_isHeardSo_23 : decode cX5_isHeardSo 23 = .ok (.iload_n 2, 1) := dk_28 (dk_at dksX5_isHeardSo_0 23 rfl rfl)
theorem dX5_isHeardSo_24 : decode cX5_isHeardSo 24 = .ok (.aload_n 0, 1) := dk_42 (dk_at dksX5_isHeardSo_1 0 rfl rfl)
theorem dX5_isHeardSo_25 : decode cX5_isHeardSo 25 = .ok (.getfield 7, 3) := dk_180 0 7 (dk_at dksX5_isHeardSo_1 1 rfl rfl)
theorem dX5_isHeardSo_28 : decode cX5_isHeardSo 28 = .ok (.bipush 36, 2) := dk_16 36 (dk_at dksX5_isHeardSo_1 4 rfl rfl)
theorem dX5_isHeardSo_30 : decode cX5_isHeardSo 30 = .ok (.iconst 2, 1) := dk_5 (dk_at dksX5_isHeardSo_1 6 rfl rfl)
theorem dX5_isHeardSo_31 : decode cX5_isHeardSo 31 = .ok (.iload 4, 2) := dk_21 4 (dk_at dksX5_isHeardSo_1 7 rfl rfl)
theorem dX5_isHeardSo_33 : decode cX5_isHeardSo 33 = .ok (.imul, 1) := dk_104 (dk_at dksX5_isHeardSo_1 9 rfl rfl)
theorem dX5_isHeardSo_34 : decode cX5_isHeardSo 34 = .ok (.iadd, 1) := dk_96 (dk_at dksX5_isHeardSo_1 10 rfl rfl)
theorem dX5_isHeardSo_35 : decode cX5_isHeardSo 35 = .ok (.iaload, 1) := dk_46 (dk_at dksX5_isHeardSo_1 11 rfl rfl)
theorem dX5_isHeardSo_36 : decode cX5_isHeardSo 36 = .ok (.iconst (-1), 1) := dk_2 (dk_at dksX5_isHeardSo_1 12 rfl rfl)
theorem dX5_isHeardSo_37 : decode cX5_isHeardSo 37 = .ok (.invokevirtual 149, 3) := dk_182 0 149 (dk_at dksX5_isHeardSo_1 13 rfl rfl)
theorem dX5_isHeardSo_40 : decode cX5_isHeardSo 40 = .ok (.ifCond .le 7, 3) := dk_158 0 7 (dk_at dksX5_isHeardSo_1 16 rfl rfl)
theorem dX5_isHeardSo_43 : decode cX5_isHeardSo 43 = .ok (.iconst 1, 1) := dk_4 (dk_at dksX5_isHeardSo_1 19 rfl rfl)
theorem dX5_isHeardSo_44 : decode cX5_isHeardSo 44 = .ok (.goto 4, 3) := dk_167 0 4 (dk_at dksX5_isHeardSo_1 20 rfl rfl)
theorem dX5_isHeardSo_47 : decode cX5_isHeardSo 47 = .ok (.iconst 0, 1) := dk_3 (dk_at dksX5_isHeardSo_1 23 rfl rfl)
theorem dX5_isHeardSo_48 : decode cX5_isHeardSo 48 = .ok (.aload_n 0, 1) := dk_42 (dk_at dksX5_isHeardSo_2 0 rfl rfl)
theorem dX5_isHeardSo_49 : decode cX5_isHeardSo 49 = .ok (.getfield 7, 3) := dk_180 0 7 (dk_at dksX5_isHeardSo_2 1 rfl rfl)
theorem dX5_isHeardSo_52 : decode cX5_isHeardSo 52 = .ok (.bipush 36, 2) := dk_16 36 (dk_at dksX5_isHeardSo_2 4 rfl rfl)
theorem dX5_isHeardSo_54 : decode cX5_isHeardSo 54 = .ok (.iconst 2, 1) := dk_5 (dk_at dksX5_isHeardSo_2 6 rfl rfl)
theorem dX5_isHeardSo_55 : decode cX5_isHeardSo 55 = .ok (.iload 4, 2) := dk_21 4 (dk_at dksX5_isHeardSo_2 7 rfl rfl)
theorem dX5_isHeardSo_57 : decode cX5_isHeardSo 57 = .ok (.imul, 1) := dk_104 (dk_at dksX5_isHeardSo_2 9 rfl rfl)
theorem dX5_isHeardSo_58 : decode cX5_isHeardSo 58 = .ok (.iadd, 1) := dk_96 (dk_at dksX5_isHeardSo_2 10 rfl rfl)
theorem dX5_isHeardSo_59 : decode cX5_isHeardSo 59 = .ok (.iconst 1, 1) := dk_4 (dk_at dksX5_isHeardSo_2 11 rfl rfl)
theorem dX5_isHeardSo_60 : decode cX5_isHeardSo 60 = .ok (.iadd, 1) := dk_96 (dk_at dksX5_isHeardSo_2 12 rfl rfl)
theorem dX5_isHeardSo_61 : decode cX5_isHeardSo 61 = .ok (.iaload, 1) := dk_46 (dk_at dksX5_isHeardSo_2 13 rfl rfl)
theorem dX5_isHeardSo_62 : decode cX5_isHeardSo 62 = .ok (.iconst 1, 1) := dk_4 (dk_at dksX5_isHeardSo_2 14 rfl rfl)
theorem dX5_isHeardSo_63 : decode cX5_isHeardSo 63 = .ok (.if_icmp .ne 7, 3) := dk_160 0 7 (dk_at dksX5_isHeardSo_2 15 rfl rfl)
theorem dX5_isHeardSo_66 : decode cX5_isHeardSo 66 = .ok (.iconst 1, 1) := dk_4 (dk_at dksX5_isHeardSo_2 18 rfl rfl)
theorem dX5_isHeardSo_67 : decode cX5_isHeardSo 67 = .ok (.goto 4, 3) := dk_167 0 4 (dk_at dksX5_isHeardSo_2 19 rfl rfl)
theorem dX5_isHeardSo_70 : decode cX5_isHeardSo 70 = .ok (.iconst 0, 1) := dk_3 (dk_at dksX5_isHeardSo_2 22 rfl rfl)
theorem dX5_isHeardSo_71 : decode cX5_isHeardSo 71 = .ok (.if_icmp .ne 7, 3) := dk_160 0 7 (dk_at dksX5_isHeardSo_3 0 rfl rfl)
theorem dX5_isHeardSo_74 : decode cX5_isHeardSo 74 = .ok (.iconst 1, 1) := dk_4 (dk_at dksX5_isHeardSo_3 3 rfl rfl)
theorem dX5_isHeardSo_75 : decode cX5_isHeardSo 75 = .ok (.goto 4, 3) := dk_167 0 4 (dk_at dksX5_isHeardSo_3 4 rfl rfl)
theorem dX5_isHeardSo_78 : decode cX5_isHeardSo 78 = .ok (.iconst 0, 1) := dk_3 (dk_at dksX5_isHeardSo_3 7 rfl rfl)
theorem dX5_isHeardSo_79 : decode cX5_isHeardSo 79 = .ok (.istore_n 3, 1) := dk_62 (dk_at dksX5_isHeardSo_3 8 rfl rfl)
theorem dX5_isHeardSo_80 : decode cX5_isHeardSo 80 = .ok (.iinc 4 1, 3) := dk_132 4 1 (dk_at dksX5_isHeardSo_3 9 rfl rfl)
theorem dX5_isHeardSo_83 : decode cX5_isHeardSo 83 = .ok (.goto (-78), 3) := dk_167 255 178 (dk_at dksX5_isHeardSo_3 12 rfl rfl)
theorem dX5_isHeardSo_86 : decode cX5_isHeardSo 86 = .ok (.iload_n 3, 1) := dk_29 (dk_at dksX5_isHeardSo_3 15 rfl rfl)
theorem dX5_isHeardSo_87 : decode cX5_isHeardSo 87 = .ok (.ireturn, 1) := dk_172 (dk_at dksX5_isHeardSo_3 16 rfl rfl)
abbrev cX5_swung : ByteArray := prog_20_method_62_code
def yX5_swung : MethodName := ⟨RX5, "swung", "(I)I"⟩
def dkwX5_swung_3 : List UInt8 := [167, 255, 209, 28, 172]
abbrev dktX5_swung_3 : List UInt8 := dkwX5_swung_3 ++ []
def dkwX5_swung_2 : List UInt8 := [180, 0, 7, 16, 10, 46, 182, 0, 195, 153, 0, 9, 4, 29, 120, 167, 0, 4, 3, 128, 61, 132, 3, 1]
abbrev dktX5_swung_2 : List UInt8 := dkwX5_swung_2 ++ dktX5_swung_3
def dkwX5_swung_1 : List UInt8 := [16, 10, 162, 0, 47, 42, 180, 0, 7, 17, 2, 25, 27, 96, 29, 79, 28, 42, 17, 2, 25, 42]
abbrev dktX5_swung_1 : List UInt8 := dkwX5_swung_1 ++ dktX5_swung_2
def dkwX5_swung_0 : List UInt8 := [42, 27, 182, 0, 159, 154, 0, 10, 42, 16, 254, 182, 0, 55, 172, 42, 182, 0, 168, 3, 61, 3, 62, 29]
abbrev dktX5_swung_0 : List UInt8 := dkwX5_swung_0 ++ dktX5_swung_1
theorem dksX5_swung_0 : cX5_swung.data.toList.drop 0 = dktX5_swung_0 := by decide +kernel
theorem dksX5_swung_1 : cX5_swung.data.toList.drop 24 = dktX5_swung_1 := dk_seg dksX5_swung_0 24 rfl rfl
theorem dksX5_swung_2 : cX5_swung.data.toList.drop 46 = dktX5_swung_2 := dk_seg dksX5_swung_1 22 rfl rfl
theorem dksX5_swung_3 : cX5_swung.data.toList.drop 70 = dktX5_swung_3 := dk_seg dksX5_swung_2 24 rfl rfl
theorem dX5_swung_0 : decode cX5_swung 0 = .ok (.aload_n 0, 1) := dk_42 (dk_at dksX5_swung_0 0 rfl rfl)
theorem dX5_swung_1 : decode cX5_swung 1 = .ok (.iload_n 1, 1) := dk_27 (dk_at dksX5_swung_0 1 rfl rfl)
theorem dX5_swung_2 : decode cX5_swung 2 = .ok (.invokevirtual 159, 3) := dk_182 0 159 (dk_at dksX5_swung_0 2 rfl rfl)
theorem dX5_swung_5 : decode cX5_swung 5 = .ok (.ifCond .ne 10, 3) := dk_154 0 10 (dk_at dksX5_swung_0 5 rfl rfl)
theorem dX5_swung_8 : decode cX5_swung 8 = .ok (.aload_n 0, 1) := dk_42 (dk_at dksX5_swung_0 8 rfl rfl)
theorem dX5_swung_9 : decode cX5_swung 9 = .ok (.bipush (-2), 2) := dk_16 254 (dk_at dksX5_swung_0 9 rfl rfl)
theorem dX5_swung_11 : decode cX5_swung 11 = .ok (.invokevirtual 55, 3) := dk_182 0 55 (dk_at dksX5_swung_0 11 rfl rfl)
theorem dX5_swung_14 : decode cX5_swung 14 = .ok (.ireturn, 1) := dk_172 (dk_at dksX5_swung_0 14 rfl rfl)
theorem dX5_swung_15 : decode cX5_swung 15 = .ok (.aload_n 0, 1) := dk_42 (dk_at dksX5_swung_0 15 rfl rfl)
theorem dX5_swung_16 : decode cX5_swung 16 = .ok (.invokevirtual 168, 3) := dk_182 0 168 (dk_at dksX5_swung_0 16 rfl rfl)
theorem dX5_swung_19 : decode cX5_swung 19 = .ok (.iconst 0, 1) := dk_3 (dk_at dksX5_swung_0 19 rfl rfl)
theorem dX5_swung_20 : decode cX5_swung 20 = .ok (.istore_n 2, 1) := dk_61 (dk_at dksX5_swung_0 20 rfl rfl)
theorem dX5_swung_21 : decode cX5_swung 21 = .ok (.iconst 0, 1) := dk_3 (dk_at dksX5_swung_0 21 rfl rfl)
theorem dX5_swung_22 : decode cX5_swung 22 = .ok (.istore_n 3, 1) := dk_62 (dk_at dksX5_swung_0 22 rfl rfl)
theorem dX5_swung_23 : decode cX5_swung 23 = .ok (.iload_n 3, 1) := dk_29 (dk_at dksX5_swung_0 23 rfl rfl)
theorem dX5_swung_24 : decode cX5_swung 24 = .ok (.bipush 10, 2) := dk_16 10 (dk_at dksX5_swung_1 0 rfl rfl)
theorem dX5_swung_26 : decode cX5_swung 26 = .ok (.if_icmp .ge 47, 3) := dk_162 0 47 (dk_at dksX5_swung_1 2 rfl rfl)
theorem dX5_swung_29 : decode cX5_swung 29 = .ok (.aload_n 0, 1) := dk_42 (dk_at dksX5_swung_1 5 rfl rfl)
theorem dX5_swung_30 : decode cX5_swung 30 = .ok (.getfield 7, 3) := dk_180 0 7 (dk_at dksX5_swung_1 6 rfl rfl)
theorem dX5_swung_33 : decode cX5_swung 33 = .ok (.sipush 537, 3) := dk_17 2 25 (dk_at dksX5_swung_1 9 rfl rfl)
theorem dX5_swung_36 : decode cX5_swung 36 = .ok (.iload_n 1, 1) := dk_27 (dk_at dksX5_swung_1 12 rfl rfl)
theorem dX5_swung_37 : decode cX5_swung 37 = .ok (.iadd, 1) := dk_96 (dk_at dksX5_swung_1 13 rfl rfl)
theorem dX5_swung_38 : decode cX5_swung 38 = .ok (.iload_n 3, 1) := dk_29 (dk_at dksX5_swung_1 14 rfl rfl)
theorem dX5_swung_39 : decode cX5_swung 39 = .ok (.iastore, 1) := dk_79 (dk_at dksX5_swung_1 15 rfl rfl)
theorem dX5_swung_40 : decode cX5_swung 40 = .ok (.iload_n 2, 1) := dk_28 (dk_at dksX5_swung_1 16 rfl rfl)
theorem dX5_swung_41 : decode cX5_swung 41 = .ok (.aload_n 0, 1) := dk_42 (dk_at dksX5_swung_1 17 rfl rfl)
theorem dX5_swung_42 : decode cX5_swung 42 = .ok (.sipush 537, 3) := dk_17 2 25 (dk_at dksX5_swung_1 18 rfl rfl)
theorem dX5_swung_45 : decode cX5_swung 45 = .ok (.aload_n 0, 1) := dk_42 (dk_at dksX5_swung_1 21 rfl rfl)
theorem dX5_swung_46 : decode cX5_swung 46 = .ok (.getfield 7, 3) := dk_180 0 7 (dk_at dksX5_swung_2 0 rfl rfl)
theorem dX5_swung_49 : decode cX5_swung 49 = .ok (.bipush 10, 2) := dk_16 10 (dk_at dksX5_swung_2 3 rfl rfl)
theorem dX5_swung_51 : decode cX5_swung 51 = .ok (.iaload, 1) := dk_46 (dk_at dksX5_swung_2 5 rfl rfl)
theorem dX5_swung_52 : decode cX5_swung 52 = .ok (.invokevirtual 195, 3) := dk_182 0 195 (dk_at dksX5_swung_2 6 rfl rfl)
theorem dX5_swung_55 : decode cX5_swung 55 = .ok (.ifCond .eq 9, 3) := dk_153 0 9 (dk_at dksX5_swung_2 9 rfl rfl)
theorem dX5_swung_58 : decode cX5_swung 58 = .ok (.iconst 1, 1) := dk_4 (dk_at dksX5_swung_2 12 rfl rfl)
theorem dX5_swung_59 : decode cX5_swung 59 = .ok (.iload_n 3, 1) := dk_29 (dk_at dksX5_swung_2 13 rfl rfl)
theorem dX5_swung_60 : decode cX5_swung 60 = .ok (.ishl, 1) := dk_120 (dk_at dksX5_swung_2 14 rfl rfl)
theorem dX5_swung_61 : decode cX5_swung 61 = .ok (.goto 4, 3) := dk_167 0 4 (dk_at dksX5_swung_2 15 rfl rfl)
theorem dX5_swung_64 : decode cX5_swung 64 = .ok (.iconst 0, 1) := dk_3 (dk_at dksX5_swung_2 18 rfl rfl)
theorem dX5_swung_65 : decode cX5_swung 65 = .ok (.ior, 1) := dk_128 (dk_at dksX5_swung_2 19 rfl rfl)
theorem dX5_swung_66 : decode cX5_swung 66 = .ok (.istore_n 2, 1) := dk_61 (dk_at dksX5_swung_2 20 rfl rfl)
theorem dX5_swung_67 : decode cX5_swung 67 = .ok (.iinc 3 1, 3) := dk_132 3 1 (dk_at dksX5_swung_2 21 rfl rfl)
theorem dX5_swung_70 : decode cX5_swung 70 = .ok (.goto (-47), 3) := dk_167 255 209 (dk_at dksX5_swung_3 0 rfl rfl)
theorem dX5_swung_73 : decode cX5_swung 73 = .ok (.iload_n 2, 1) := dk_28 (dk_at dksX5_swung_3 3 rfl rfl)
theorem dX5_swung_74 : decode cX5_swung 74 = .ok (.ireturn, 1) := dk_172 (dk_at dksX5_swung_3 4 rfl rfl)
abbrev cX5_hear : ByteArray := prog_20_method_63_code
def yX5_hear : MethodName := ⟨RX5, "hear", "()I"⟩
def dkwX5_hear_5 : List UInt8 := [162, 0, 8, 21, 7, 167, 0, 4, 29, 62, 132, 4, 1, 167, 255, 138, 28, 172]
abbrev dktX5_hear_5 : List UInt8 := dkwX5_hear_5 ++ []
def dkwX5_hear_4 : List UInt8 := [167, 0, 5, 21, 6, 54, 7, 21, 7, 29, 162, 0, 8, 21, 4, 167, 0, 4, 28, 61, 21, 7, 29]
abbrev dktX5_hear_4 : List UInt8 := dkwX5_hear_4 ++ dktX5_hear_5
def dkwX5_hear_3 : List UInt8 := [132, 6, 1, 167, 255, 212, 27, 184, 0, 171, 21, 5, 100, 54, 6, 21, 5, 21, 6, 164, 0, 8, 21, 5]
abbrev dktX5_hear_3 : List UInt8 := dkwX5_hear_3 ++ dktX5_hear_4
def dkwX5_hear_2 : List UInt8 := [153, 0, 20, 42, 3, 21, 6, 21, 4, 2, 182, 0, 149, 158, 0, 7, 4, 167, 0, 4, 3, 96, 54, 5]
abbrev dktX5_hear_2 : List UInt8 := dkwX5_hear_2 ++ dktX5_hear_3
def dkwX5_hear_1 : List UInt8 := [3, 54, 5, 7, 54, 6, 21, 6, 16, 31, 162, 0, 43, 21, 5, 27, 21, 6, 7, 100, 184, 0, 139]
abbrev dktX5_hear_1 : List UInt8 := dkwX5_hear_1 ++ dktX5_hear_2
def dkwX5_hear_0 : List UInt8 := [42, 182, 0, 198, 60, 2, 61, 16, 99, 62, 3, 54, 4, 21, 4, 16, 24, 162, 0, 117, 27, 153, 0, 113]
abbrev dktX5_hear_0 : List UInt8 := dkwX5_hear_0 ++ dktX5_hear_1
theorem dksX5_hear_0 : cX5_hear.data.toList.drop 0 = dktX5_hear_0 := by decide +kernel
theorem dksX5_hear_1 : cX5_hear.data.toList.drop 24 = dktX5_hear_1 := dk_seg dksX5_hear_0 24 rfl rfl
theorem dksX5_hear_2 : cX5_hear.data.toList.drop 47 = dktX5_hear_2 := dk_seg dksX5_hear_1 23 rfl rfl
theorem dksX5_hear_3 : cX5_hear.data.toList.drop 71 = dktX5_hear_3 := dk_seg dksX5_hear_2 24 rfl rfl
theorem dksX5_hear_4 : cX5_hear.data.toList.drop 95 = dktX5_hear_4 := dk_seg dksX5_hear_3 24 rfl rfl
theorem dksX5_hear_5 : cX5_hear.data.toList.drop 118 = dktX5_hear_5 := dk_seg dksX5_hear_4 23 rfl rfl
theorem dX5_hear_0 : decode cX5_hear 0 = .ok (.aload_n 0, 1) := dk_42 (dk_at dksX5_hear_0 0 rfl rfl)
theorem dX5_hear_1 : decode cX5_hear 1 = .ok (.invokevirtual 198, 3) := dk_182 0 198 (dk_at dksX5_hear_0 1 rfl rfl)
theorem dX5_hear_4 : decode cX5_hear 4 = .ok (.istore_n 1, 1) := dk_60 (dk_at dksX5_hear_0 4 rfl rfl)
theorem dX5_hear_5 : decode cX5_hear 5 = .ok (.iconst (-1), 1) := dk_2 (dk_at dksX5_hear_0 5 rfl rfl)
theorem dX5_hear_6 : decode cX5_hear 6 = .ok (.istore_n 2, 1) := dk_61 (dk_at dksX5_hear_0 6 rfl rfl)
theorem dX5_hear_7 : decode cX5_hear 7 = .ok (.bipush 99, 2) := dk_16 99 (dk_at dksX5_hear_0 7 rfl rfl)
theorem dX5_hear_9 : decode cX5_hear 9 = .ok (.istore_n 3, 1) := dk_62 (dk_at dksX5_hear_0 9 rfl rfl)
theorem dX5_hear_10 : decode cX5_hear 10 = .ok (.iconst 0, 1) := dk_3 (dk_at dksX5_hear_0 10 rfl rfl)
theorem dX5_hear_11 : decode cX5_hear 11 = .ok (.istore 4, 2) := dk_54 4 (dk_at dksX5_hear_0 11 rfl rfl)
theorem dX5_hear_13 : decode cX5_hear 13 = .ok (.iload 4, 2) := dk_21 4 (dk_at dksX5_hear_0 13 rfl rfl)
theorem dX5_hear_15 : decode cX5_hear 15 = .ok (.bipush 24, 2) := dk_16 24 (dk_at dksX5_hear_0 15 rfl rfl)
theorem dX5_hear_17 : decode cX5_hear 17 = .ok (.if_icmp .ge 117, 3) := dk_162 0 117 (dk_at dksX5_hear_0 17 rfl rfl)
theorem dX5_hear_20 : decode cX5_hear 20 = .ok (.iload_n 1, 1) := dk_27 (dk_at dksX5_hear_0 20 rfl rfl)
theorem dX5_hear_21 : decode cX5_hear 21 = .ok (.ifCond .eq 113, 3) := dk_153 0 113 (dk_at dksX5_hear_0 21 rfl rfl)
theorem dX5_hear_24 : decode cX5_hear 24 = .ok (.iconst 0, 1) := dk_3 (dk_at dksX5_hear_1 0 rfl rfl)
theorem dX5_hear_25 : decode cX5_hear 25 = .ok (.istore 5, 2) := dk_54 5 (dk_at dksX5_hear_1 1 rfl rfl)
theorem dX5_hear_27 : decode cX5_hear 27 = .ok (.iconst 4, 1) := dk_7 (dk_at dksX5_hear_1 3 rfl rfl)
theorem dX5_hear_28 : decode cX5_hear 28 = .ok (.istore 6, 2) := dk_54 6 (dk_at dksX5_hear_1 4 rfl rfl)
theorem dX5_hear_30 : decode cX5_hear 30 = .ok (.iload 6, 2) := dk_21 6 (dk_at dksX5_hear_1 6 rfl rfl)
theorem dX5_hear_32 : decode cX5_hear 32 = .ok (.bipush 31, 2) := dk_16 31 (dk_at dksX5_hear_1 8 rfl rfl)
theorem dX5_hear_34 : decode cX5_hear 34 = .ok (.if_icmp .ge 43, 3) := dk_162 0 43 (dk_at dksX5_hear_1 10 rfl rfl)
theorem dX5_hear_37 : decode cX5_hear 37 = .ok (.iload 5, 2) := dk_21 5 (dk_at dksX5_hear_1 13 rfl rfl)
theorem dX5_hear_39 : decode cX5_hear 39 = .ok (.iload_n 1, 1) := dk_27 (dk_at dksX5_hear_1 15 rfl rfl)
theorem dX5_hear_40 : decode cX5_hear 40 = .ok (.iload 6, 2) := dk_21 6 (dk_at dksX5_hear_1 16 rfl rfl)
theorem dX5_hear_42 : decode cX5_hear 42 = .ok (.iconst 4, 1) := dk_7 (dk_at dksX5_hear_1 18 rfl rfl)
theorem dX5_hear_43 : decode cX5_hear 43 = .ok (.isub, 1) := dk_100 (dk_at dksX5_hear_1 19 rfl rfl)
theorem dX5_hear_44 : decode cX5_hear 44 = .ok (.invokestatic 139, 3) := dk_184 0 139 (dk_at dksX5_hear_1 20 rfl rfl)
theorem dX5_hear_47 : decode cX5_hear 47 = .ok (.ifCond .eq 20, 3) := dk_153 0 20 (dk_at dksX5_hear_2 0 rfl rfl)
theorem dX5_hear_50 : decode cX5_hear 50 = .ok (.aload_n 0, 1) := dk_42 (dk_at dksX5_hear_2 3 rfl rfl)
theorem dX5_hear_51 : decode cX5_hear 51 = .ok (.iconst 0, 1) := dk_3 (dk_at dksX5_hear_2 4 rfl rfl)
theorem dX5_hear_52 : decode cX5_hear 52 = .ok (.iload 6, 2) := dk_21 6 (dk_at dksX5_hear_2 5 rfl rfl)
theorem dX5_hear_54 : decode cX5_hear 54 = .ok (.iload 4, 2) := dk_21 4 (dk_at dksX5_hear_2 7 rfl rfl)
theorem dX5_hear_56 : decode cX5_hear 56 = .ok (.iconst (-1), 1) := dk_2 (dk_at dksX5_hear_2 9 rfl rfl)
theorem dX5_hear_57 : decode cX5_hear 57 = .ok (.invokevirtual 149, 3) := dk_182 0 149 (dk_at dksX5_hear_2 10 rfl rfl)
theorem dX5_hear_60 : decode cX5_hear 60 = .ok (.ifCond .le 7, 3) := dk_158 0 7 (dk_at dksX5_hear_2 13 rfl rfl)
theorem dX5_hear_63 : decode cX5_hear 63 = .ok (.iconst 1, 1) := dk_4 (dk_at dksX5_hear_2 16 rfl rfl)
theorem dX5_hear_64 : decode cX5_hear 64 = .ok (.goto 4, 3) := dk_167 0 4 (dk_at dksX5_hear_2 17 rfl rfl)
theorem dX5_hear_67 : decode cX5_hear 67 = .ok (.iconst 0, 1) := dk_3 (dk_at dksX5_hear_2 20 rfl rfl)
theorem dX5_hear_68 : decode cX5_hear 68 = .ok (.iadd, 1) := dk_96 (dk_at dksX5_hear_2 21 rfl rfl)
theorem dX5_hear_69 : decode cX5_hear 69 = .ok (.istore 5, 2) := dk_54 5 (dk_at dksX5_hear_2 22 rfl rfl)
theorem dX5_hear_71 : decode cX5_hear 71 = .ok (.iinc 6 1, 3) := dk_132 6 1 (dk_at dksX5_hear_3 0 rfl rfl)
theorem dX5_hear_74 : decode cX5_hear 74 = .ok (.goto (-44), 3) := dk_167 255 212 (dk_at dksX5_hear_3 3 rfl rfl)
theorem dX5_hear_77 : decode cX5_hear 77 = .ok (.iload_n 1, 1) := dk_27 (dk_at dksX5_hear_3 6 rfl rfl)
theorem dX5_hear_78 : decode cX5_hear 78 = .ok (.invokestatic 171, 3) := dk_184 0 171 (dk_at dksX5_hear_3 7 rfl rfl)
theorem dX5_hear_81 : decode cX5_hear 81 = .ok (.iload 5, 2) := dk_21 5 (dk_at dksX5_hear_3 10 rfl rfl)
theorem dX5_hear_83 : decode cX5_hear 83 = .ok (.isub, 1) := dk_100 (dk_at dksX5_hear_3 12 rfl rfl)
theorem dX5_hear_84 : decode cX5_hear 84 = .ok (.istore 6, 2) := dk_54 6 (dk_at dksX5_hear_3 13 rfl rfl)
theorem dX5_hear_86 : decode cX5_hear 86 = .ok (.iload 5, 2) := dk_21 5 (dk_at dksX5_hear_3 15 rfl rfl)
theorem dX5_hear_88 : decode cX5_hear 88 = .ok (.iload 6, 2) := dk_21 6 (dk_at dksX5_hear_3 17 rfl rfl)
theorem dX5_hear_90 : decode cX5_hear 90 = .ok (.if_icmp .le 8, 3) := dk_164 0 8 (dk_at dksX5_hear_3 19 rfl rfl)
theorem dX5_hear_93 : decode cX5_hear 93 = .ok (.iload 5, 2) := dk_21 5 (dk_at dksX5_hear_3 22 rfl rfl)
theorem dX5_hear_95 : decode cX5_hear 95 = .ok (.goto 5, 3) := dk_167 0 5 (dk_at dksX5_hear_4 0 rfl rfl)
theorem dX5_hear_98 : decode cX5_hear 98 = .ok (.iload 6, 2) := dk_21 6 (dk_at dksX5_hear_4 3 rfl rfl)
theorem dX5_hear_100 : decode cX5_hear 100 = .ok (.istore 7, 2) := dk_54 7 (dk_at dksX5_hear_4 5 rfl rfl)
theorem dX5_hear_102 : decode cX5_hear 102 = .ok (.iload 7, 2) := dk_21 7 (dk_at dksX5_hear_4 7 rfl rfl)
theorem dX5_hear_104 : decode cX5_hear 104 = .ok (.iload_n 3, 1) := dk_29 (dk_at dksX5_hear_4 9 rfl rfl)
theorem dX5_hear_105 : decode cX5_hear 105 = .ok (.if_icmp .ge 8, 3) := dk_162 0 8 (dk_at dksX5_hear_4 10 rfl rfl)
theorem dX5_hear_108 : decode cX5_hear 108 = .ok (.iload 4, 2) := dk_21 4 (dk_at dksX5_hear_4 13 rfl rfl)
theorem dX5_hear_110 : decode cX5_hear 110 = .ok (.goto 4, 3) := dk_167 0 4 (dk_at dksX5_hear_4 15 rfl rfl)
theorem dX5_hear_113 : decode cX5_hear 113 = .ok (.iload_n 2, 1) := dk_28 (dk_at dksX5_hear_4 18 rfl rfl)
theorem dX5_hear_114 : decode cX5_hear 114 = .ok (.istore_n 2, 1) := dk_61 (dk_at dksX5_hear_4 19 rfl rfl)
theorem dX5_hear_115 : decode cX5_hear 115 = .ok (.iload 7, 2) := dk_21 7 (dk_at dksX5_hear_4 20 rfl rfl)
theorem dX5_hear_117 : decode cX5_hear 117 = .ok (.iload_n 3, 1) := dk_29 (dk_at dksX5_hear_4 22 rfl rfl)
theorem dX5_hear_118 : decode cX5_hear 118 = .ok (.if_icmp .ge 8, 3) := dk_162 0 8 (dk_at dksX5_hear_5 0 rfl rfl)
theorem dX5_hear_121 : decode cX5_hear 121 = .ok (.iload 7, 2) := dk_21 7 (dk_at dksX5_hear_5 3 rfl rfl)
theorem dX5_hear_123 : decode cX5_hear 123 = .ok (.goto 4, 3) := dk_167 0 4 (dk_at dksX5_hear_5 5 rfl rfl)
theorem dX5_hear_126 : decode cX5_hear 126 = .ok (.iload_n 3, 1) := dk_29 (dk_at dksX5_hear_5 8 rfl rfl)
theorem dX5_hear_127 : decode cX5_hear 127 = .ok (.istore_n 3, 1) := dk_62 (dk_at dksX5_hear_5 9 rfl rfl)
theorem dX5_hear_128 : decode cX5_hear 128 = .ok (.iinc 4 1, 3) := dk_132 4 1 (dk_at dksX5_hear_5 10 rfl rfl)
theorem dX5_hear_131 : decode cX5_hear 131 = .ok (.goto (-118), 3) := dk_167 255 138 (dk_at dksX5_hear_5 13 rfl rfl)
theorem dX5_hear_134 : decode cX5_hear 134 = .ok (.iload_n 2, 1) := dk_28 (dk_at dksX5_hear_5 16 rfl rfl)
theorem dX5_hear_135 : decode cX5_hear 135 = .ok (.ireturn, 1) := dk_172 (dk_at dksX5_hear_5 17 rfl rfl)
abbrev cX5_note : ByteArray := prog_20_method_64_code
def yX5_note : MethodName := ⟨RX5, "note", "(IIII)I"⟩
def dkwX5_note_5 : List UInt8 := [79, 42, 180, 0, 7, 16, 48, 92, 46, 4, 96, 79, 42, 180, 0, 7, 16, 48, 46, 172]
abbrev dktX5_note_5 : List UInt8 := dkwX5_note_5 ++ []
def dkwX5_note_4 : List UInt8 := [4, 96, 28, 79, 42, 180, 0, 7, 21, 5, 5, 96, 29, 79, 42, 180, 0, 7, 21, 5, 6, 96, 21, 4]
abbrev dktX5_note_4 : List UInt8 := dkwX5_note_4 ++ dktX5_note_5
def dkwX5_note_3 : List UInt8 := [180, 0, 7, 16, 48, 46, 104, 96, 54, 5, 42, 180, 0, 7, 21, 5, 27, 79, 42, 180, 0, 7, 21, 5]
abbrev dktX5_note_3 : List UInt8 := dkwX5_note_3 ++ dktX5_note_4
def dkwX5_note_2 : List UInt8 := [172, 42, 180, 0, 7, 16, 48, 46, 16, 6, 160, 0, 10, 42, 16, 252, 182, 0, 55, 172, 16, 49, 7, 42]
abbrev dktX5_note_2 : List UInt8 := dkwX5_note_2 ++ dktX5_note_3
def dkwX5_note_1 : List UInt8 := [184, 0, 51, 153, 0, 15, 21, 4, 16, 236, 16, 20, 184, 0, 51, 154, 0, 10, 42, 16, 254, 182, 0, 55]
abbrev dktX5_note_1 : List UInt8 := dkwX5_note_1 ++ dktX5_note_2
def dkwX5_note_0 : List UInt8 := [42, 27, 182, 0, 159, 153, 0, 35, 28, 3, 16, 9, 184, 0, 51, 153, 0, 25, 29, 3, 16, 99]
abbrev dktX5_note_0 : List UInt8 := dkwX5_note_0 ++ dktX5_note_1
theorem dksX5_note_0 : cX5_note.data.toList.drop 0 = dktX5_note_0 := by decide +kernel
theorem dksX5_note_1 : cX5_note.data.toList.drop 22 = dktX5_note_1 := dk_seg dksX5_note_0 22 rfl rfl
theorem dksX5_note_2 : cX5_note.data.toList.drop 46 = dktX5_note_2 := dk_seg dksX5_note_1 24 rfl rfl
theorem dksX5_note_3 : cX5_note.data.toList.drop 70 = dktX5_note_3 := dk_seg dksX5_note_2 24 rfl rfl
theorem dksX5_note_4 : cX5_note.data.toList.drop 94 = dktX5_note_4 := dk_seg dksX5_note_3 24 rfl rfl
theorem dksX5_note_5 : cX5_note.data.toList.drop 118 = dktX5_note_5 := dk_seg dksX5_note_4 24 rfl rfl
theorem dX5_note_0 : decode cX5_note 0 = .ok (.aload_n 0, 1) := dk_42 (dk_at dksX5_note_0 0 rfl rfl)
theorem dX5_note_1 : decode cX5_note 1 = .ok (.iload_n 1, 1) := dk_27 (dk_at dksX5_note_0 1 rfl rfl)
theorem dX5_note_2 : decode cX5_note 2 = .ok (.invokevirtual 159, 3) := dk_182 0 159 (dk_at dksX5_note_0 2 rfl rfl)
theorem dX5_note_5 : decode cX5_note 5 = .ok (.ifCond .eq 35, 3) := dk_153 0 35 (dk_at dksX5_note_0 5 rfl rfl)
theorem dX5_note_8 : decode cX5_note 8 = .ok (.iload_n 2, 1) := dk_28 (dk_at dksX5_note_0 8 rfl rfl)
theorem dX5_note_9 : decode cX5_note 9 = .ok (.iconst 0, 1) := dk_3 (dk_at dksX5_note_0 9 rfl rfl)
theorem dX5_note_10 : decode cX5_note 10 = .ok (.bipush 9, 2) := dk_16 9 (dk_at dksX5_note_0 10 rfl rfl)
theorem dX5_note_12 : decode cX5_note 12 = .ok (.invokestatic 51, 3) := dk_184 0 51 (dk_at dksX5_note_0 12 rfl rfl)
theorem dX5_note_15 : decode cX5_note 15 = .ok (.ifCond .eq 25, 3) := dk_153 0 25 (dk_at dksX5_note_0 15 rfl rfl)
theorem dX5_note_18 : decode cX5_note 18 = .ok (.iload_n 3, 1) := dk_29 (dk_at dksX5_note_0 18 rfl rfl)
theorem dX5_note_19 : decode cX5_note 19 = .ok (.iconst 0, 1) := dk_3 (dk_at dksX5_note_0 19 rfl rfl)
theorem dX5_note_20 : decode cX5_note 20 = .ok (.bipush 99, 2) := dk_16 99 (dk_at dksX5_note_0 20 rfl rfl)
theorem dX5_note_22 : decode cX5_note 22 = .ok (.invokestatic 51, 3) := dk_184 0 51 (dk_at dksX5_note_1 0 rfl rfl)
theorem dX5_note_25 : decode cX5_note 25 = .ok (.ifCond .eq 15, 3) := dk_153 0 15 (dk_at dksX5_note_1 3 rfl rfl)
theorem dX5_note_28 : decode cX5_note 28 = .ok (.iload 4, 2) := dk_21 4 (dk_at dksX5_note_1 6 rfl rfl)
theorem dX5_note_30 : decode cX5_note 30 = .ok (.bipush (-20), 2) := dk_16 236 (dk_at dksX5_note_1 8 rfl rfl)
theorem dX5_note_32 : decode cX5_note 32 = .ok (.bipush 20, 2) := dk_16 20 (dk_at dksX5_note_1 10 rfl rfl)
theorem dX5_note_34 : decode cX5_note 34 = .ok (.invokestatic 51, 3) := dk_184 0 51 (dk_at dksX5_note_1 12 rfl rfl)
theorem dX5_note_37 : decode cX5_note 37 = .ok (.ifCond .ne 10, 3) := dk_154 0 10 (dk_at dksX5_note_1 15 rfl rfl)
theorem dX5_note_40 : decode cX5_note 40 = .ok (.aload_n 0, 1) := dk_42 (dk_at dksX5_note_1 18 rfl rfl)
theorem dX5_note_41 : decode cX5_note 41 = .ok (.bipush (-2), 2) := dk_16 254 (dk_at dksX5_note_1 19 rfl rfl)
theorem dX5_note_43 : decode cX5_note 43 = .ok (.invokevirtual 55, 3) := dk_182 0 55 (dk_at dksX5_note_1 21 rfl rfl)
theorem dX5_note_46 : decode cX5_note 46 = .ok (.ireturn, 1) := dk_172 (dk_at dksX5_note_2 0 rfl rfl)
theorem dX5_note_47 : decode cX5_note 47 = .ok (.aload_n 0, 1) := dk_42 (dk_at dksX5_note_2 1 rfl rfl)
theorem dX5_note_48 : decode cX5_note 48 = .ok (.getfield 7, 3) := dk_180 0 7 (dk_at dksX5_note_2 2 rfl rfl)
theorem dX5_note_51 : decode cX5_note 51 = .ok (.bipush 48, 2) := dk_16 48 (dk_at dksX5_note_2 5 rfl rfl)
theorem dX5_note_53 : decode cX5_note 53 = .ok (.iaload, 1) := dk_46 (dk_at dksX5_note_2 7 rfl rfl)
theorem dX5_note_54 : decode cX5_note 54 = .ok (.bipush 6, 2) := dk_16 6 (dk_at dksX5_note_2 8 rfl rfl)
theorem dX5_note_56 : decode cX5_note 56 = .ok (.if_icmp .ne 10, 3) := dk_160 0 10 (dk_at dksX5_note_2 10 rfl rfl)
theorem dX5_note_59 : decode cX5_note 59 = .ok (.aload_n 0, 1) := dk_42 (dk_at dksX5_note_2 13 rfl rfl)
theorem dX5_note_60 : decode cX5_note 60 = .ok (.bipush (-4), 2) := dk_16 252 (dk_at dksX5_note_2 14 rfl rfl)
theorem dX5_note_62 : decode cX5_note 62 = .ok (.invokevirtual 55, 3) := dk_182 0 55 (dk_at dksX5_note_2 16 rfl rfl)
theorem dX5_note_65 : decode cX5_note 65 = .ok (.ireturn, 1) := dk_172 (dk_at dksX5_note_2 19 rfl rfl)
theorem dX5_note_66 : decode cX5_note 66 = .ok (.bipush 49, 2) := dk_16 49 (dk_at dksX5_note_2 20 rfl rfl)
theorem dX5_note_68 : decode cX5_note 68 = .ok (.iconst 4, 1) := dk_7 (dk_at dksX5_note_2 22 rfl rfl)
theorem dX5_note_69 : decode cX5_note 69 = .ok (.aload_n 0, 1) := dk_42 (dk_at dksX5_note_2 23 rfl rfl)
theorem dX5_note_70 : decode cX5_note 70 = .ok (.getfield 7, 3) := dk_180 0 7 (dk_at dksX5_note_3 0 rfl rfl)
theorem dX5_note_73 : decode cX5_note 73 = .ok (.bipush 48, 2) := dk_16 48 (dk_at dksX5_note_3 3 rfl rfl)
theorem dX5_note_75 : decode cX5_note 75 = .ok (.iaload, 1) := dk_46 (dk_at dksX5_note_3 5 rfl rfl)
theorem dX5_note_76 : decode cX5_note 76 = .ok (.imul, 1) := dk_104 (dk_at dksX5_note_3 6 rfl rfl)
theorem dX5_note_77 : decode cX5_note 77 = .ok (.iadd, 1) := dk_96 (dk_at dksX5_note_3 7 rfl rfl)
theorem dX5_note_78 : decode cX5_note 78 = .ok (.istore 5, 2) := dk_54 5 (dk_at dksX5_note_3 8 rfl rfl)
theorem dX5_note_80 : decode cX5_note 80 = .ok (.aload_n 0, 1) := dk_42 (dk_at dksX5_note_3 10 rfl rfl)
theorem dX5_note_81 : decode cX5_note 81 = .ok (.getfield 7, 3) := dk_180 0 7 (dk_at dksX5_note_3 11 rfl rfl)
theorem dX5_note_84 : decode cX5_note 84 = .ok (.iload 5, 2) := dk_21 5 (dk_at dksX5_note_3 14 rfl rfl)
theorem dX5_note_86 : decode cX5_note 86 = .ok (.iload_n 1, 1) := dk_27 (dk_at dksX5_note_3 16 rfl rfl)
theorem dX5_note_87 : decode cX5_note 87 = .ok (.iastore, 1) := dk_79 (dk_at dksX5_note_3 17 rfl rfl)
theorem dX5_note_88 : decode cX5_note 88 = .ok (.aload_n 0, 1) := dk_42 (dk_at dksX5_note_3 18 rfl rfl)
theorem dX5_note_89 : decode cX5_note 89 = .ok (.getfield 7, 3) := dk_180 0 7 (dk_at dksX5_note_3 19 rfl rfl)
theorem dX5_note_92 : decode cX5_note 92 = .ok (.iload 5, 2) := dk_21 5 (dk_at dksX5_note_3 22 rfl rfl)
theorem dX5_note_94 : decode cX5_note 94 = .ok (.iconst 1, 1) := dk_4 (dk_at dksX5_note_4 0 rfl rfl)
theorem dX5_note_95 : decode cX5_note 95 = .ok (.iadd, 1) := dk_96 (dk_at dksX5_note_4 1 rfl rfl)
theorem dX5_note_96 : decode cX5_note 96 = .ok (.iload_n 2, 1) := dk_28 (dk_at dksX5_note_4 2 rfl rfl)
theorem dX5_note_97 : decode cX5_note 97 = .ok (.iastore, 1) := dk_79 (dk_at dksX5_note_4 3 rfl rfl)
theorem dX5_note_98 : decode cX5_note 98 = .ok (.aload_n 0, 1) := dk_42 (dk_at dksX5_note_4 4 rfl rfl)
theorem dX5_note_99 : decode cX5_note 99 = .ok (.getfield 7, 3) := dk_180 0 7 (dk_at dksX5_note_4 5 rfl rfl)
theorem dX5_note_102 : decode cX5_note 102 = .ok (.iload 5, 2) := dk_21 5 (dk_at dksX5_note_4 8 rfl rfl)
theorem dX5_note_104 : decode cX5_note 104 = .ok (.iconst 2, 1) := dk_5 (dk_at dksX5_note_4 10 rfl rfl)
theorem dX5_note_105 : decode cX5_note 105 = .ok (.iadd, 1) := dk_96 (dk_at dksX5_note_4 11 rfl rfl)
theorem dX5_note_106 : decode cX5_note 106 = .ok (.iload_n 3, 1) := dk_29 (dk_at dksX5_note_4 12 rfl rfl)
theorem dX5_note_107 : decode cX5_note 107 = .ok (.iastore, 1) := dk_79 (dk_at dksX5_note_4 13 rfl rfl)
theorem dX5_note_108 : decode cX5_note 108 = .ok (.aload_n 0, 1) := dk_42 (dk_at dksX5_note_4 14 rfl rfl)
theorem dX5_note_109 : decode cX5_note 109 = .ok (.getfield 7, 3) := dk_180 0 7 (dk_at dksX5_note_4 15 rfl rfl)
theorem dX5_note_112 : decode cX5_note 112 = .ok (.iload 5, 2) := dk_21 5 (dk_at dksX5_note_4 18 rfl rfl)
theorem dX5_note_114 : decode cX5_note 114 = .ok (.iconst 3, 1) := dk_6 (dk_at dksX5_note_4 20 rfl rfl)
theorem dX5_note_115 : decode cX5_note 115 = .ok (.iadd, 1) := dk_96 (dk_at dksX5_note_4 21 rfl rfl)
theorem dX5_note_116 : decode cX5_note 116 = .ok (.iload 4, 2) := dk_21 4 (dk_at dksX5_note_4 22 rfl rfl)
theorem dX5_note_118 : decode cX5_note 118 = .ok (.iastore, 1) := dk_79 (dk_at dksX5_note_5 0 rfl rfl)
theorem dX5_note_119 : decode cX5_note 119 = .ok (.aload_n 0, 1) := dk_42 (dk_at dksX5_note_5 1 rfl rfl)
theorem dX5_note_120 : decode cX5_note 120 = .ok (.getfield 7, 3) := dk_180 0 7 (dk_at dksX5_note_5 2 rfl rfl)
theorem dX5_note_123 : decode cX5_note 123 = .ok (.bipush 48, 2) := dk_16 48 (dk_at dksX5_note_5 5 rfl rfl)
theorem dX5_note_125 : decode cX5_note 125 = .ok (.dup2, 1) := dk_92 (dk_at dksX5_note_5 7 rfl rfl)
theorem dX5_note_126 : decode cX5_note 126 = .ok (.iaload, 1) := dk_46 (dk_at dksX5_note_5 8 rfl rfl)
theorem dX5_note_127 : decode cX5_note 127 = .ok (.iconst 1, 1) := dk_4 (dk_at dksX5_note_5 9 rfl rfl)
theorem dX5_note_128 : decode cX5_note 128 = .ok (.iadd, 1) := dk_96 (dk_at dksX5_note_5 10 rfl rfl)
theorem dX5_note_129 : decode cX5_note 129 = .ok (.iastore, 1) := dk_79 (dk_at dksX5_note_5 11 rfl rfl)
theorem dX5_note_130 : decode cX5_note 130 = .ok (.aload_n 0, 1) := dk_42 (dk_at dksX5_note_5 12 rfl rfl)
theorem dX5_note_131 : decode cX5_note 131 = .ok (.getfield 7, 3) := dk_180 0 7 (dk_at dksX5_note_5 13 rfl rfl)
theorem dX5_note_134 : decode cX5_note 134 = .ok (.bipush 48, 2) := dk_16 48 (dk_at dksX5_note_5 16 rfl rfl)
theorem dX5_note_136 : decode cX5_note 136 = .ok (.iaload, 1) := dk_46 (dk_at dksX5_note_5 18 rfl rfl)
theorem dX5_note_137 : decode cX5_note 137 = .ok (.ireturn, 1) := dk_172 (dk_at dksX5_note_5 19 rfl rfl)
abbrev cX5_mark : ByteArray := prog_20_method_65_code
def yX5_mark : MethodName := ⟨RX5, "mark", "(IIII)I"⟩
def dkwX5_mark_5 : List UInt8 := [79, 42, 180, 0, 7, 16, 73, 92, 46, 4, 96, 79, 42, 180, 0, 7, 16, 73, 46, 172]
abbrev dktX5_mark_5 : List UInt8 := dkwX5_mark_5 ++ []
def dkwX5_mark_4 : List UInt8 := [4, 96, 28, 79, 42, 180, 0, 7, 21, 5, 5, 96, 29, 79, 42, 180, 0, 7, 21, 5, 6, 96, 21, 4]
abbrev dktX5_mark_4 : List UInt8 := dkwX5_mark_4 ++ dktX5_mark_5
def dkwX5_mark_3 : List UInt8 := [180, 0, 7, 16, 73, 46, 104, 96, 54, 5, 42, 180, 0, 7, 21, 5, 27, 79, 42, 180, 0, 7, 21, 5]
abbrev dktX5_mark_3 : List UInt8 := dkwX5_mark_3 ++ dktX5_mark_4
def dkwX5_mark_2 : List UInt8 := [172, 42, 180, 0, 7, 16, 73, 46, 16, 6, 160, 0, 10, 42, 16, 252, 182, 0, 55, 172, 16, 74, 7, 42]
abbrev dktX5_mark_2 : List UInt8 := dkwX5_mark_2 ++ dktX5_mark_3
def dkwX5_mark_1 : List UInt8 := [184, 0, 51, 153, 0, 15, 21, 4, 16, 236, 16, 20, 184, 0, 51, 154, 0, 10, 42, 16, 254, 182, 0, 55]
abbrev dktX5_mark_1 : List UInt8 := dkwX5_mark_1 ++ dktX5_mark_2
def dkwX5_mark_0 : List UInt8 := [42, 27, 182, 0, 162, 153, 0, 36, 28, 16, 236, 16, 20, 184, 0, 51, 153, 0, 25, 29, 3, 16, 99]
abbrev dktX5_mark_0 : List UInt8 := dkwX5_mark_0 ++ dktX5_mark_1
theorem dksX5_mark_0 : cX5_mark.data.toList.drop 0 = dktX5_mark_0 := by decide +kernel
theorem dksX5_mark_1 : cX5_mark.data.toList.drop 23 = dktX5_mark_1 := dk_seg dksX5_mark_0 23 rfl rfl
theorem dksX5_mark_2 : cX5_mark.data.toList.drop 47 = dktX5_mark_2 := dk_seg dksX5_mark_1 24 rfl rfl
theorem dksX5_mark_3 : cX5_mark.data.toList.drop 71 = dktX5_mark_3 := dk_seg dksX5_mark_2 24 rfl rfl
theorem dksX5_mark_4 : cX5_mark.data.toList.drop 95 = dktX5_mark_4 := dk_seg dksX5_mark_3 24 rfl rfl
theorem dksX5_mark_5 : cX5_mark.data.toList.drop 119 = dktX5_mark_5 := dk_seg dksX5_mark_4 24 rfl rfl
theorem dX5_mark_0 : decode cX5_mark 0 = .ok (.aload_n 0, 1) := dk_42 (dk_at dksX5_mark_0 0 rfl rfl)
theorem dX5_mark_1 : decode cX5_mark 1 = .ok (.iload_n 1, 1) := dk_27 (dk_at dksX5_mark_0 1 rfl rfl)
theorem dX5_mark_2 : decode cX5_mark 2 = .ok (.invokevirtual 162, 3) := dk_182 0 162 (dk_at dksX5_mark_0 2 rfl rfl)
theorem dX5_mark_5 : decode cX5_mark 5 = .ok (.ifCond .eq 36, 3) := dk_153 0 36 (dk_at dksX5_mark_0 5 rfl rfl)
theorem dX5_mark_8 : decode cX5_mark 8 = .ok (.iload_n 2, 1) := dk_28 (dk_at dksX5_mark_0 8 rfl rfl)
theorem dX5_mark_9 : decode cX5_mark 9 = .ok (.bipush (-20), 2) := dk_16 236 (dk_at dksX5_mark_0 9 rfl rfl)
theorem dX5_mark_11 : decode cX5_mark 11 = .ok (.bipush 20, 2) := dk_16 20 (dk_at dksX5_mark_0 11 rfl rfl)
theorem dX5_mark_13 : decode cX5_mark 13 = .ok (.invokestatic 51, 3) := dk_184 0 51 (dk_at dksX5_mark_0 13 rfl rfl)
theorem dX5_mark_16 : decode cX5_mark 16 = .ok (.ifCond .eq 25, 3) := dk_153 0 25 (dk_at dksX5_mark_0 16 rfl rfl)
theorem dX5_mark_19 : decode cX5_mark 19 = .ok (.iload_n 3, 1) := dk_29 (dk_at dksX5_mark_0 19 rfl rfl)
theorem dX5_mark_20 : decode cX5_mark 20 = .ok (.iconst 0, 1) := dk_3 (dk_at dksX5_mark_0 20 rfl rfl)
theorem dX5_mark_21 : decode cX5_mark 21 = .ok (.bipush 99, 2) := dk_16 99 (dk_at dksX5_mark_0 21 rfl rfl)
theorem dX5_mark_23 : decode cX5_mark 23 = .ok (.invokestatic 51, 3) := dk_184 0 51 (dk_at dksX5_mark_1 0 rfl rfl)
theorem dX5_mark_26 : decode cX5_mark 26 = .ok (.ifCond .eq 15, 3) := dk_153 0 15 (dk_at dksX5_mark_1 3 rfl rfl)
theorem dX5_mark_29 : decode cX5_mark 29 = .ok (.iload 4, 2) := dk_21 4 (dk_at dksX5_mark_1 6 rfl rfl)
theorem dX5_mark_31 : decode cX5_mark 31 = .ok (.bipush (-20), 2) := dk_16 236 (dk_at dksX5_mark_1 8 rfl rfl)
theorem dX5_mark_33 : decode cX5_mark 33 = .ok (.bipush 20, 2) := dk_16 20 (dk_at dksX5_mark_1 10 rfl rfl)
theorem dX5_mark_35 : decode cX5_mark 35 = .ok (.invokestatic 51, 3) := dk_184 0 51 (dk_at dksX5_mark_1 12 rfl rfl)
theorem dX5_mark_38 : decode cX5_mark 38 = .ok (.ifCond .ne 10, 3) := dk_154 0 10 (dk_at dksX5_mark_1 15 rfl rfl)
theorem dX5_mark_41 : decode cX5_mark 41 = .ok (.aload_n 0, 1) := dk_42 (dk_at dksX5_mark_1 18 rfl rfl)
theorem dX5_mark_42 : decode cX5_mark 42 = .ok (.bipush (-2), 2) := dk_16 254 (dk_at dksX5_mark_1 19 rfl rfl)
theorem dX5_mark_44 : decode cX5_mark 44 = .ok (.invokevirtual 55, 3) := dk_182 0 55 (dk_at dksX5_mark_1 21 rfl rfl)
theorem dX5_mark_47 : decode cX5_mark 47 = .ok (.ireturn, 1) := dk_172 (dk_at dksX5_mark_2 0 rfl rfl)
theorem dX5_mark_48 : decode cX5_mark 48 = .ok (.aload_n 0, 1) := dk_42 (dk_at dksX5_mark_2 1 rfl rfl)
theorem dX5_mark_49 : decode cX5_mark 49 = .ok (.getfield 7, 3) := dk_180 0 7 (dk_at dksX5_mark_2 2 rfl rfl)
theorem dX5_mark_52 : decode cX5_mark 52 = .ok (.bipush 73, 2) := dk_16 73 (dk_at dksX5_mark_2 5 rfl rfl)
theorem dX5_mark_54 : decode cX5_mark 54 = .ok (.iaload, 1) := dk_46 (dk_at dksX5_mark_2 7 rfl rfl)
theorem dX5_mark_55 : decode cX5_mark 55 = .ok (.bipush 6, 2) := dk_16 6 (dk_at dksX5_mark_2 8 rfl rfl)
theorem dX5_mark_57 : decode cX5_mark 57 = .ok (.if_icmp .ne 10, 3) := dk_160 0 10 (dk_at dksX5_mark_2 10 rfl rfl)
theorem dX5_mark_60 : decode cX5_mark 60 = .ok (.aload_n 0, 1) := dk_42 (dk_at dksX5_mark_2 13 rfl rfl)
theorem dX5_mark_61 : decode cX5_mark 61 = .ok (.bipush (-4), 2) := dk_16 252 (dk_at dksX5_mark_2 14 rfl rfl)
theorem dX5_mark_63 : decode cX5_mark 63 = .ok (.invokevirtual 55, 3) := dk_182 0 55 (dk_at dksX5_mark_2 16 rfl rfl)
theorem dX5_mark_66 : decode cX5_mark 66 = .ok (.ireturn, 1) := dk_172 (dk_at dksX5_mark_2 19 rfl rfl)
theorem dX5_mark_67 : decode cX5_mark 67 = .ok (.bipush 74, 2) := dk_16 74 (dk_at dksX5_mark_2 20 rfl rfl)
theorem dX5_mark_69 : decode cX5_mark 69 = .ok (.iconst 4, 1) := dk_7 (dk_at dksX5_mark_2 22 rfl rfl)
theorem dX5_mark_70 : decode cX5_mark 70 = .ok (.aload_n 0, 1) := dk_42 (dk_at dksX5_mark_2 23 rfl rfl)
theorem dX5_mark_71 : decode cX5_mark 71 = .ok (.getfield 7, 3) := dk_180 0 7 (dk_at dksX5_mark_3 0 rfl rfl)
theorem dX5_mark_74 : decode cX5_mark 74 = .ok (.bipush 73, 2) := dk_16 73 (dk_at dksX5_mark_3 3 rfl rfl)
theorem dX5_mark_76 : decode cX5_mark 76 = .ok (.iaload, 1) := dk_46 (dk_at dksX5_mark_3 5 rfl rfl)
theorem dX5_mark_77 : decode cX5_mark 77 = .ok (.imul, 1) := dk_104 (dk_at dksX5_mark_3 6 rfl rfl)
theorem dX5_mark_78 : decode cX5_mark 78 = .ok (.iadd, 1) := dk_96 (dk_at dksX5_mark_3 7 rfl rfl)
theorem dX5_mark_79 : decode cX5_mark 79 = .ok (.istore 5, 2) := dk_54 5 (dk_at dksX5_mark_3 8 rfl rfl)
theorem dX5_mark_81 : decode cX5_mark 81 = .ok (.aload_n 0, 1) := dk_42 (dk_at dksX5_mark_3 10 rfl rfl)
theorem dX5_mark_82 : decode cX5_mark 82 = .ok (.getfield 7, 3) := dk_180 0 7 (dk_at dksX5_mark_3 11 rfl rfl)
theorem dX5_mark_85 : decode cX5_mark 85 = .ok (.iload 5, 2) := dk_21 5 (dk_at dksX5_mark_3 14 rfl rfl)
theorem dX5_mark_87 : decode cX5_mark 87 = .ok (.iload_n 1, 1) := dk_27 (dk_at dksX5_mark_3 16 rfl rfl)
theorem dX5_mark_88 : decode cX5_mark 88 = .ok (.iastore, 1) := dk_79 (dk_at dksX5_mark_3 17 rfl rfl)
theorem dX5_mark_89 : decode cX5_mark 89 = .ok (.aload_n 0, 1) := dk_42 (dk_at dksX5_mark_3 18 rfl rfl)
theorem dX5_mark_90 : decode cX5_mark 90 = .ok (.getfield 7, 3) := dk_180 0 7 (dk_at dksX5_mark_3 19 rfl rfl)
theorem dX5_mark_93 : decode cX5_mark 93 = .ok (.iload 5, 2) := dk_21 5 (dk_at dksX5_mark_3 22 rfl rfl)
theorem dX5_mark_95 : decode cX5_mark 95 = .ok (.iconst 1, 1) := dk_4 (dk_at dksX5_mark_4 0 rfl rfl)
theorem dX5_mark_96 : decode cX5_mark 96 = .ok (.iadd, 1) := dk_96 (dk_at dksX5_mark_4 1 rfl rfl)
theorem dX5_mark_97 : decode cX5_mark 97 = .ok (.iload_n 2, 1) := dk_28 (dk_at dksX5_mark_4 2 rfl rfl)
theorem dX5_mark_98 : decode cX5_mark 98 = .ok (.iastore, 1) := dk_79 (dk_at dksX5_mark_4 3 rfl rfl)
theorem dX5_mark_99 : decode cX5_mark 99 = .ok (.aload_n 0, 1) := dk_42 (dk_at dksX5_mark_4 4 rfl rfl)
theorem dX5_mark_100 : decode cX5_mark 100 = .ok (.getfield 7, 3) := dk_180 0 7 (dk_at dksX5_mark_4 5 rfl rfl)
theorem dX5_mark_103 : decode cX5_mark 103 = .ok (.iload 5, 2) := dk_21 5 (dk_at dksX5_mark_4 8 rfl rfl)
theorem dX5_mark_105 : decode cX5_mark 105 = .ok (.iconst 2, 1) := dk_5 (dk_at dksX5_mark_4 10 rfl rfl)
theorem dX5_mark_106 : decode cX5_mark 106 = .ok (.iadd, 1) := dk_96 (dk_at dksX5_mark_4 11 rfl rfl)
theorem dX5_mark_107 : decode cX5_mark 107 = .ok (.iload_n 3, 1) := dk_29 (dk_at dksX5_mark_4 12 rfl rfl)
theorem dX5_mark_108 : decode cX5_mark 108 = .ok (.iastore, 1) := dk_79 (dk_at dksX5_mark_4 13 rfl rfl)
theorem dX5_mark_109 : decode cX5_mark 109 = .ok (.aload_n 0, 1) := dk_42 (dk_at dksX5_mark_4 14 rfl rfl)
theorem dX5_mark_110 : decode cX5_mark 110 = .ok (.getfield 7, 3) := dk_180 0 7 (dk_at dksX5_mark_4 15 rfl rfl)
theorem dX5_mark_113 : decode cX5_mark 113 = .ok (.iload 5, 2) := dk_21 5 (dk_at dksX5_mark_4 18 rfl rfl)
theorem dX5_mark_115 : decode cX5_mark 115 = .ok (.iconst 3, 1) := dk_6 (dk_at dksX5_mark_4 20 rfl rfl)
theorem dX5_mark_116 : decode cX5_mark 116 = .ok (.iadd, 1) := dk_96 (dk_at dksX5_mark_4 21 rfl rfl)
theorem dX5_mark_117 : decode cX5_mark 117 = .ok (.iload 4, 2) := dk_21 4 (dk_at dksX5_mark_4 22 rfl rfl)
theorem dX5_mark_119 : decode cX5_mark 119 = .ok (.iastore, 1) := dk_79 (dk_at dksX5_mark_5 0 rfl rfl)
theorem dX5_mark_120 : decode cX5_mark 120 = .ok (.aload_n 0, 1) := dk_42 (dk_at dksX5_mark_5 1 rfl rfl)
theorem dX5_mark_121 : decode cX5_mark 121 = .ok (.getfield 7, 3) := dk_180 0 7 (dk_at dksX5_mark_5 2 rfl rfl)
theorem dX5_mark_124 : decode cX5_mark 124 = .ok (.bipush 73, 2) := dk_16 73 (dk_at dksX5_mark_5 5 rfl rfl)
theorem dX5_mark_126 : decode cX5_mark 126 = .ok (.dup2, 1) := dk_92 (dk_at dksX5_mark_5 7 rfl rfl)
theorem dX5_mark_127 : decode cX5_mark 127 = .ok (.iaload, 1) := dk_46 (dk_at dksX5_mark_5 8 rfl rfl)
theorem dX5_mark_128 : decode cX5_mark 128 = .ok (.iconst 1, 1) := dk_4 (dk_at dksX5_mark_5 9 rfl rfl)
theorem dX5_mark_129 : decode cX5_mark 129 = .ok (.iadd, 1) := dk_96 (dk_at dksX5_mark_5 10 rfl rfl)
theorem dX5_mark_130 : decode cX5_mark 130 = .ok (.iastore, 1) := dk_79 (dk_at dksX5_mark_5 11 rfl rfl)
theorem dX5_mark_131 : decode cX5_mark 131 = .ok (.aload_n 0, 1) := dk_42 (dk_at dksX5_mark_5 12 rfl rfl)
theorem dX5_mark_132 : decode cX5_mark 132 = .ok (.getfield 7, 3) := dk_180 0 7 (dk_at dksX5_mark_5 13 rfl rfl)
theorem dX5_mark_135 : decode cX5_mark 135 = .ok (.bipush 73, 2) := dk_16 73 (dk_at dksX5_mark_5 16 rfl rfl)
theorem dX5_mark_137 : decode cX5_mark 137 = .ok (.iaload, 1) := dk_46 (dk_at dksX5_mark_5 18 rfl rfl)
theorem dX5_mark_138 : decode cX5_mark 138 = .ok (.ireturn, 1) := dk_172 (dk_at dksX5_mark_5 19 rfl rfl)
abbrev cX5_forget : ByteArray := prog_20_method_66_code
def yX5_forget : MethodName := ⟨RX5, "forget", "(I)I"⟩
def dkwX5_forget_2 : List UInt8 := [180, 0, 7, 28, 3, 79, 29, 172]
abbrev dktX5_forget_2 : List UInt8 := dkwX5_forget_2 ++ []
def dkwX5_forget_1 : List UInt8 := [167, 0, 15, 27, 4, 160, 0, 8, 16, 48, 167, 0, 5, 16, 73, 61, 42, 180, 0, 7, 28, 46, 62, 42]
abbrev dktX5_forget_1 : List UInt8 := dkwX5_forget_1 ++ dktX5_forget_2
def dkwX5_forget_0 : List UInt8 := [27, 3, 5, 184, 0, 51, 154, 0, 10, 42, 16, 254, 182, 0, 55, 172, 27, 154, 0, 8, 16, 35]
abbrev dktX5_forget_0 : List UInt8 := dkwX5_forget_0 ++ dktX5_forget_1
theorem dksX5_forget_0 : cX5_forget.data.toList.drop 0 = dktX5_forget_0 := by decide +kernel
theorem dksX5_forget_1 : cX5_forget.data.toList.drop 22 = dktX5_forget_1 := dk_seg dksX5_forget_0 22 rfl rfl
theorem dksX5_forget_2 : cX5_forget.data.toList.drop 46 = dktX5_forget_2 := dk_seg dksX5_forget_1 24 rfl rfl
theorem dX5_forget_0 : decode cX5_forget 0 = .ok (.iload_n 1, 1) := dk_27 (dk_at dksX5_forget_0 0 rfl rfl)
theorem dX5_forget_1 : decode cX5_forget 1 = .ok (.iconst 0, 1) := dk_3 (dk_at dksX5_forget_0 1 rfl rfl)
theorem dX5_forget_2 : decode cX5_forget 2 = .ok (.iconst 2, 1) := dk_5 (dk_at dksX5_forget_0 2 rfl rfl)
theorem dX5_forget_3 : decode cX5_forget 3 = .ok (.invokestatic 51, 3) := dk_184 0 51 (dk_at dksX5_forget_0 3 rfl rfl)
theorem dX5_forget_6 : decode cX5_forget 6 = .ok (.ifCond .ne 10, 3) := dk_154 0 10 (dk_at dksX5_forget_0 6 rfl rfl)
theorem dX5_forget_9 : decode cX5_forget 9 = .ok (.aload_n 0, 1) := dk_42 (dk_at dksX5_forget_0 9 rfl rfl)
theorem dX5_forget_10 : decode cX5_forget 10 = .ok (.bipush (-2), 2) := dk_16 254 (dk_at dksX5_forget_0 10 rfl rfl)
theorem dX5_forget_12 : decode cX5_forget 12 = .ok (.invokevirtual 55, 3) := dk_182 0 55 (dk_at dksX5_forget_0 12 rfl rfl)
theorem dX5_forget_15 : decode cX5_forget 15 = .ok (.ireturn, 1) := dk_172 (dk_at dksX5_forget_0 15 rfl rfl)
theorem dX5_forget_16 : decode cX5_forget 16 = .ok (.iload_n 1, 1) := dk_27 (dk_at dksX5_forget_0 16 rfl rfl)
theorem dX5_forget_17 : decode cX5_forget 17 = .ok (.ifCond .ne 8, 3) := dk_154 0 8 (dk_at dksX5_forget_0 17 rfl rfl)
theorem dX5_forget_20 : decode cX5_forget 20 = .ok (.bipush 35, 2) := dk_16 35 (dk_at dksX5_forget_0 20 rfl rfl)
theorem dX5_forget_22 : decode cX5_forget 22 = .ok (.goto 15, 3) := dk_167 0 15 (dk_at dksX5_forget_1 0 rfl rfl)
theorem dX5_forget_25 : decode cX5_forget 25 = .ok (.iload_n 1, 1) := dk_27 (dk_at dksX5_forget_1 3 rfl rfl)
theorem dX5_forget_26 : decode cX5_forget 26 = .ok (.iconst 1, 1) := dk_4 (dk_at dksX5_forget_1 4 rfl rfl)
theorem dX5_forget_27 : decode cX5_forget 27 = .ok (.if_icmp .ne 8, 3) := dk_160 0 8 (dk_at dksX5_forget_1 5 rfl rfl)
theorem dX5_forget_30 : decode cX5_forget 30 = .ok (.bipush 48, 2) := dk_16 48 (dk_at dksX5_forget_1 8 rfl rfl)
theorem dX5_forget_32 : decode cX5_forget 32 = .ok (.goto 5, 3) := dk_167 0 5 (dk_at dksX5_forget_1 10 rfl rfl)
theorem dX5_forget_35 : decode cX5_forget 35 = .ok (.bipush 73, 2) := dk_16 73 (dk_at dksX5_forget_1 13 rfl rfl)
theorem dX5_forget_37 : decode cX5_forget 37 = .ok (.istore_n 2, 1) := dk_61 (dk_at dksX5_forget_1 15 rfl rfl)
theorem dX5_forget_38 : decode cX5_forget 38 = .ok (.aload_n 0, 1) := dk_42 (dk_at dksX5_forget_1 16 rfl rfl)
theorem dX5_forget_39 : decode cX5_forget 39 = .ok (.getfield 7, 3) := dk_180 0 7 (dk_at dksX5_forget_1 17 rfl rfl)
theorem dX5_forget_42 : decode cX5_forget 42 = .ok (.iload_n 2, 1) := dk_28 (dk_at dksX5_forget_1 20 rfl rfl)
theorem dX5_forget_43 : decode cX5_forget 43 = .ok (.iaload, 1) := dk_46 (dk_at dksX5_forget_1 21 rfl rfl)
theorem dX5_forget_44 : decode cX5_forget 44 = .ok (.istore_n 3, 1) := dk_62 (dk_at dksX5_forget_1 22 rfl rfl)
theorem dX5_forget_45 : decode cX5_forget 45 = .ok (.aload_n 0, 1) := dk_42 (dk_at dksX5_forget_1 23 rfl rfl)
theorem dX5_forget_46 : decode cX5_forget 46 = .ok (.getfield 7, 3) := dk_180 0 7 (dk_at dksX5_forget_2 0 rfl rfl)
theorem dX5_forget_49 : decode cX5_forget 49 = .ok (.iload_n 2, 1) := dk_28 (dk_at dksX5_forget_2 3 rfl rfl)
theorem dX5_forget_50 : decode cX5_forget 50 = .ok (.iconst 0, 1) := dk_3 (dk_at dksX5_forget_2 4 rfl rfl)
theorem dX5_forget_51 : decode cX5_forget 51 = .ok (.iastore, 1) := dk_79 (dk_at dksX5_forget_2 5 rfl rfl)
theorem dX5_forget_52 : decode cX5_forget 52 = .ok (.iload_n 3, 1) := dk_29 (dk_at dksX5_forget_2 6 rfl rfl)
theorem dX5_forget_53 : decode cX5_forget 53 = .ok (.ireturn, 1) := dk_172 (dk_at dksX5_forget_2 7 rfl rfl)
abbrev cX5_is : ByteArray := prog_20_method_68_code
def yX5_is : MethodName := ⟨RX5, "is", "(I)I"⟩
def dkwX5_is_0 : List UInt8 := [42, 27, 182, 0, 159, 153, 0, 11, 42, 27, 182, 0, 201, 167, 0, 9, 42, 16, 254, 182, 0, 55, 172]
abbrev dktX5_is_0 : List UInt8 := dkwX5_is_0 ++ []
theorem dksX5_is_0 : cX5_is.data.toList.drop 0 = dktX5_is_0 := by decide +kernel
theorem dX5_is_0 : decode cX5_is 0 = .ok (.aload_n 0, 1) := dk_42 (dk_at dksX5_is_0 0 rfl rfl)
theorem dX5_is_1 : decode cX5_is 1 = .ok (.iload_n 1, 1) := dk_27 (dk_at dksX5_is_0 1 rfl rfl)
theorem dX5_is_2 : decode cX5_is 2 = .ok (.invokevirtual 159, 3) := dk_182 0 159 (dk_at dksX5_is_0 2 rfl rfl)
theorem dX5_is_5 : decode cX5_is 5 = .ok (.ifCond .eq 11, 3) := dk_153 0 11 (dk_at dksX5_is_0 5 rfl rfl)
theorem dX5_is_8 : decode cX5_is 8 = .ok (.aload_n 0, 1) := dk_42 (dk_at dksX5_is_0 8 rfl rfl)
theorem dX5_is_9 : decode cX5_is 9 = .ok (.iload_n 1, 1) := dk_27 (dk_at dksX5_is_0 9 rfl rfl)
theorem dX5_is_10 : decode cX5_is 10 = .ok (.invokevirtual 201, 3) := dk_182 0 201 (dk_at dksX5_is_0 10 rfl rfl)
theorem dX5_is_13 : decode cX5_is 13 = .ok (.goto 9, 3) := dk_167 0 9 (dk_at dksX5_is_0 13 rfl rfl)
theorem dX5_is_16 : decode cX5_is 16 = .ok (.aload_n 0, 1) := dk_42 (dk_at dksX5_is_0 16 rfl rfl)
theorem dX5_is_17 : decode cX5_is 17 = .ok (.bipush (-2), 2) := dk_16 254 (dk_at dksX5_is_0 17 rfl rfl)
theorem dX5_is_19 : decode cX5_is 19 = .ok (.invokevirtual 55, 3) := dk_182 0 55 (dk_at dksX5_is_0 19 rfl rfl)
theorem dX5_is_22 : decode cX5_is 22 = .ok (.ireturn, 1) := dk_172 (dk_at dksX5_is_0 22 rfl rfl)
abbrev cX5_kindsOf : ByteArray := prog_20_method_67_code
def yX5_kindsOf : MethodName := ⟨RX5, "kindsOf", "(I)I"⟩
def dkwX5_kindsOf_4 : List UInt8 := [21, 4, 120, 2, 130, 126, 61, 132, 4, 1, 167, 255, 178, 132, 3, 4, 167, 255, 153, 28, 172]
abbrev dktX5_kindsOf_4 : List UInt8 := dkwX5_kindsOf_4 ++ []
def dkwX5_kindsOf_3 : List UInt8 := [96, 46, 160, 0, 7, 4, 167, 0, 4, 3, 54, 5, 28, 21, 5, 153, 0, 8, 16, 63, 167, 0, 9, 4]
abbrev dktX5_kindsOf_3 : List UInt8 := dkwX5_kindsOf_3 ++ dktX5_kindsOf_4
def dkwX5_kindsOf_2 : List UInt8 := [180, 0, 7, 29, 4, 96, 46, 42, 180, 0, 7, 29, 5, 96, 46, 184, 0, 135, 42, 180, 0, 7, 29, 6]
abbrev dktX5_kindsOf_2 : List UInt8 := dkwX5_kindsOf_2 ++ dktX5_kindsOf_3
def dkwX5_kindsOf_1 : List UInt8 := [54, 4, 21, 4, 16, 6, 162, 0, 77, 42, 180, 0, 7, 29, 46, 27, 160, 0, 35, 21, 4, 42]
abbrev dktX5_kindsOf_1 : List UInt8 := dkwX5_kindsOf_1 ++ dktX5_kindsOf_2
def dkwX5_kindsOf_0 : List UInt8 := [16, 63, 61, 16, 49, 62, 29, 16, 49, 7, 42, 180, 0, 7, 16, 48, 46, 104, 96, 162, 0, 93, 3]
abbrev dktX5_kindsOf_0 : List UInt8 := dkwX5_kindsOf_0 ++ dktX5_kindsOf_1
theorem dksX5_kindsOf_0 : cX5_kindsOf.data.toList.drop 0 = dktX5_kindsOf_0 := by decide +kernel
theorem dksX5_kindsOf_1 : cX5_kindsOf.data.toList.drop 23 = dktX5_kindsOf_1 := dk_seg dksX5_kindsOf_0 23 rfl rfl
theorem dksX5_kindsOf_2 : cX5_kindsOf.data.toList.drop 45 = dktX5_kindsOf_2 := dk_seg dksX5_kindsOf_1 22 rfl rfl
theorem dksX5_kindsOf_3 : cX5_kindsOf.data.toList.drop 69 = dktX5_kindsOf_3 := dk_seg dksX5_kindsOf_2 24 rfl rfl
theorem dksX5_kindsOf_4 : cX5_kindsOf.data.toList.drop 93 = dktX5_kindsOf_4 := dk_seg dksX5_kindsOf_3 24 rfl rfl
theorem dX5_kindsOf_0 : decode cX5_kindsOf 0 = .ok (.bipush 63, 2) := dk_16 63 (dk_at dksX5_kindsOf_0 0 rfl rfl)
theorem dX5_kindsOf_2 : decode cX5_kindsOf 2 = .ok (.istore_n 2, 1) := dk_61 (dk_at dksX5_kindsOf_0 2 rfl rfl)
theorem dX5_kindsOf_3 : decode cX5_kindsOf 3 = .ok (.bipush 49, 2) := dk_16 49 (dk_at dksX5_kindsOf_0 3 rfl rfl)
theorem dX5_kindsOf_5 : decode cX5_kindsOf 5 = .ok (.istore_n 3, 1) := dk_62 (dk_at dksX5_kindsOf_0 5 rfl rfl)
theorem dX5_kindsOf_6 : decode cX5_kindsOf 6 = .ok (.iload_n 3, 1) := dk_29 (dk_at dksX5_kindsOf_0 6 rfl rfl)
theorem dX5_kindsOf_7 : decode cX5_kindsOf 7 = .ok (.bipush 49, 2) := dk_16 49 (dk_at dksX5_kindsOf_0 7 rfl rfl)
theorem dX5_kindsOf_9 : decode cX5_kindsOf 9 = .ok (.iconst 4, 1) := dk_7 (dk_at dksX5_kindsOf_0 9 rfl rfl)
theorem dX5_kindsOf_10 : decode cX5_kindsOf 10 = .ok (.aload_n 0, 1) := dk_42 (dk_at dksX5_kindsOf_0 10 rfl rfl)
theorem dX5_kindsOf_11 : decode cX5_kindsOf 11 = .ok (.getfield 7, 3) := dk_180 0 7 (dk_at dksX5_kindsOf_0 11 rfl rfl)
theorem dX5_kindsOf_14 : decode cX5_kindsOf 14 = .ok (.bipush 48, 2) := dk_16 48 (dk_at dksX5_kindsOf_0 14 rfl rfl)
theorem dX5_kindsOf_16 : decode cX5_kindsOf 16 = .ok (.iaload, 1) := dk_46 (dk_at dksX5_kindsOf_0 16 rfl rfl)
theorem dX5_kindsOf_17 : decode cX5_kindsOf 17 = .ok (.imul, 1) := dk_104 (dk_at dksX5_kindsOf_0 17 rfl rfl)
theorem dX5_kindsOf_18 : decode cX5_kindsOf 18 = .ok (.iadd, 1) := dk_96 (dk_at dksX5_kindsOf_0 18 rfl rfl)
theorem dX5_kindsOf_19 : decode cX5_kindsOf 19 = .ok (.if_icmp .ge 93, 3) := dk_162 0 93 (dk_at dksX5_kindsOf_0 19 rfl rfl)
theorem dX5_kindsOf_22 : decode cX5_kindsOf 22 = .ok (.iconst 0, 1) := dk_3 (dk_at dksX5_kindsOf_0 22 rfl rfl)
theorem dX5_kindsOf_23 : decode cX5_kindsOf 23 = .ok (.istore 4, 2) := dk_54 4 (dk_at dksX5_kindsOf_1 0 rfl rfl)
theorem dX5_kindsOf_25 : decode cX5_kindsOf 25 = .ok (.iload 4, 2) := dk_21 4 (dk_at dksX5_kindsOf_1 2 rfl rfl)
theorem dX5_kindsOf_27 : decode cX5_kindsOf 27 = .ok (.bipush 6, 2) := dk_16 6 (dk_at dksX5_kindsOf_1 4 rfl rfl)
theorem dX5_kindsOf_29 : decode cX5_kindsOf 29 = .ok (.if_icmp .ge 77, 3) := dk_162 0 77 (dk_at dksX5_kindsOf_1 6 rfl rfl)
theorem dX5_kindsOf_32 : decode cX5_kindsOf 32 = .ok (.aload_n 0, 1) := dk_42 (dk_at dksX5_kindsOf_1 9 rfl rfl)
theorem dX5_kindsOf_33 : decode cX5_kindsOf 33 = .ok (.getfield 7, 3) := dk_180 0 7 (dk_at dksX5_kindsOf_1 10 rfl rfl)
theorem dX5_kindsOf_36 : decode cX5_kindsOf 36 = .ok (.iload_n 3, 1) := dk_29 (dk_at dksX5_kindsOf_1 13 rfl rfl)
theorem dX5_kindsOf_37 : decode cX5_kindsOf 37 = .ok (.iaload, 1) := dk_46 (dk_at dksX5_kindsOf_1 14 rfl rfl)
theorem dX5_kindsOf_38 : decode cX5_kindsOf 38 = .ok (.iload_n 1, 1) := dk_27 (dk_at dksX5_kindsOf_1 15 rfl rfl)
theorem dX5_kindsOf_39 : decode cX5_kindsOf 39 = .ok (.if_icmp .ne 35, 3) := dk_160 0 35 (dk_at dksX5_kindsOf_1 16 rfl rfl)
theorem dX5_kindsOf_42 : decode cX5_kindsOf 42 = .ok (.iload 4, 2) := dk_21 4 (dk_at dksX5_kindsOf_1 19 rfl rfl)
theorem dX5_kindsOf_44 : decode cX5_kindsOf 44 = .ok (.aload_n 0, 1) := dk_42 (dk_at dksX5_kindsOf_1 21 rfl rfl)
theorem dX5_kindsOf_45 : decode cX5_kindsOf 45 = .ok (.getfield 7, 3) := dk_180 0 7 (dk_at dksX5_kindsOf_2 0 rfl rfl)
theorem dX5_kindsOf_48 : decode cX5_kindsOf 48 = .ok (.iload_n 3, 1) := dk_29 (dk_at dksX5_kindsOf_2 3 rfl rfl)
theorem dX5_kindsOf_49 : decode cX5_kindsOf 49 = .ok (.iconst 1, 1) := dk_4 (dk_at dksX5_kindsOf_2 4 rfl rfl)
theorem dX5_kindsOf_50 : decode cX5_kindsOf 50 = .ok (.iadd, 1) := dk_96 (dk_at dksX5_kindsOf_2 5 rfl rfl)
theorem dX5_kindsOf_51 : decode cX5_kindsOf 51 = .ok (.iaload, 1) := dk_46 (dk_at dksX5_kindsOf_2 6 rfl rfl)
theorem dX5_kindsOf_52 : decode cX5_kindsOf 52 = .ok (.aload_n 0, 1) := dk_42 (dk_at dksX5_kindsOf_2 7 rfl rfl)
theorem dX5_kindsOf_53 : decode cX5_kindsOf 53 = .ok (.getfield 7, 3) := dk_180 0 7 (dk_at dksX5_kindsOf_2 8 rfl rfl)
theorem dX5_kindsOf_56 : decode cX5_kindsOf 56 = .ok (.iload_n 3, 1) := dk_29 (dk_at dksX5_kindsOf_2 11 rfl rfl)
theorem dX5_kindsOf_57 : decode cX5_kindsOf 57 = .ok (.iconst 2, 1) := dk_5 (dk_at dksX5_kindsOf_2 12 rfl rfl)
theorem dX5_kindsOf_58 : decode cX5_kindsOf 58 = .ok (.iadd, 1) := dk_96 (dk_at dksX5_kindsOf_2 13 rfl rfl)
theorem dX5_kindsOf_59 : decode cX5_kindsOf 59 = .ok (.iaload, 1) := dk_46 (dk_at dksX5_kindsOf_2 14 rfl rfl)
theorem dX5_kindsOf_60 : decode cX5_kindsOf 60 = .ok (.invokestatic 135, 3) := dk_184 0 135 (dk_at dksX5_kindsOf_2 15 rfl rfl)
theorem dX5_kindsOf_63 : decode cX5_kindsOf 63 = .ok (.aload_n 0, 1) := dk_42 (dk_at dksX5_kindsOf_2 18 rfl rfl)
theorem dX5_kindsOf_64 : decode cX5_kindsOf 64 = .ok (.getfield 7, 3) := dk_180 0 7 (dk_at dksX5_kindsOf_2 19 rfl rfl)
theorem dX5_kindsOf_67 : decode cX5_kindsOf 67 = .ok (.iload_n 3, 1) := dk_29 (dk_at dksX5_kindsOf_2 22 rfl rfl)
theorem dX5_kindsOf_68 : decode cX5_kindsOf 68 = .ok (.iconst 3, 1) := dk_6 (dk_at dksX5_kindsOf_2 23 rfl rfl)
theorem dX5_kindsOf_69 : decode cX5_kindsOf 69 = .ok (.iadd, 1) := dk_96 (dk_at dksX5_kindsOf_3 0 rfl rfl)
theorem dX5_kindsOf_70 : decode cX5_kindsOf 70 = .ok (.iaload, 1) := dk_46 (dk_at dksX5_kindsOf_3 1 rfl rfl)
theorem dX5_kindsOf_71 : decode cX5_kindsOf 71 = .ok (.if_icmp .ne 7, 3) := dk_160 0 7 (dk_at dksX5_kindsOf_3 2 rfl rfl)
theorem dX5_kindsOf_74 : decode cX5_kindsOf 74 = .ok (.iconst 1, 1) := dk_4 (dk_at dksX5_kindsOf_3 5 rfl rfl)
theorem dX5_kindsOf_75 : decode cX5_kindsOf 75 = .ok (.goto 4, 3) := dk_167 0 4 (dk_at dksX5_kindsOf_3 6 rfl rfl)
theorem dX5_kindsOf_78 : decode cX5_kindsOf 78 = .ok (.iconst 0, 1) := dk_3 (dk_at dksX5_kindsOf_3 9 rfl rfl)
theorem dX5_kindsOf_79 : decode cX5_kindsOf 79 = .ok (.istore 5, 2) := dk_54 5 (dk_at dksX5_kindsOf_3 10 rfl rfl)
theorem dX5_kindsOf_81 : decode cX5_kindsOf 81 = .ok (.iload_n 2, 1) := dk_28 (dk_at dksX5_kindsOf_3 12 rfl rfl)
theorem dX5_kindsOf_82 : decode cX5_kindsOf 82 = .ok (.iload 5, 2) := dk_21 5 (dk_at dksX5_kindsOf_3 13 rfl rfl)
theorem dX5_kindsOf_84 : decode cX5_kindsOf 84 = .ok (.ifCond .eq 8, 3) := dk_153 0 8 (dk_at dksX5_kindsOf_3 15 rfl rfl)
theorem dX5_kindsOf_87 : decode cX5_kindsOf 87 = .ok (.bipush 63, 2) := dk_16 63 (dk_at dksX5_kindsOf_3 18 rfl rfl)
theorem dX5_kindsOf_89 : decode cX5_kindsOf 89 = .ok (.goto 9, 3) := dk_167 0 9 (dk_at dksX5_kindsOf_3 20 rfl rfl)
theorem dX5_kindsOf_92 : decode cX5_kindsOf 92 = .ok (.iconst 1, 1) := dk_4 (dk_at dksX5_kindsOf_3 23 rfl rfl)
theorem dX5_kindsOf_93 : decode cX5_kindsOf 93 = .ok (.iload 4, 2) := dk_21 4 (dk_at dksX5_kindsOf_4 0 rfl rfl)
theorem dX5_kindsOf_95 : decode cX5_kindsOf 95 = .ok (.ishl, 1) := dk_120 (dk_at dksX5_kindsOf_4 2 rfl rfl)
theorem dX5_kindsOf_96 : decode cX5_kindsOf 96 = .ok (.iconst (-1), 1) := dk_2 (dk_at dksX5_kindsOf_4 3 rfl rfl)
theorem dX5_kindsOf_97 : decode cX5_kindsOf 97 = .ok (.ixor, 1) := dk_130 (dk_at dksX5_kindsOf_4 4 rfl rfl)
theorem dX5_kindsOf_98 : decode cX5_kindsOf 98 = .ok (.iand, 1) := dk_126 (dk_at dksX5_kindsOf_4 5 rfl rfl)
theorem dX5_kindsOf_99 : decode cX5_kindsOf 99 = .ok (.istore_n 2, 1) := dk_61 (dk_at dksX5_kindsOf_4 6 rfl rfl)
theorem dX5_kindsOf_100 : decode cX5_kindsOf 100 = .ok (.iinc 4 1, 3) := dk_132 4 1 (dk_at dksX5_kindsOf_4 7 rfl rfl)
theorem dX5_kindsOf_103 : decode cX5_kindsOf 103 = .ok (.goto (-78), 3) := dk_167 255 178 (dk_at dksX5_kindsOf_4 10 rfl rfl)
theorem dX5_kindsOf_106 : decode cX5_kindsOf 106 = .ok (.iinc 3 4, 3) := dk_132 3 4 (dk_at dksX5_kindsOf_4 13 rfl rfl)
theorem dX5_kindsOf_109 : decode cX5_kindsOf 109 = .ok (.goto (-103), 3) := dk_167 255 153 (dk_at dksX5_kindsOf_4 16 rfl rfl)
theorem dX5_kindsOf_112 : decode cX5_kindsOf 112 = .ok (.iload_n 2, 1) := dk_28 (dk_at dksX5_kindsOf_4 19 rfl rfl)
theorem dX5_kindsOf_113 : decode cX5_kindsOf 113 = .ok (.ireturn, 1) := dk_172 (dk_at dksX5_kindsOf_4 20 rfl rfl)
abbrev cX5_look : ByteArray := prog_20_method_70_code
def yX5_look : MethodName := ⟨RX5, "look", "(I)I"⟩
def dkwX5_look_5 : List UInt8 := [132, 5, 1, 167, 255, 167, 29, 172]
abbrev dktX5_look_5 : List UInt8 := dkwX5_look_5 ++ []
def dkwX5_look_4 : List UInt8 := [21, 5, 167, 0, 4, 29, 62, 21, 6, 21, 4, 162, 0, 8, 21, 6, 167, 0, 5, 21, 4, 54, 4]
abbrev dktX5_look_4 : List UInt8 := dkwX5_look_4 ++ dktX5_look_5
def dkwX5_look_3 : List UInt8 := [184, 0, 135, 79, 132, 6, 1, 167, 255, 224, 42, 28, 182, 0, 204, 54, 6, 21, 6, 21, 4, 162, 0, 8]
abbrev dktX5_look_3 : List UInt8 := dkwX5_look_3 ++ dktX5_look_4
def dkwX5_look_2 : List UInt8 := [16, 6, 162, 0, 31, 42, 180, 0, 45, 21, 6, 21, 6, 21, 5, 16, 10, 112, 21, 5, 16, 10, 108]
abbrev dktX5_look_2 : List UInt8 := dkwX5_look_2 ++ dktX5_look_3
def dkwX5_look_1 : List UInt8 := [16, 99, 54, 4, 3, 54, 5, 21, 5, 16, 120, 162, 0, 88, 28, 153, 0, 84, 3, 54, 6, 21, 6]
abbrev dktX5_look_1 : List UInt8 := dkwX5_look_1 ++ dktX5_look_2
def dkwX5_look_0 : List UInt8 := [42, 27, 182, 0, 159, 154, 0, 10, 42, 16, 254, 182, 0, 55, 172, 42, 27, 182, 0, 201, 61, 2, 62]
abbrev dktX5_look_0 : List UInt8 := dkwX5_look_0 ++ dktX5_look_1
theorem dksX5_look_0 : cX5_look.data.toList.drop 0 = dktX5_look_0 := by decide +kernel
theorem dksX5_look_1 : cX5_look.data.toList.drop 23 = dktX5_look_1 := dk_seg dksX5_look_0 23 rfl rfl
theorem dksX5_look_2 : cX5_look.data.toList.drop 46 = dktX5_look_2 := dk_seg dksX5_look_1 23 rfl rfl
theorem dksX5_look_3 : cX5_look.data.toList.drop 69 = dktX5_look_3 := dk_seg dksX5_look_2 23 rfl rfl
theorem dksX5_look_4 : cX5_look.data.toList.drop 93 = dktX5_look_4 := dk_seg dksX5_look_3 24 rfl rfl
theorem dksX5_look_5 : cX5_look.data.toList.drop 116 = dktX5_look_5 := dk_seg dksX5_look_4 23 rfl rfl
theorem dX5_look_0 : decode cX5_look 0 = .ok (.aload_n 0, 1) := dk_42 (dk_at dksX5_look_0 0 rfl rfl)
theorem dX5_look_1 : decode cX5_look 1 = .ok (.iload_n 1, 1) := dk_27 (dk_at dksX5_look_0 1 rfl rfl)
theorem dX5_look_2 : decode cX5_look 2 = .ok (.invokevirtual 159, 3) := dk_182 0 159 (dk_at dksX5_look_0 2 rfl rfl)
theorem dX5_look_5 : decode cX5_look 5 = .ok (.ifCond .ne 10, 3) := dk_154 0 10 (dk_at dksX5_look_0 5 rfl rfl)
theorem dX5_look_8 : decode cX5_look 8 = .ok (.aload_n 0, 1) := dk_42 (dk_at dksX5_look_0 8 rfl rfl)
theorem dX5_look_9 : decode cX5_look 9 = .ok (.bipush (-2), 2) := dk_16 254 (dk_at dksX5_look_0 9 rfl rfl)
theorem dX5_look_11 : decode cX5_look 11 = .ok (.invokevirtual 55, 3) := dk_182 0 55 (dk_at dksX5_look_0 11 rfl rfl)
theorem dX5_look_14 : decode cX5_look 14 = .ok (.ireturn, 1) := dk_172 (dk_at dksX5_look_0 14 rfl rfl)
theorem dX5_look_15 : decode cX5_look 15 = .ok (.aload_n 0, 1) := dk_42 (dk_at dksX5_look_0 15 rfl rfl)
theorem dX5_look_16 : decode cX5_look 16 = .ok (.iload_n 1, 1) := dk_27 (dk_at dksX5_look_0 16 rfl rfl)
theorem dX5_look_17 : decode cX5_look 17 = .ok (.invokevirtual 201, 3) := dk_182 0 201 (dk_at dksX5_look_0 17 rfl rfl)
theorem dX5_look_20 : decode cX5_look 20 = .ok (.istore_n 2, 1) := dk_61 (dk_at dksX5_look_0 20 rfl rfl)
theorem dX5_look_21 : decode cX5_look 21 = .ok (.iconst (-1), 1) := dk_2 (dk_at dksX5_look_0 21 rfl rfl)
theorem dX5_look_22 : decode cX5_look 22 = .ok (.istore_n 3, 1) := dk_62 (dk_at dksX5_look_0 22 rfl rfl)
theorem dX5_look_23 : decode cX5_look 23 = .ok (.bipush 99, 2) := dk_16 99 (dk_at dksX5_look_1 0 rfl rfl)
theorem dX5_look_25 : decode cX5_look 25 = .ok (.istore 4, 2) := dk_54 4 (dk_at dksX5_look_1 2 rfl rfl)
theorem dX5_look_27 : decode cX5_look 27 = .ok (.iconst 0, 1) := dk_3 (dk_at dksX5_look_1 4 rfl rfl)
theorem dX5_look_28 : decode cX5_look 28 = .ok (.istore 5, 2) := dk_54 5 (dk_at dksX5_look_1 5 rfl rfl)
theorem dX5_look_30 : decode cX5_look 30 = .ok (.iload 5, 2) := dk_21 5 (dk_at dksX5_look_1 7 rfl rfl)
theorem dX5_look_32 : decode cX5_look 32 = .ok (.bipush 120, 2) := dk_16 120 (dk_at dksX5_look_1 9 rfl rfl)
theorem dX5_look_34 : decode cX5_look 34 = .ok (.if_icmp .ge 88, 3) := dk_162 0 88 (dk_at dksX5_look_1 11 rfl rfl)
theorem dX5_look_37 : decode cX5_look 37 = .ok (.iload_n 2, 1) := dk_28 (dk_at dksX5_look_1 14 rfl rfl)
theorem dX5_look_38 : decode cX5_look 38 = .ok (.ifCond .eq 84, 3) := dk_153 0 84 (dk_at dksX5_look_1 15 rfl rfl)
theorem dX5_look_41 : decode cX5_look 41 = .ok (.iconst 0, 1) := dk_3 (dk_at dksX5_look_1 18 rfl rfl)
theorem dX5_look_42 : decode cX5_look 42 = .ok (.istore 6, 2) := dk_54 6 (dk_at dksX5_look_1 19 rfl rfl)
theorem dX5_look_44 : decode cX5_look 44 = .ok (.iload 6, 2) := dk_21 6 (dk_at dksX5_look_1 21 rfl rfl)
theorem dX5_look_46 : decode cX5_look 46 = .ok (.bipush 6, 2) := dk_16 6 (dk_at dksX5_look_2 0 rfl rfl)
theorem dX5_look_48 : decode cX5_look 48 = .ok (.if_icmp .ge 31, 3) := dk_162 0 31 (dk_at dksX5_look_2 2 rfl rfl)
theorem dX5_look_51 : decode cX5_look 51 = .ok (.aload_n 0, 1) := dk_42 (dk_at dksX5_look_2 5 rfl rfl)
theorem dX5_look_52 : decode cX5_look 52 = .ok (.getfield 45, 3) := dk_180 0 45 (dk_at dksX5_look_2 6 rfl rfl)
theorem dX5_look_55 : decode cX5_look 55 = .ok (.iload 6, 2) := dk_21 6 (dk_at dksX5_look_2 9 rfl rfl)
theorem dX5_look_57 : decode cX5_look 57 = .ok (.iload 6, 2) := dk_21 6 (dk_at dksX5_look_2 11 rfl rfl)
theorem dX5_look_59 : decode cX5_look 59 = .ok (.iload 5, 2) := dk_21 5 (dk_at dksX5_look_2 13 rfl rfl)
theorem dX5_look_61 : decode cX5_look 61 = .ok (.bipush 10, 2) := dk_16 10 (dk_at dksX5_look_2 15 rfl rfl)
theorem dX5_look_63 : decode cX5_look 63 = .ok (.irem, 1) := dk_112 (dk_at dksX5_look_2 17 rfl rfl)
theorem dX5_look_64 : decode cX5_look 64 = .ok (.iload 5, 2) := dk_21 5 (dk_at dksX5_look_2 18 rfl rfl)
theorem dX5_look_66 : decode cX5_look 66 = .ok (.bipush 10, 2) := dk_16 10 (dk_at dksX5_look_2 20 rfl rfl)
theorem dX5_look_68 : decode cX5_look 68 = .ok (.idiv, 1) := dk_108 (dk_at dksX5_look_2 22 rfl rfl)
theorem dX5_look_69 : decode cX5_look 69 = .ok (.invokestatic 135, 3) := dk_184 0 135 (dk_at dksX5_look_3 0 rfl rfl)
theorem dX5_look_72 : decode cX5_look 72 = .ok (.iastore, 1) := dk_79 (dk_at dksX5_look_3 3 rfl rfl)
theorem dX5_look_73 : decode cX5_look 73 = .ok (.iinc 6 1, 3) := dk_132 6 1 (dk_at dksX5_look_3 4 rfl rfl)
theorem dX5_look_76 : decode cX5_look 76 = .ok (.goto (-32), 3) := dk_167 255 224 (dk_at dksX5_look_3 7 rfl rfl)
theorem dX5_look_79 : decode cX5_look 79 = .ok (.aload_n 0, 1) := dk_42 (dk_at dksX5_look_3 10 rfl rfl)
theorem dX5_look_80 : decode cX5_look 80 = .ok (.iload_n 2, 1) := dk_28 (dk_at dksX5_look_3 11 rfl rfl)
theorem dX5_look_81 : decode cX5_look 81 = .ok (.invokevirtual 204, 3) := dk_182 0 204 (dk_at dksX5_look_3 12 rfl rfl)
theorem dX5_look_84 : decode cX5_look 84 = .ok (.istore 6, 2) := dk_54 6 (dk_at dksX5_look_3 15 rfl rfl)
theorem dX5_look_86 : decode cX5_look 86 = .ok (.iload 6, 2) := dk_21 6 (dk_at dksX5_look_3 17 rfl rfl)
theorem dX5_look_88 : decode cX5_look 88 = .ok (.iload 4, 2) := dk_21 4 (dk_at dksX5_look_3 19 rfl rfl)
theorem dX5_look_90 : decode cX5_look 90 = .ok (.if_icmp .ge 8, 3) := dk_162 0 8 (dk_at dksX5_look_3 21 rfl rfl)
theorem dX5_look_93 : decode cX5_look 93 = .ok (.iload 5, 2) := dk_21 5 (dk_at dksX5_look_4 0 rfl rfl)
theorem dX5_look_95 : decode cX5_look 95 = .ok (.goto 4, 3) := dk_167 0 4 (dk_at dksX5_look_4 2 rfl rfl)
theorem dX5_look_98 : decode cX5_look 98 = .ok (.iload_n 3, 1) := dk_29 (dk_at dksX5_look_4 5 rfl rfl)
theorem dX5_look_99 : decode cX5_look 99 = .ok (.istore_n 3, 1) := dk_62 (dk_at dksX5_look_4 6 rfl rfl)
theorem dX5_look_100 : decode cX5_look 100 = .ok (.iload 6, 2) := dk_21 6 (dk_at dksX5_look_4 7 rfl rfl)
theorem dX5_look_102 : decode cX5_look 102 = .ok (.iload 4, 2) := dk_21 4 (dk_at dksX5_look_4 9 rfl rfl)
theorem dX5_look_104 : decode cX5_look 104 = .ok (.if_icmp .ge 8, 3) := dk_162 0 8 (dk_at dksX5_look_4 11 rfl rfl)
theorem dX5_look_107 : decode cX5_look 107 = .ok (.iload 6, 2) := dk_21 6 (dk_at dksX5_look_4 14 rfl rfl)
theorem dX5_look_109 : decode cX5_look 109 = .ok (.goto 5, 3) := dk_167 0 5 (dk_at dksX5_look_4 16 rfl rfl)
theorem dX5_look_112 : decode cX5_look 112 = .ok (.iload 4, 2) := dk_21 4 (dk_at dksX5_look_4 19 rfl rfl)
theorem dX5_look_114 : decode cX5_look 114 = .ok (.istore 4, 2) := dk_54 4 (dk_at dksX5_look_4 21 rfl rfl)
theorem dX5_look_116 : decode cX5_look 116 = .ok (.iinc 5 1, 3) := dk_132 5 1 (dk_at dksX5_look_5 0 rfl rfl)
theorem dX5_look_119 : decode cX5_look 119 = .ok (.goto (-89), 3) := dk_167 255 167 (dk_at dksX5_look_5 3 rfl rfl)
theorem dX5_look_122 : decode cX5_look 122 = .ok (.iload_n 3, 1) := dk_29 (dk_at dksX5_look_5 6 rfl rfl)
theorem dX5_look_123 : decode cX5_look 123 = .ok (.ireturn, 1) := dk_172 (dk_at dksX5_look_5 7 rfl rfl)
abbrev cX5_mostAlike : ByteArray := prog_20_method_69_code
def yX5_mostAlike : MethodName := ⟨RX5, "mostAlike", "(I)I"⟩
def dkwX5_mostAlike_3 : List UInt8 := [167, 255, 203, 21, 4, 28, 164, 0, 8, 21, 4, 167, 0, 4, 28, 61, 132, 3, 1, 167, 255, 172, 28, 172]
abbrev dktX5_mostAlike_3 : List UInt8 := dkwX5_mostAlike_3 ++ []
def dkwX5_mostAlike_2 : List UInt8 := [46, 42, 180, 0, 45, 21, 5, 46, 160, 0, 7, 4, 167, 0, 4, 3, 96, 54, 4, 132, 5, 1]
abbrev dktX5_mostAlike_2 : List UInt8 := dkwX5_mostAlike_2 ++ dktX5_mostAlike_3
def dkwX5_mostAlike_1 : List UInt8 := [21, 4, 27, 29, 184, 0, 139, 153, 0, 32, 27, 21, 5, 184, 0, 139, 153, 0, 23, 42, 180, 0, 45, 29]
abbrev dktX5_mostAlike_1 : List UInt8 := dkwX5_mostAlike_1 ++ dktX5_mostAlike_2
def dkwX5_mostAlike_0 : List UInt8 := [3, 61, 3, 62, 29, 16, 6, 162, 0, 84, 3, 54, 4, 3, 54, 5, 21, 5, 16, 6, 162, 0, 52]
abbrev dktX5_mostAlike_0 : List UInt8 := dkwX5_mostAlike_0 ++ dktX5_mostAlike_1
theorem dksX5_mostAlike_0 : cX5_mostAlike.data.toList.drop 0 = dktX5_mostAlike_0 := by decide +kernel
theorem dksX5_mostAlike_1 : cX5_mostAlike.data.toList.drop 23 = dktX5_mostAlike_1 := dk_seg dksX5_mostAlike_0 23 rfl rfl
theorem dksX5_mostAlike_2 : cX5_mostAlike.data.toList.drop 47 = dktX5_mostAlike_2 := dk_seg dksX5_mostAlike_1 24 rfl rfl
theorem dksX5_mostAlike_3 : cX5_mostAlike.data.toList.drop 69 = dktX5_mostAlike_3 := dk_seg dksX5_mostAlike_2 22 rfl rfl
theorem dX5_mostAlike_0 : decode cX5_mostAlike 0 = .ok (.iconst 0, 1) := dk_3 (dk_at dksX5_mostAlike_0 0 rfl rfl)
theorem dX5_mostAlike_1 : decode cX5_mostAlike 1 = .ok (.istore_n 2, 1) := dk_61 (dk_at dksX5_mostAlike_0 1 rfl rfl)
theorem dX5_mostAlike_2 : decode cX5_mostAlike 2 = .ok (.iconst 0, 1) := dk_3 (dk_at dksX5_mostAlike_0 2 rfl rfl)
theorem dX5_mostAlike_3 : decode cX5_mostAlike 3 = .ok (.istore_n 3, 1) := dk_62 (dk_at dksX5_mostAlike_0 3 rfl rfl)
theorem dX5_mostAlike_4 : decode cX5_mostAlike 4 = .ok (.iload_n 3, 1) := dk_29 (dk_at dksX5_mostAlike_0 4 rfl rfl)
theorem dX5_mostAlike_5 : decode cX5_mostAlike 5 = .ok (.bipush 6, 2) := dk_16 6 (dk_at dksX5_mostAlike_0 5 rfl rfl)
theorem dX5_mostAlike_7 : decode cX5_mostAlike 7 = .ok (.if_icmp .ge 84, 3) := dk_162 0 84 (dk_at dksX5_mostAlike_0 7 rfl rfl)
theorem dX5_mostAlike_10 : decode cX5_mostAlike 10 = .ok (.iconst 0, 1) := dk_3 (dk_at dksX5_mostAlike_0 10 rfl rfl)
theorem dX5_mostAlike_11 : decode cX5_mostAlike 11 = .ok (.istore 4, 2) := dk_54 4 (dk_at dksX5_mostAlike_0 11 rfl rfl)
theorem dX5_mostAlike_13 : decode cX5_mostAlike 13 = .ok (.iconst 0, 1) := dk_3 (dk_at dksX5_mostAlike_0 13 rfl rfl)
theorem dX5_mostAlike_14 : decode cX5_mostAlike 14 = .ok (.istore 5, 2) := dk_54 5 (dk_at dksX5_mostAlike_0 14 rfl rfl)
theorem dX5_mostAlike_16 : decode cX5_mostAlike 16 = .ok (.iload 5, 2) := dk_21 5 (dk_at dksX5_mostAlike_0 16 rfl rfl)
theorem dX5_mostAlike_18 : decode cX5_mostAlike 18 = .ok (.bipush 6, 2) := dk_16 6 (dk_at dksX5_mostAlike_0 18 rfl rfl)
theorem dX5_mostAlike_20 : decode cX5_mostAlike 20 = .ok (.if_icmp .ge 52, 3) := dk_162 0 52 (dk_at dksX5_mostAlike_0 20 rfl rfl)
theorem dX5_mostAlike_23 : decode cX5_mostAlike 23 = .ok (.iload 4, 2) := dk_21 4 (dk_at dksX5_mostAlike_1 0 rfl rfl)
theorem dX5_mostAlike_25 : decode cX5_mostAlike 25 = .ok (.iload_n 1, 1) := dk_27 (dk_at dksX5_mostAlike_1 2 rfl rfl)
theorem dX5_mostAlike_26 : decode cX5_mostAlike 26 = .ok (.iload_n 3, 1) := dk_29 (dk_at dksX5_mostAlike_1 3 rfl rfl)
theorem dX5_mostAlike_27 : decode cX5_mostAlike 27 = .ok (.invokestatic 139, 3) := dk_184 0 139 (dk_at dksX5_mostAlike_1 4 rfl rfl)
theorem dX5_mostAlike_30 : decode cX5_mostAlike 30 = .ok (.ifCond .eq 32, 3) := dk_153 0 32 (dk_at dksX5_mostAlike_1 7 rfl rfl)
theorem dX5_mostAlike_33 : decode cX5_mostAlike 33 = .ok (.iload_n 1, 1) := dk_27 (dk_at dksX5_mostAlike_1 10 rfl rfl)
theorem dX5_mostAlike_34 : decode cX5_mostAlike 34 = .ok (.iload 5, 2) := dk_21 5 (dk_at dksX5_mostAlike_1 11 rfl rfl)
theorem dX5_mostAlike_36 : decode cX5_mostAlike 36 = .ok (.invokestatic 139, 3) := dk_184 0 139 (dk_at dksX5_mostAlike_1 13 rfl rfl)
theorem dX5_mostAlike_39 : decode cX5_mostAlike 39 = .ok (.ifCond .eq 23, 3) := dk_153 0 23 (dk_at dksX5_mostAlike_1 16 rfl rfl)
theorem dX5_mostAlike_42 : decode cX5_mostAlike 42 = .ok (.aload_n 0, 1) := dk_42 (dk_at dksX5_mostAlike_1 19 rfl rfl)
theorem dX5_mostAlike_43 : decode cX5_mostAlike 43 = .ok (.getfield 45, 3) := dk_180 0 45 (dk_at dksX5_mostAlike_1 20 rfl rfl)
theorem dX5_mostAlike_46 : decode cX5_mostAlike 46 = .ok (.iload_n 3, 1) := dk_29 (dk_at dksX5_mostAlike_1 23 rfl rfl)
theorem dX5_mostAlike_47 : decode cX5_mostAlike 47 = .ok (.iaload, 1) := dk_46 (dk_at dksX5_mostAlike_2 0 rfl rfl)
theorem dX5_mostAlike_48 : decode cX5_mostAlike 48 = .ok (.aload_n 0, 1) := dk_42 (dk_at dksX5_mostAlike_2 1 rfl rfl)
theorem dX5_mostAlike_49 : decode cX5_mostAlike 49 = .ok (.getfield 45, 3) := dk_180 0 45 (dk_at dksX5_mostAlike_2 2 rfl rfl)
theorem dX5_mostAlike_52 : decode cX5_mostAlike 52 = .ok (.iload 5, 2) := dk_21 5 (dk_at dksX5_mostAlike_2 5 rfl rfl)
theorem dX5_mostAlike_54 : decode cX5_mostAlike 54 = .ok (.iaload, 1) := dk_46 (dk_at dksX5_mostAlike_2 7 rfl rfl)
theorem dX5_mostAlike_55 : decode cX5_mostAlike 55 = .ok (.if_icmp .ne 7, 3) := dk_160 0 7 (dk_at dksX5_mostAlike_2 8 rfl rfl)
theorem dX5_mostAlike_58 : decode cX5_mostAlike 58 = .ok (.iconst 1, 1) := dk_4 (dk_at dksX5_mostAlike_2 11 rfl rfl)
theorem dX5_mostAlike_59 : decode cX5_mostAlike 59 = .ok (.goto 4, 3) := dk_167 0 4 (dk_at dksX5_mostAlike_2 12 rfl rfl)
theorem dX5_mostAlike_62 : decode cX5_mostAlike 62 = .ok (.iconst 0, 1) := dk_3 (dk_at dksX5_mostAlike_2 15 rfl rfl)
theorem dX5_mostAlike_63 : decode cX5_mostAlike 63 = .ok (.iadd, 1) := dk_96 (dk_at dksX5_mostAlike_2 16 rfl rfl)
theorem dX5_mostAlike_64 : decode cX5_mostAlike 64 = .ok (.istore 4, 2) := dk_54 4 (dk_at dksX5_mostAlike_2 17 rfl rfl)
theorem dX5_mostAlike_66 : decode cX5_mostAlike 66 = .ok (.iinc 5 1, 3) := dk_132 5 1 (dk_at dksX5_mostAlike_2 19 rfl rfl)
theorem dX5_mostAlike_69 : decode cX5_mostAlike 69 = .ok (.goto (-53), 3) := dk_167 255 203 (dk_at dksX5_mostAlike_3 0 rfl rfl)
theorem dX5_mostAlike_72 : decode cX5_mostAlike 72 = .ok (.iload 4, 2) := dk_21 4 (dk_at dksX5_mostAlike_3 3 rfl rfl)
theorem dX5_mostAlike_74 : decode cX5_mostAlike 74 = .ok (.iload_n 2, 1) := dk_28 (dk_at dksX5_mostAlike_3 5 rfl rfl)
theorem dX5_mostAlike_75 : decode cX5_mostAlike 75 = .ok (.if_icmp .le 8, 3) := dk_164 0 8 (dk_at dksX5_mostAlike_3 6 rfl rfl)
theorem dX5_mostAlike_78 : decode cX5_mostAlike 78 = .ok (.iload 4, 2) := dk_21 4 (dk_at dksX5_mostAlike_3 9 rfl rfl)
theorem dX5_mostAlike_80 : decode cX5_mostAlike 80 = .ok (.goto 4, 3) := dk_167 0 4 (dk_at dksX5_mostAlike_3 11 rfl rfl)
theorem dX5_mostAlike_83 : decode cX5_mostAlike 83 = .ok (.iload_n 2, 1) := dk_28 (dk_at dksX5_mostAlike_3 14 rfl rfl)
theorem dX5_mostAlike_84 : decode cX5_mostAlike 84 = .ok (.istore_n 2, 1) := dk_61 (dk_at dksX5_mostAlike_3 15 rfl rfl)
theorem dX5_mostAlike_85 : decode cX5_mostAlike 85 = .ok (.iinc 3 1, 3) := dk_132 3 1 (dk_at dksX5_mostAlike_3 16 rfl rfl)
theorem dX5_mostAlike_88 : decode cX5_mostAlike 88 = .ok (.goto (-84), 3) := dk_167 255 172 (dk_at dksX5_mostAlike_3 19 rfl rfl)
theorem dX5_mostAlike_91 : decode cX5_mostAlike 91 = .ok (.iload_n 2, 1) := dk_28 (dk_at dksX5_mostAlike_3 22 rfl rfl)
theorem dX5_mostAlike_92 : decode cX5_mostAlike 92 = .ok (.ireturn, 1) := dk_172 (dk_at dksX5_mostAlike_3 23 rfl rfl)
abbrev cX5_kinds : ByteArray := prog_20_method_72_code
def yX5_kinds : MethodName := ⟨RX5, "kinds", "(I)I"⟩
def dkwX5_kinds_0 : List UInt8 := [42, 27, 182, 0, 162, 153, 0, 11, 42, 27, 182, 0, 207, 167, 0, 9, 42, 16, 254, 182, 0, 55, 172]
abbrev dktX5_kinds_0 : List UInt8 := dkwX5_kinds_0 ++ []
theorem dksX5_kinds_0 : cX5_kinds.data.toList.drop 0 = dktX5_kinds_0 := by decide +kernel
theorem dX5_kinds_0 : decode cX5_kinds 0 = .ok (.aload_n 0, 1) := dk_42 (dk_at dksX5_kinds_0 0 rfl rfl)
theorem dX5_kinds_1 : decode cX5_kinds 1 = .ok (.iload_n 1, 1) := dk_27 (dk_at dksX5_kinds_0 1 rfl rfl)
theorem dX5_kinds_2 : decode cX5_kinds 2 = .ok (.invokevirtual 162, 3) := dk_182 0 162 (dk_at dksX5_kinds_0 2 rfl rfl)
theorem dX5_kinds_5 : decode cX5_kinds 5 = .ok (.ifCond .eq 11, 3) := dk_153 0 11 (dk_at dksX5_kinds_0 5 rfl rfl)
theorem dX5_kinds_8 : decode cX5_kinds 8 = .ok (.aload_n 0, 1) := dk_42 (dk_at dksX5_kinds_0 8 rfl rfl)
theorem dX5_kinds_9 : decode cX5_kinds 9 = .ok (.iload_n 1, 1) := dk_27 (dk_at dksX5_kinds_0 9 rfl rfl)
theorem dX5_kinds_10 : decode cX5_kinds 10 = .ok (.invokevirtual 207, 3) := dk_182 0 207 (dk_at dksX5_kinds_0 10 rfl rfl)
theorem dX5_kinds_13 : decode cX5_kinds 13 = .ok (.goto 9, 3) := dk_167 0 9 (dk_at dksX5_kinds_0 13 rfl rfl)
theorem dX5_kinds_16 : decode cX5_kinds 16 = .ok (.aload_n 0, 1) := dk_42 (dk_at dksX5_kinds_0 16 rfl rfl)
theorem dX5_kinds_17 : decode cX5_kinds 17 = .ok (.bipush (-2), 2) := dk_16 254 (dk_at dksX5_kinds_0 17 rfl rfl)
theorem dX5_kinds_19 : decode cX5_kinds 19 = .ok (.invokevirtual 55, 3) := dk_182 0 55 (dk_at dksX5_kinds_0 19 rfl rfl)
theorem dX5_kinds_22 : decode cX5_kinds 22 = .ok (.ireturn, 1) := dk_172 (dk_at dksX5_kinds_0 22 rfl rfl)
abbrev cX5_auntKinds : ByteArray := prog_20_method_71_code
def yX5_auntKinds : MethodName := ⟨RX5, "auntKinds", "(I)I"⟩
def dkwX5_auntKinds_4 : List UInt8 := [21, 4, 120, 2, 130, 126, 61, 132, 4, 1, 167, 255, 178, 132, 3, 4, 167, 255, 153, 28, 172]
abbrev dktX5_auntKinds_4 : List UInt8 := dkwX5_auntKinds_4 ++ []
def dkwX5_auntKinds_3 : List UInt8 := [96, 46, 160, 0, 7, 4, 167, 0, 4, 3, 54, 5, 28, 21, 5, 153, 0, 8, 16, 63, 167, 0, 9, 4]
abbrev dktX5_auntKinds_3 : List UInt8 := dkwX5_auntKinds_3 ++ dktX5_auntKinds_4
def dkwX5_auntKinds_2 : List UInt8 := [180, 0, 7, 29, 4, 96, 46, 42, 180, 0, 7, 29, 5, 96, 46, 184, 0, 143, 42, 180, 0, 7, 29, 6]
abbrev dktX5_auntKinds_2 : List UInt8 := dkwX5_auntKinds_2 ++ dktX5_auntKinds_3
def dkwX5_auntKinds_1 : List UInt8 := [54, 4, 21, 4, 16, 6, 162, 0, 77, 42, 180, 0, 7, 29, 46, 27, 160, 0, 35, 21, 4, 42]
abbrev dktX5_auntKinds_1 : List UInt8 := dkwX5_auntKinds_1 ++ dktX5_auntKinds_2
def dkwX5_auntKinds_0 : List UInt8 := [16, 63, 61, 16, 74, 62, 29, 16, 74, 7, 42, 180, 0, 7, 16, 73, 46, 104, 96, 162, 0, 93, 3]
abbrev dktX5_auntKinds_0 : List UInt8 := dkwX5_auntKinds_0 ++ dktX5_auntKinds_1
theorem dksX5_auntKinds_0 : cX5_auntKinds.data.toList.drop 0 = dktX5_auntKinds_0 := by decide +kernel
theorem dksX5_auntKinds_1 : cX5_auntKinds.data.toList.drop 23 = dktX5_auntKinds_1 := dk_seg dksX5_auntKinds_0 23 rfl rfl
theorem dksX5_auntKinds_2 : cX5_auntKinds.data.toList.drop 45 = dktX5_auntKinds_2 := dk_seg dksX5_auntKinds_1 22 rfl rfl
theorem dksX5_auntKinds_3 : cX5_auntKinds.data.toList.drop 69 = dktX5_auntKinds_3 := dk_seg dksX5_auntKinds_2 24 rfl rfl
theorem dksX5_auntKinds_4 : cX5_auntKinds.data.toList.drop 93 = dktX5_auntKinds_4 := dk_seg dksX5_auntKinds_3 24 rfl rfl
theorem dX5_auntKinds_0 : decode cX5_auntKinds 0 = .ok (.bipush 63, 2) := dk_16 63 (dk_at dksX5_auntKinds_0 0 rfl rfl)
theorem dX5_auntKinds_2 : decode cX5_auntKinds 2 = .ok (.istore_n 2, 1) := dk_61 (dk_at dksX5_auntKinds_0 2 rfl rfl)
theorem dX5_auntKinds_3 : decode cX5_auntKinds 3 = .ok (.bipush 74, 2) := dk_16 74 (dk_at dksX5_auntKinds_0 3 rfl rfl)
theorem dX5_auntKinds_5 : decode cX5_auntKinds 5 = .ok (.istore_n 3, 1) := dk_62 (dk_at dksX5_auntKinds_0 5 rfl rfl)
theorem dX5_auntKinds_6 : decode cX5_auntKinds 6 = .ok (.iload_n 3, 1) := dk_29 (dk_at dksX5_auntKinds_0 6 rfl rfl)
theorem dX5_auntKinds_7 : decode cX5_auntKinds 7 = .ok (.bipush 74, 2) := dk_16 74 (dk_at dksX5_auntKinds_0 7 rfl rfl)
theorem dX5_auntKinds_9 : decode cX5_auntKinds 9 = .ok (.iconst 4, 1) := dk_7 (dk_at dksX5_auntKinds_0 9 rfl rfl)
theorem dX5_auntKinds_10 : decode cX5_auntKinds 10 = .ok (.aload_n 0, 1) := dk_42 (dk_at dksX5_auntKinds_0 10 rfl rfl)
theorem dX5_auntKinds_11 : decode cX5_auntKinds 11 = .ok (.getfield 7, 3) := dk_180 0 7 (dk_at dksX5_auntKinds_0 11 rfl rfl)
theorem dX5_auntKinds_14 : decode cX5_auntKinds 14 = .ok (.bipush 73, 2) := dk_16 73 (dk_at dksX5_auntKinds_0 14 rfl rfl)
theorem dX5_auntKinds_16 : decode cX5_auntKinds 16 = .ok (.iaload, 1) := dk_46 (dk_at dksX5_auntKinds_0 16 rfl rfl)
theorem dX5_auntKinds_17 : decode cX5_auntKinds 17 = .ok (.imul, 1) := dk_104 (dk_at dksX5_auntKinds_0 17 rfl rfl)
theorem dX5_auntKinds_18 : decode cX5_auntKinds 18 = .ok (.iadd, 1) := dk_96 (dk_at dksX5_auntKinds_0 18 rfl rfl)
theorem dX5_auntKinds_19 : decode cX5_auntKinds 19 = .ok (.if_icmp .ge 93, 3) := dk_162 0 93 (dk_at dksX5_auntKinds_0 19 rfl rfl)
theorem dX5_auntKinds_22 : decode cX5_auntKinds 22 = .ok (.iconst 0, 1) := dk_3 (dk_at dksX5_auntKinds_0 22 rfl rfl)
theorem dX5_auntKinds_23 : decode cX5_auntKinds 23 = .ok (.istore 4, 2) := dk_54 4 (dk_at dksX5_auntKinds_1 0 rfl rfl)
theorem dX5_auntKinds_25 : decode cX5_auntKinds 25 = .ok (.iload 4, 2) := dk_21 4 (dk_at dksX5_auntKinds_1 2 rfl rfl)
theorem dX5_auntKinds_27 : decode cX5_auntKinds 27 = .ok (.bipush 6, 2) := dk_16 6 (dk_at dksX5_auntKinds_1 4 rfl rfl)
theorem dX5_auntKinds_29 : decode cX5_auntKinds 29 = .ok (.if_icmp .ge 77, 3) := dk_162 0 77 (dk_at dksX5_auntKinds_1 6 rfl rfl)
theorem dX5_auntKinds_32 : decode cX5_auntKinds 32 = .ok (.aload_n 0, 1) := dk_42 (dk_at dksX5_auntKinds_1 9 rfl rfl)
theorem dX5_auntKinds_33 : decode cX5_auntKinds 33 = .ok (.getfield 7, 3) := dk_180 0 7 (dk_at dksX5_auntKinds_1 10 rfl rfl)
theorem dX5_auntKinds_36 : decode cX5_auntKinds 36 = .ok (.iload_n 3, 1) := dk_29 (dk_at dksX5_auntKinds_1 13 rfl rfl)
theorem dX5_auntKinds_37 : decode cX5_auntKinds 37 = .ok (.iaload, 1) := dk_46 (dk_at dksX5_auntKinds_1 14 rfl rfl)
theorem dX5_auntKinds_38 : decode cX5_auntKinds 38 = .ok (.iload_n 1, 1) := dk_27 (dk_at dksX5_auntKinds_1 15 rfl rfl)
theorem dX5_auntKinds_39 : decode cX5_auntKinds 39 = .ok (.if_icmp .ne 35, 3) := dk_160 0 35 (dk_at dksX5_auntKinds_1 16 rfl rfl)
theorem dX5_auntKinds_42 : decode cX5_auntKinds 42 = .ok (.iload 4, 2) := dk_21 4 (dk_at dksX5_auntKinds_1 19 rfl rfl)
theorem dX5_auntKinds_44 : decode cX5_auntKinds 44 = .ok (.aload_n 0, 1) := dk_42 (dk_at dksX5_auntKinds_1 21 rfl rfl)
theorem dX5_auntKinds_45 : decode cX5_auntKinds 45 = .ok (.getfield 7, 3) := dk_180 0 7 (dk_at dksX5_auntKinds_2 0 rfl rfl)
theorem dX5_auntKinds_48 : decode cX5_auntKinds 48 = .ok (.iload_n 3, 1) := dk_29 (dk_at dksX5_auntKinds_2 3 rfl rfl)
theorem dX5_auntKinds_49 : decode cX5_auntKinds 49 = .ok (.iconst 1, 1) := dk_4 (dk_at dksX5_auntKinds_2 4 rfl rfl)
theorem dX5_auntKinds_50 : decode cX5_auntKinds 50 = .ok (.iadd, 1) := dk_96 (dk_at dksX5_auntKinds_2 5 rfl rfl)
theorem dX5_auntKinds_51 : decode cX5_auntKinds 51 = .ok (.iaload, 1) := dk_46 (dk_at dksX5_auntKinds_2 6 rfl rfl)
theorem dX5_auntKinds_52 : decode cX5_auntKinds 52 = .ok (.aload_n 0, 1) := dk_42 (dk_at dksX5_auntKinds_2 7 rfl rfl)
theorem dX5_auntKinds_53 : decode cX5_auntKinds 53 = .ok (.getfield 7, 3) := dk_180 0 7 (dk_at dksX5_auntKinds_2 8 rfl rfl)
theorem dX5_auntKinds_56 : decode cX5_auntKinds 56 = .ok (.iload_n 3, 1) := dk_29 (dk_at dksX5_auntKinds_2 11 rfl rfl)
theorem dX5_auntKinds_57 : decode cX5_auntKinds 57 = .ok (.iconst 2, 1) := dk_5 (dk_at dksX5_auntKinds_2 12 rfl rfl)
theorem dX5_auntKinds_58 : decode cX5_auntKinds 58 = .ok (.iadd, 1) := dk_96 (dk_at dksX5_auntKinds_2 13 rfl rfl)
theorem dX5_auntKinds_59 : decode cX5_auntKinds 59 = .ok (.iaload, 1) := dk_46 (dk_at dksX5_auntKinds_2 14 rfl rfl)
theorem dX5_auntKinds_60 : decode cX5_auntKinds 60 = .ok (.invokestatic 143, 3) := dk_184 0 143 (dk_at dksX5_auntKinds_2 15 rfl rfl)
theorem dX5_auntKinds_63 : decode cX5_auntKinds 63 = .ok (.aload_n 0, 1) := dk_42 (dk_at dksX5_auntKinds_2 18 rfl rfl)
theorem dX5_auntKinds_64 : decode cX5_auntKinds 64 = .ok (.getfield 7, 3) := dk_180 0 7 (dk_at dksX5_auntKinds_2 19 rfl rfl)
theorem dX5_auntKinds_67 : decode cX5_auntKinds 67 = .ok (.iload_n 3, 1) := dk_29 (dk_at dksX5_auntKinds_2 22 rfl rfl)
theorem dX5_auntKinds_68 : decode cX5_auntKinds 68 = .ok (.iconst 3, 1) := dk_6 (dk_at dksX5_auntKinds_2 23 rfl rfl)
theorem dX5_auntKinds_69 : decode cX5_auntKinds 69 = .ok (.iadd, 1) := dk_96 (dk_at dksX5_auntKinds_3 0 rfl rfl)
theorem dX5_auntKinds_70 : decode cX5_auntKinds 70 = .ok (.iaload, 1) := dk_46 (dk_at dksX5_auntKinds_3 1 rfl rfl)
theorem dX5_auntKinds_71 : decode cX5_auntKinds 71 = .ok (.if_icmp .ne 7, 3) := dk_160 0 7 (dk_at dksX5_auntKinds_3 2 rfl rfl)
theorem dX5_auntKinds_74 : decode cX5_auntKinds 74 = .ok (.iconst 1, 1) := dk_4 (dk_at dksX5_auntKinds_3 5 rfl rfl)
theorem dX5_auntKinds_75 : decode cX5_auntKinds 75 = .ok (.goto 4, 3) := dk_167 0 4 (dk_at dksX5_auntKinds_3 6 rfl rfl)
theorem dX5_auntKinds_78 : decode cX5_auntKinds 78 = .ok (.iconst 0, 1) := dk_3 (dk_at dksX5_auntKinds_3 9 rfl rfl)
theorem dX5_auntKinds_79 : decode cX5_auntKinds 79 = .ok (.istore 5, 2) := dk_54 5 (dk_at dksX5_auntKinds_3 10 rfl rfl)
theorem dX5_auntKinds_81 : decode cX5_auntKinds 81 = .ok (.iload_n 2, 1) := dk_28 (dk_at dksX5_auntKinds_3 12 rfl rfl)
theorem dX5_auntKinds_82 : decode cX5_auntKinds 82 = .ok (.iload 5, 2) := dk_21 5 (dk_at dksX5_auntKinds_3 13 rfl rfl)
theorem dX5_auntKinds_84 : decode cX5_auntKinds 84 = .ok (.ifCond .eq 8, 3) := dk_153 0 8 (dk_at dksX5_auntKinds_3 15 rfl rfl)
theorem dX5_auntKinds_87 : decode cX5_auntKinds 87 = .ok (.bipush 63, 2) := dk_16 63 (dk_at dksX5_auntKinds_3 18 rfl rfl)
theorem dX5_auntKinds_89 : decode cX5_auntKinds 89 = .ok (.goto 9, 3) := dk_167 0 9 (dk_at dksX5_auntKinds_3 20 rfl rfl)
theorem dX5_auntKinds_92 : decode cX5_auntKinds 92 = .ok (.iconst 1, 1) := dk_4 (dk_at dksX5_auntKinds_3 23 rfl rfl)
theorem dX5_auntKinds_93 : decode cX5_auntKinds 93 = .ok (.iload 4, 2) := dk_21 4 (dk_at dksX5_auntKinds_4 0 rfl rfl)
theorem dX5_auntKinds_95 : decode cX5_auntKinds 95 = .ok (.ishl, 1) := dk_120 (dk_at dksX5_auntKinds_4 2 rfl rfl)
theorem dX5_auntKinds_96 : decode cX5_auntKinds 96 = .ok (.iconst (-1), 1) := dk_2 (dk_at dksX5_auntKinds_4 3 rfl rfl)
theorem dX5_auntKinds_97 : decode cX5_auntKinds 97 = .ok (.ixor, 1) := dk_130 (dk_at dksX5_auntKinds_4 4 rfl rfl)
theorem dX5_auntKinds_98 : decode cX5_auntKinds 98 = .ok (.iand, 1) := dk_126 (dk_at dksX5_auntKinds_4 5 rfl rfl)
theorem dX5_auntKinds_99 : decode cX5_auntKinds 99 = .ok (.istore_n 2, 1) := dk_61 (dk_at dksX5_auntKinds_4 6 rfl rfl)
theorem dX5_auntKinds_100 : decode cX5_auntKinds 100 = .ok (.iinc 4 1, 3) := dk_132 4 1 (dk_at dksX5_auntKinds_4 7 rfl rfl)
theorem dX5_auntKinds_103 : decode cX5_auntKinds 103 = .ok (.goto (-78), 3) := dk_167 255 178 (dk_at dksX5_auntKinds_4 10 rfl rfl)
theorem dX5_auntKinds_106 : decode cX5_auntKinds 106 = .ok (.iinc 3 4, 3) := dk_132 3 4 (dk_at dksX5_auntKinds_4 13 rfl rfl)
theorem dX5_auntKinds_109 : decode cX5_auntKinds 109 = .ok (.goto (-103), 3) := dk_167 255 153 (dk_at dksX5_auntKinds_4 16 rfl rfl)
theorem dX5_auntKinds_112 : decode cX5_auntKinds 112 = .ok (.iload_n 2, 1) := dk_28 (dk_at dksX5_auntKinds_4 19 rfl rfl)
theorem dX5_auntKinds_113 : decode cX5_auntKinds 113 = .ok (.ireturn, 1) := dk_172 (dk_at dksX5_auntKinds_4 20 rfl rfl)
abbrev cX5_ask : ByteArray := prog_20_method_73_code
def yX5_ask : MethodName := ⟨RX5, "ask", "(I)I"⟩
def dkwX5_ask_5 : List UInt8 := [21, 4, 162, 0, 8, 21, 8, 167, 0, 5, 21, 4, 54, 4, 132, 5, 1, 167, 255, 152, 29, 172]
abbrev dktX5_ask_5 : List UInt8 := dkwX5_ask_5 ++ []
def dkwX5_ask_4 : List UInt8 := [54, 8, 21, 8, 21, 4, 162, 0, 14, 16, 100, 21, 6, 104, 21, 7, 96, 167, 0, 4, 29, 62, 21, 8]
abbrev dktX5_ask_4 : List UInt8 := dkwX5_ask_4 ++ dktX5_ask_5
def dkwX5_ask_3 : List UInt8 := [21, 8, 21, 8, 21, 7, 21, 6, 184, 0, 143, 79, 132, 8, 1, 167, 255, 230, 42, 28, 182, 0, 204]
abbrev dktX5_ask_3 : List UInt8 := dkwX5_ask_3 ++ dktX5_ask_4
def dkwX5_ask_2 : List UInt8 := [54, 6, 21, 5, 16, 16, 112, 54, 7, 3, 54, 8, 21, 8, 16, 6, 162, 0, 25, 42, 180, 0, 45]
abbrev dktX5_ask_2 : List UInt8 := dkwX5_ask_2 ++ dktX5_ask_3
def dkwX5_ask_1 : List UInt8 := [16, 99, 54, 4, 3, 54, 5, 21, 5, 17, 0, 160, 162, 0, 102, 28, 153, 0, 98, 21, 5, 16, 16, 108]
abbrev dktX5_ask_1 : List UInt8 := dkwX5_ask_1 ++ dktX5_ask_2
def dkwX5_ask_0 : List UInt8 := [42, 27, 182, 0, 162, 154, 0, 10, 42, 16, 254, 182, 0, 55, 172, 42, 27, 182, 0, 207, 61, 2, 62]
abbrev dktX5_ask_0 : List UInt8 := dkwX5_ask_0 ++ dktX5_ask_1
theorem dksX5_ask_0 : cX5_ask.data.toList.drop 0 = dktX5_ask_0 := by decide +kernel
theorem dksX5_ask_1 : cX5_ask.data.toList.drop 23 = dktX5_ask_1 := dk_seg dksX5_ask_0 23 rfl rfl
theorem dksX5_ask_2 : cX5_ask.data.toList.drop 47 = dktX5_ask_2 := dk_seg dksX5_ask_1 24 rfl rfl
theorem dksX5_ask_3 : cX5_ask.data.toList.drop 70 = dktX5_ask_3 := dk_seg dksX5_ask_2 23 rfl rfl
theorem dksX5_ask_4 : cX5_ask.data.toList.drop 93 = dktX5_ask_4 := dk_seg dksX5_ask_3 23 rfl rfl
theorem dksX5_ask_5 : cX5_ask.data.toList.drop 117 = dktX5_ask_5 := dk_seg dksX5_ask_4 24 rfl rfl
theorem dX5_ask_0 : decode cX5_ask 0 = .ok (.aload_n 0, 1) := dk_42 (dk_at dksX5_ask_0 0 rfl rfl)
theorem dX5_ask_1 : decode cX5_ask 1 = .ok (.iload_n 1, 1) := dk_27 (dk_at dksX5_ask_0 1 rfl rfl)
theorem dX5_ask_2 : decode cX5_ask 2 = .ok (.invokevirtual 162, 3) := dk_182 0 162 (dk_at dksX5_ask_0 2 rfl rfl)
theorem dX5_ask_5 : decode cX5_ask 5 = .ok (.ifCond .ne 10, 3) := dk_154 0 10 (dk_at dksX5_ask_0 5 rfl rfl)
theorem dX5_ask_8 : decode cX5_ask 8 = .ok (.aload_n 0, 1) := dk_42 (dk_at dksX5_ask_0 8 rfl rfl)
theorem dX5_ask_9 : decode cX5_ask 9 = .ok (.bipush (-2), 2) := dk_16 254 (dk_at dksX5_ask_0 9 rfl rfl)
theorem dX5_ask_11 : decode cX5_ask 11 = .ok (.invokevirtual 55, 3) := dk_182 0 55 (dk_at dksX5_ask_0 11 rfl rfl)
theorem dX5_ask_14 : decode cX5_ask 14 = .ok (.ireturn, 1) := dk_172 (dk_at dksX5_ask_0 14 rfl rfl)
theorem dX5_ask_15 : decode cX5_ask 15 = .ok (.aload_n 0, 1) := dk_42 (dk_at dksX5_ask_0 15 rfl rfl)
theorem dX5_ask_16 : decode cX5_ask 16 = .ok (.iload_n 1, 1) := dk_27 (dk_at dksX5_ask_0 16 rfl rfl)
theorem dX5_ask_17 : decode cX5_ask 17 = .ok (.invokevirtual 207, 3) := dk_182 0 207 (dk_at dksX5_ask_0 17 rfl rfl)
theorem dX5_ask_20 : decode cX5_ask 20 = .ok (.istore_n 2, 1) := dk_61 (dk_at dksX5_ask_0 20 rfl rfl)
theorem dX5_ask_21 : decode cX5_ask 21 = .ok (.iconst (-1), 1) := dk_2 (dk_at dksX5_ask_0 21 rfl rfl)
theorem dX5_ask_22 : decode cX5_ask 22 = .ok (.istore_n 3, 1) := dk_62 (dk_at dksX5_ask_0 22 rfl rfl)
theorem dX5_ask_23 : decode cX5_ask 23 = .ok (.bipush 99, 2) := dk_16 99 (dk_at dksX5_ask_1 0 rfl rfl)
theorem dX5_ask_25 : decode cX5_ask 25 = .ok (.istore 4, 2) := dk_54 4 (dk_at dksX5_ask_1 2 rfl rfl)
theorem dX5_ask_27 : decode cX5_ask 27 = .ok (.iconst 0, 1) := dk_3 (dk_at dksX5_ask_1 4 rfl rfl)
theorem dX5_ask_28 : decode cX5_ask 28 = .ok (.istore 5, 2) := dk_54 5 (dk_at dksX5_ask_1 5 rfl rfl)
theorem dX5_ask_30 : decode cX5_ask 30 = .ok (.iload 5, 2) := dk_21 5 (dk_at dksX5_ask_1 7 rfl rfl)
theorem dX5_ask_32 : decode cX5_ask 32 = .ok (.sipush 160, 3) := dk_17 0 160 (dk_at dksX5_ask_1 9 rfl rfl)
theorem dX5_ask_35 : decode cX5_ask 35 = .ok (.if_icmp .ge 102, 3) := dk_162 0 102 (dk_at dksX5_ask_1 12 rfl rfl)
theorem dX5_ask_38 : decode cX5_ask 38 = .ok (.iload_n 2, 1) := dk_28 (dk_at dksX5_ask_1 15 rfl rfl)
theorem dX5_ask_39 : decode cX5_ask 39 = .ok (.ifCond .eq 98, 3) := dk_153 0 98 (dk_at dksX5_ask_1 16 rfl rfl)
theorem dX5_ask_42 : decode cX5_ask 42 = .ok (.iload 5, 2) := dk_21 5 (dk_at dksX5_ask_1 19 rfl rfl)
theorem dX5_ask_44 : decode cX5_ask 44 = .ok (.bipush 16, 2) := dk_16 16 (dk_at dksX5_ask_1 21 rfl rfl)
theorem dX5_ask_46 : decode cX5_ask 46 = .ok (.idiv, 1) := dk_108 (dk_at dksX5_ask_1 23 rfl rfl)
theorem dX5_ask_47 : decode cX5_ask 47 = .ok (.istore 6, 2) := dk_54 6 (dk_at dksX5_ask_2 0 rfl rfl)
theorem dX5_ask_49 : decode cX5_ask 49 = .ok (.iload 5, 2) := dk_21 5 (dk_at dksX5_ask_2 2 rfl rfl)
theorem dX5_ask_51 : decode cX5_ask 51 = .ok (.bipush 16, 2) := dk_16 16 (dk_at dksX5_ask_2 4 rfl rfl)
theorem dX5_ask_53 : decode cX5_ask 53 = .ok (.irem, 1) := dk_112 (dk_at dksX5_ask_2 6 rfl rfl)
theorem dX5_ask_54 : decode cX5_ask 54 = .ok (.istore 7, 2) := dk_54 7 (dk_at dksX5_ask_2 7 rfl rfl)
theorem dX5_ask_56 : decode cX5_ask 56 = .ok (.iconst 0, 1) := dk_3 (dk_at dksX5_ask_2 9 rfl rfl)
theorem dX5_ask_57 : decode cX5_ask 57 = .ok (.istore 8, 2) := dk_54 8 (dk_at dksX5_ask_2 10 rfl rfl)
theorem dX5_ask_59 : decode cX5_ask 59 = .ok (.iload 8, 2) := dk_21 8 (dk_at dksX5_ask_2 12 rfl rfl)
theorem dX5_ask_61 : decode cX5_ask 61 = .ok (.bipush 6, 2) := dk_16 6 (dk_at dksX5_ask_2 14 rfl rfl)
theorem dX5_ask_63 : decode cX5_ask 63 = .ok (.if_icmp .ge 25, 3) := dk_162 0 25 (dk_at dksX5_ask_2 16 rfl rfl)
theorem dX5_ask_66 : decode cX5_ask 66 = .ok (.aload_n 0, 1) := dk_42 (dk_at dksX5_ask_2 19 rfl rfl)
theorem dX5_ask_67 : decode cX5_ask 67 = .ok (.getfield 45, 3) := dk_180 0 45 (dk_at dksX5_ask_2 20 rfl rfl)
theorem dX5_ask_70 : decode cX5_ask 70 = .ok (.iload 8, 2) := dk_21 8 (dk_at dksX5_ask_3 0 rfl rfl)
theorem dX5_ask_72 : decode cX5_ask 72 = .ok (.iload 8, 2) := dk_21 8 (dk_at dksX5_ask_3 2 rfl rfl)
theorem dX5_ask_74 : decode cX5_ask 74 = .ok (.iload 7, 2) := dk_21 7 (dk_at dksX5_ask_3 4 rfl rfl)
theorem dX5_ask_76 : decode cX5_ask 76 = .ok (.iload 6, 2) := dk_21 6 (dk_at dksX5_ask_3 6 rfl rfl)
theorem dX5_ask_78 : decode cX5_ask 78 = .ok (.invokestatic 143, 3) := dk_184 0 143 (dk_at dksX5_ask_3 8 rfl rfl)
theorem dX5_ask_81 : decode cX5_ask 81 = .ok (.iastore, 1) := dk_79 (dk_at dksX5_ask_3 11 rfl rfl)
theorem dX5_ask_82 : decode cX5_ask 82 = .ok (.iinc 8 1, 3) := dk_132 8 1 (dk_at dksX5_ask_3 12 rfl rfl)
theorem dX5_ask_85 : decode cX5_ask 85 = .ok (.goto (-26), 3) := dk_167 255 230 (dk_at dksX5_ask_3 15 rfl rfl)
theorem dX5_ask_88 : decode cX5_ask 88 = .ok (.aload_n 0, 1) := dk_42 (dk_at dksX5_ask_3 18 rfl rfl)
theorem dX5_ask_89 : decode cX5_ask 89 = .ok (.iload_n 2, 1) := dk_28 (dk_at dksX5_ask_3 19 rfl rfl)
theorem dX5_ask_90 : decode cX5_ask 90 = .ok (.invokevirtual 204, 3) := dk_182 0 204 (dk_at dksX5_ask_3 20 rfl rfl)
theorem dX5_ask_93 : decode cX5_ask 93 = .ok (.istore 8, 2) := dk_54 8 (dk_at dksX5_ask_4 0 rfl rfl)
theorem dX5_ask_95 : decode cX5_ask 95 = .ok (.iload 8, 2) := dk_21 8 (dk_at dksX5_ask_4 2 rfl rfl)
theorem dX5_ask_97 : decode cX5_ask 97 = .ok (.iload 4, 2) := dk_21 4 (dk_at dksX5_ask_4 4 rfl rfl)
theorem dX5_ask_99 : decode cX5_ask 99 = .ok (.if_icmp .ge 14, 3) := dk_162 0 14 (dk_at dksX5_ask_4 6 rfl rfl)
theorem dX5_ask_102 : decode cX5_ask 102 = .ok (.bipush 100, 2) := dk_16 100 (dk_at dksX5_ask_4 9 rfl rfl)
theorem dX5_ask_104 : decode cX5_ask 104 = .ok (.iload 6, 2) := dk_21 6 (dk_at dksX5_ask_4 11 rfl rfl)
theorem dX5_ask_106 : decode cX5_ask 106 = .ok (.imul, 1) := dk_104 (dk_at dksX5_ask_4 13 rfl rfl)
theorem dX5_ask_107 : decode cX5_ask 107 = .ok (.iload 7, 2) := dk_21 7 (dk_at dksX5_ask_4 14 rfl rfl)
theorem dX5_ask_109 : decode cX5_ask 109 = .ok (.iadd, 1) := dk_96 (dk_at dksX5_ask_4 16 rfl rfl)
theorem dX5_ask_110 : decode cX5_ask 110 = .ok (.goto 4, 3) := dk_167 0 4 (dk_at dksX5_ask_4 17 rfl rfl)
theorem dX5_ask_113 : decode cX5_ask 113 = .ok (.iload_n 3, 1) := dk_29 (dk_at dksX5_ask_4 20 rfl rfl)
theorem dX5_ask_114 : decode cX5_ask 114 = .ok (.istore_n 3, 1) := dk_62 (dk_at dksX5_ask_4 21 rfl rfl)
theorem dX5_ask_115 : decode cX5_ask 115 = .ok (.iload 8, 2) := dk_21 8 (dk_at dksX5_ask_4 22 rfl rfl)
theorem dX5_ask_117 : decode cX5_ask 117 = .ok (.iload 4, 2) := dk_21 4 (dk_at dksX5_ask_5 0 rfl rfl)
theorem dX5_ask_119 : decode cX5_ask 119 = .ok (.if_icmp .ge 8, 3) := dk_162 0 8 (dk_at dksX5_ask_5 2 rfl rfl)
theorem dX5_ask_122 : decode cX5_ask 122 = .ok (.iload 8, 2) := dk_21 8 (dk_at dksX5_ask_5 5 rfl rfl)
theorem dX5_ask_124 : decode cX5_ask 124 = .ok (.goto 5, 3) := dk_167 0 5 (dk_at dksX5_ask_5 7 rfl rfl)
theorem dX5_ask_127 : decode cX5_ask 127 = .ok (.iload 4, 2) := dk_21 4 (dk_at dksX5_ask_5 10 rfl rfl)
theorem dX5_ask_129 : decode cX5_ask 129 = .ok (.istore 4, 2) := dk_54 4 (dk_at dksX5_ask_5 12 rfl rfl)
theorem dX5_ask_131 : decode cX5_ask 131 = .ok (.iinc 5 1, 3) := dk_132 5 1 (dk_at dksX5_ask_5 14 rfl rfl)
theorem dX5_ask_134 : decode cX5_ask 134 = .ok (.goto (-104), 3) := dk_167 255 152 (dk_at dksX5_ask_5 17 rfl rfl)
theorem dX5_ask_137 : decode cX5_ask 137 = .ok (.iload_n 3, 1) := dk_29 (dk_at dksX5_ask_5 20 rfl rfl)
theorem dX5_ask_138 : decode cX5_ask 138 = .ok (.ireturn, 1) := dk_172 (dk_at dksX5_ask_5 21 rfl rfl)
abbrev cX5_game : ByteArray := prog_20_method_75_code
def yX5_game : MethodName := ⟨RX5, "game", "(IIII)I"⟩
def dkwX5_game_8 : List UInt8 := [167, 255, 210, 21, 4, 2, 160, 0, 8, 21, 5, 167, 0, 5, 21, 6, 172]
abbrev dktX5_game_8 : List UInt8 := dkwX5_game_8 ++ []
def dkwX5_game_7 : List UInt8 := [21, 5, 21, 4, 160, 0, 8, 21, 7, 167, 0, 5, 21, 6, 54, 6, 132, 5, 1, 132, 7, 1]
abbrev dktX5_game_7 : List UInt8 := dkwX5_game_7 ++ dktX5_game_8
def dkwX5_game_6 : List UInt8 := [21, 7, 16, 20, 162, 0, 45, 42, 21, 7, 16, 10, 108, 21, 7, 16, 10, 112, 182, 0, 210, 153, 0, 22]
abbrev dktX5_game_6 : List UInt8 := dkwX5_game_6 ++ dktX5_game_7
def dkwX5_game_5 : List UInt8 := [17, 2, 25, 29, 182, 0, 153, 79, 132, 5, 1, 167, 255, 174, 3, 54, 5, 16, 251, 54, 6, 3, 54, 7]
abbrev dktX5_game_5 : List UInt8 := dkwX5_game_5 ++ dktX5_game_6
def dkwX5_game_4 : List UInt8 := [130, 126, 167, 0, 14, 42, 180, 0, 7, 16, 7, 46, 4, 28, 120, 128, 79, 42, 180, 0, 48, 21, 5, 42]
abbrev dktX5_game_4 : List UInt8 := dkwX5_game_4 ++ dktX5_game_5
def dkwX5_game_3 : List UInt8 := [180, 0, 7, 17, 2, 32, 21, 5, 16, 10, 162, 0, 19, 42, 180, 0, 7, 16, 7, 46, 4, 28, 120, 2]
abbrev dktX5_game_3 : List UInt8 := dkwX5_game_3 ++ dktX5_game_4
def dkwX5_game_2 : List UInt8 := [21, 5, 16, 20, 162, 0, 81, 42, 180, 0, 7, 17, 2, 25, 27, 96, 21, 5, 16, 10, 112, 79, 42]
abbrev dktX5_game_2 : List UInt8 := dkwX5_game_2 ++ dktX5_game_3
def dkwX5_game_1 : List UInt8 := [153, 0, 9, 21, 4, 2, 162, 0, 10, 42, 16, 246, 182, 0, 165, 172, 42, 182, 0, 168, 3, 54, 5]
abbrev dktX5_game_1 : List UInt8 := dkwX5_game_1 ++ dktX5_game_2
def dkwX5_game_0 : List UInt8 := [42, 27, 182, 0, 159, 153, 0, 27, 42, 28, 182, 0, 162, 153, 0, 19, 29, 3, 16, 99, 184, 0, 51]
abbrev dktX5_game_0 : List UInt8 := dkwX5_game_0 ++ dktX5_game_1
theorem dksX5_game_0 : cX5_game.data.toList.drop 0 = dktX5_game_0 := by decide +kernel
theorem dksX5_game_1 : cX5_game.data.toList.drop 23 = dktX5_game_1 := dk_seg dksX5_game_0 23 rfl rfl
theorem dksX5_game_2 : cX5_game.data.toList.drop 46 = dktX5_game_2 := dk_seg dksX5_game_1 23 rfl rfl
theorem dksX5_game_3 : cX5_game.data.toList.drop 69 = dktX5_game_3 := dk_seg dksX5_game_2 23 rfl rfl
theorem dksX5_game_4 : cX5_game.data.toList.drop 93 = dktX5_game_4 := dk_seg dksX5_game_3 24 rfl rfl
theorem dksX5_game_5 : cX5_game.data.toList.drop 117 = dktX5_game_5 := dk_seg dksX5_game_4 24 rfl rfl
theorem dksX5_game_6 : cX5_game.data.toList.drop 141 = dktX5_game_6 := dk_seg dksX5_game_5 24 rfl rfl
theorem dksX5_game_7 : cX5_game.data.toList.drop 165 = dktX5_game_7 := dk_seg dksX5_game_6 24 rfl rfl
theorem dksX5_game_8 : cX5_game.data.toList.drop 187 = dktX5_game_8 := dk_seg dksX5_game_7 22 rfl rfl
theorem dX5_game_0 : decode cX5_game 0 = .ok (.aload_n 0, 1) := dk_42 (dk_at dksX5_game_0 0 rfl rfl)
theorem dX5_game_1 : decode cX5_game 1 = .ok (.iload_n 1, 1) := dk_27 (dk_at dksX5_game_0 1 rfl rfl)
theorem dX5_game_2 : decode cX5_game 2 = .ok (.invokevirtual 159, 3) := dk_182 0 159 (dk_at dksX5_game_0 2 rfl rfl)
theorem dX5_game_5 : decode cX5_game 5 = .ok (.ifCond .eq 27, 3) := dk_153 0 27 (dk_at dksX5_game_0 5 rfl rfl)
theorem dX5_game_8 : decode cX5_game 8 = .ok (.aload_n 0, 1) := dk_42 (dk_at dksX5_game_0 8 rfl rfl)
theorem dX5_game_9 : decode cX5_game 9 = .ok (.iload_n 2, 1) := dk_28 (dk_at dksX5_game_0 9 rfl rfl)
theorem dX5_game_10 : decode cX5_game 10 = .ok (.invokevirtual 162, 3) := dk_182 0 162 (dk_at dksX5_game_0 10 rfl rfl)
theorem dX5_game_13 : decode cX5_game 13 = .ok (.ifCond .eq 19, 3) := dk_153 0 19 (dk_at dksX5_game_0 13 rfl rfl)
theorem dX5_game_16 : decode cX5_game 16 = .ok (.iload_n 3, 1) := dk_29 (dk_at dksX5_game_0 16 rfl rfl)
theorem dX5_game_17 : decode cX5_game 17 = .ok (.iconst 0, 1) := dk_3 (dk_at dksX5_game_0 17 rfl rfl)
theorem dX5_game_18 : decode cX5_game 18 = .ok (.bipush 99, 2) := dk_16 99 (dk_at dksX5_game_0 18 rfl rfl)
theorem dX5_game_20 : decode cX5_game 20 = .ok (.invokestatic 51, 3) := dk_184 0 51 (dk_at dksX5_game_0 20 rfl rfl)
theorem dX5_game_23 : decode cX5_game 23 = .ok (.ifCond .eq 9, 3) := dk_153 0 9 (dk_at dksX5_game_1 0 rfl rfl)
theorem dX5_game_26 : decode cX5_game 26 = .ok (.iload 4, 2) := dk_21 4 (dk_at dksX5_game_1 3 rfl rfl)
theorem dX5_game_28 : decode cX5_game 28 = .ok (.iconst (-1), 1) := dk_2 (dk_at dksX5_game_1 5 rfl rfl)
theorem dX5_game_29 : decode cX5_game 29 = .ok (.if_icmp .ge 10, 3) := dk_162 0 10 (dk_at dksX5_game_1 6 rfl rfl)
theorem dX5_game_32 : decode cX5_game 32 = .ok (.aload_n 0, 1) := dk_42 (dk_at dksX5_game_1 9 rfl rfl)
theorem dX5_game_33 : decode cX5_game 33 = .ok (.bipush (-10), 2) := dk_16 246 (dk_at dksX5_game_1 10 rfl rfl)
theorem dX5_game_35 : decode cX5_game 35 = .ok (.invokevirtual 165, 3) := dk_182 0 165 (dk_at dksX5_game_1 12 rfl rfl)
theorem dX5_game_38 : decode cX5_game 38 = .ok (.ireturn, 1) := dk_172 (dk_at dksX5_game_1 15 rfl rfl)
theorem dX5_game_39 : decode cX5_game 39 = .ok (.aload_n 0, 1) := dk_42 (dk_at dksX5_game_1 16 rfl rfl)
theorem dX5_game_40 : decode cX5_game 40 = .ok (.invokevirtual 168, 3) := dk_182 0 168 (dk_at dksX5_game_1 17 rfl rfl)
theorem dX5_game_43 : decode cX5_game 43 = .ok (.iconst 0, 1) := dk_3 (dk_at dksX5_game_1 20 rfl rfl)
theorem dX5_game_44 : decode cX5_game 44 = .ok (.istore 5, 2) := dk_54 5 (dk_at dksX5_game_1 21 rfl rfl)
theorem dX5_game_46 : decode cX5_game 46 = .ok (.iload 5, 2) := dk_21 5 (dk_at dksX5_game_2 0 rfl rfl)
theorem dX5_game_48 : decode cX5_game 48 = .ok (.bipush 20, 2) := dk_16 20 (dk_at dksX5_game_2 2 rfl rfl)
theorem dX5_game_50 : decode cX5_game 50 = .ok (.if_icmp .ge 81, 3) := dk_162 0 81 (dk_at dksX5_game_2 4 rfl rfl)
theorem dX5_game_53 : decode cX5_game 53 = .ok (.aload_n 0, 1) := dk_42 (dk_at dksX5_game_2 7 rfl rfl)
theorem dX5_game_54 : decode cX5_game 54 = .ok (.getfield 7, 3) := dk_180 0 7 (dk_at dksX5_game_2 8 rfl rfl)
theorem dX5_game_57 : decode cX5_game 57 = .ok (.sipush 537, 3) := dk_17 2 25 (dk_at dksX5_game_2 11 rfl rfl)
theorem dX5_game_60 : decode cX5_game 60 = .ok (.iload_n 1, 1) := dk_27 (dk_at dksX5_game_2 14 rfl rfl)
theorem dX5_game_61 : decode cX5_game 61 = .ok (.iadd, 1) := dk_96 (dk_at dksX5_game_2 15 rfl rfl)
theorem dX5_game_62 : decode cX5_game 62 = .ok (.iload 5, 2) := dk_21 5 (dk_at dksX5_game_2 16 rfl rfl)
theorem dX5_game_64 : decode cX5_game 64 = .ok (.bipush 10, 2) := dk_16 10 (dk_at dksX5_game_2 18 rfl rfl)
theorem dX5_game_66 : decode cX5_game 66 = .ok (.irem, 1) := dk_112 (dk_at dksX5_game_2 20 rfl rfl)
theorem dX5_game_67 : decode cX5_game 67 = .ok (.iastore, 1) := dk_79 (dk_at dksX5_game_2 21 rfl rfl)
theorem dX5_game_68 : decode cX5_game 68 = .ok (.aload_n 0, 1) := dk_42 (dk_at dksX5_game_2 22 rfl rfl)
theorem dX5_game_69 : decode cX5_game 69 = .ok (.getfield 7, 3) := dk_180 0 7 (dk_at dksX5_game_3 0 rfl rfl)
theorem dX5_game_72 : decode cX5_game 72 = .ok (.sipush 544, 3) := dk_17 2 32 (dk_at dksX5_game_3 3 rfl rfl)
theorem dX5_game_75 : decode cX5_game 75 = .ok (.iload 5, 2) := dk_21 5 (dk_at dksX5_game_3 6 rfl rfl)
theorem dX5_game_77 : decode cX5_game 77 = .ok (.bipush 10, 2) := dk_16 10 (dk_at dksX5_game_3 8 rfl rfl)
theorem dX5_game_79 : decode cX5_game 79 = .ok (.if_icmp .ge 19, 3) := dk_162 0 19 (dk_at dksX5_game_3 10 rfl rfl)
theorem dX5_game_82 : decode cX5_game 82 = .ok (.aload_n 0, 1) := dk_42 (dk_at dksX5_game_3 13 rfl rfl)
theorem dX5_game_83 : decode cX5_game 83 = .ok (.getfield 7, 3) := dk_180 0 7 (dk_at dksX5_game_3 14 rfl rfl)
theorem dX5_game_86 : decode cX5_game 86 = .ok (.bipush 7, 2) := dk_16 7 (dk_at dksX5_game_3 17 rfl rfl)
theorem dX5_game_88 : decode cX5_game 88 = .ok (.iaload, 1) := dk_46 (dk_at dksX5_game_3 19 rfl rfl)
theorem dX5_game_89 : decode cX5_game 89 = .ok (.iconst 1, 1) := dk_4 (dk_at dksX5_game_3 20 rfl rfl)
theorem dX5_game_90 : decode cX5_game 90 = .ok (.iload_n 2, 1) := dk_28 (dk_at dksX5_game_3 21 rfl rfl)
theorem dX5_game_91 : decode cX5_game 91 = .ok (.ishl, 1) := dk_120 (dk_at dksX5_game_3 22 rfl rfl)
theorem dX5_game_92 : decode cX5_game 92 = .ok (.iconst (-1), 1) := dk_2 (dk_at dksX5_game_3 23 rfl rfl)
theorem dX5_game_93 : decode cX5_game 93 = .ok (.ixor, 1) := dk_130 (dk_at dksX5_game_4 0 rfl rfl)
theorem dX5_game_94 : decode cX5_game 94 = .ok (.iand, 1) := dk_126 (dk_at dksX5_game_4 1 rfl rfl)
theorem dX5_game_95 : decode cX5_game 95 = .ok (.goto 14, 3) := dk_167 0 14 (dk_at dksX5_game_4 2 rfl rfl)
theorem dX5_game_98 : decode cX5_game 98 = .ok (.aload_n 0, 1) := dk_42 (dk_at dksX5_game_4 5 rfl rfl)
theorem dX5_game_99 : decode cX5_game 99 = .ok (.getfield 7, 3) := dk_180 0 7 (dk_at dksX5_game_4 6 rfl rfl)
theorem dX5_game_102 : decode cX5_game 102 = .ok (.bipush 7, 2) := dk_16 7 (dk_at dksX5_game_4 9 rfl rfl)
theorem dX5_game_104 : decode cX5_game 104 = .ok (.iaload, 1) := dk_46 (dk_at dksX5_game_4 11 rfl rfl)
theorem dX5_game_105 : decode cX5_game 105 = .ok (.iconst 1, 1) := dk_4 (dk_at dksX5_game_4 12 rfl rfl)
theorem dX5_game_106 : decode cX5_game 106 = .ok (.iload_n 2, 1) := dk_28 (dk_at dksX5_game_4 13 rfl rfl)
theorem dX5_game_107 : decode cX5_game 107 = .ok (.ishl, 1) := dk_120 (dk_at dksX5_game_4 14 rfl rfl)
theorem dX5_game_108 : decode cX5_game 108 = .ok (.ior, 1) := dk_128 (dk_at dksX5_game_4 15 rfl rfl)
theorem dX5_game_109 : decode cX5_game 109 = .ok (.iastore, 1) := dk_79 (dk_at dksX5_game_4 16 rfl rfl)
theorem dX5_game_110 : decode cX5_game 110 = .ok (.aload_n 0, 1) := dk_42 (dk_at dksX5_game_4 17 rfl rfl)
theorem dX5_game_111 : decode cX5_game 111 = .ok (.getfield 48, 3) := dk_180 0 48 (dk_at dksX5_game_4 18 rfl rfl)
theorem dX5_game_114 : decode cX5_game 114 = .ok (.iload 5, 2) := dk_21 5 (dk_at dksX5_game_4 21 rfl rfl)
theorem dX5_game_116 : decode cX5_game 116 = .ok (.aload_n 0, 1) := dk_42 (dk_at dksX5_game_4 23 rfl rfl)
theorem dX5_game_117 : decode cX5_game 117 = .ok (.sipush 537, 3) := dk_17 2 25 (dk_at dksX5_game_5 0 rfl rfl)
theorem dX5_game_120 : decode cX5_game 120 = .ok (.iload_n 3, 1) := dk_29 (dk_at dksX5_game_5 3 rfl rfl)
theorem dX5_game_121 : decode cX5_game 121 = .ok (.invokevirtual 153, 3) := dk_182 0 153 (dk_at dksX5_game_5 4 rfl rfl)
theorem dX5_game_124 : decode cX5_game 124 = .ok (.iastore, 1) := dk_79 (dk_at dksX5_game_5 7 rfl rfl)
theorem dX5_game_125 : decode cX5_game 125 = .ok (.iinc 5 1, 3) := dk_132 5 1 (dk_at dksX5_game_5 8 rfl rfl)
theorem dX5_game_128 : decode cX5_game 128 = .ok (.goto (-82), 3) := dk_167 255 174 (dk_at dksX5_game_5 11 rfl rfl)
theorem dX5_game_131 : decode cX5_game 131 = .ok (.iconst 0, 1) := dk_3 (dk_at dksX5_game_5 14 rfl rfl)
theorem dX5_game_132 : decode cX5_game 132 = .ok (.istore 5, 2) := dk_54 5 (dk_at dksX5_game_5 15 rfl rfl)
theorem dX5_game_134 : decode cX5_game 134 = .ok (.bipush (-5), 2) := dk_16 251 (dk_at dksX5_game_5 17 rfl rfl)
theorem dX5_game_136 : decode cX5_game 136 = .ok (.istore 6, 2) := dk_54 6 (dk_at dksX5_game_5 19 rfl rfl)
theorem dX5_game_138 : decode cX5_game 138 = .ok (.iconst 0, 1) := dk_3 (dk_at dksX5_game_5 21 rfl rfl)
theorem dX5_game_139 : decode cX5_game 139 = .ok (.istore 7, 2) := dk_54 7 (dk_at dksX5_game_5 22 rfl rfl)
theorem dX5_game_141 : decode cX5_game 141 = .ok (.iload 7, 2) := dk_21 7 (dk_at dksX5_game_6 0 rfl rfl)
theorem dX5_game_143 : decode cX5_game 143 = .ok (.bipush 20, 2) := dk_16 20 (dk_at dksX5_game_6 2 rfl rfl)
theorem dX5_game_145 : decode cX5_game 145 = .ok (.if_icmp .ge 45, 3) := dk_162 0 45 (dk_at dksX5_game_6 4 rfl rfl)
theorem dX5_game_148 : decode cX5_game 148 = .ok (.aload_n 0, 1) := dk_42 (dk_at dksX5_game_6 7 rfl rfl)
theorem dX5_game_149 : decode cX5_game 149 = .ok (.iload 7, 2) := dk_21 7 (dk_at dksX5_game_6 8 rfl rfl)
theorem dX5_game_151 : decode cX5_game 151 = .ok (.bipush 10, 2) := dk_16 10 (dk_at dksX5_game_6 10 rfl rfl)
theorem dX5_game_153 : decode cX5_game 153 = .ok (.idiv, 1) := dk_108 (dk_at dksX5_game_6 12 rfl rfl)
theorem dX5_game_154 : decode cX5_game 154 = .ok (.iload 7, 2) := dk_21 7 (dk_at dksX5_game_6 13 rfl rfl)
theorem dX5_game_156 : decode cX5_game 156 = .ok (.bipush 10, 2) := dk_16 10 (dk_at dksX5_game_6 15 rfl rfl)
theorem dX5_game_158 : decode cX5_game 158 = .ok (.irem, 1) := dk_112 (dk_at dksX5_game_6 17 rfl rfl)
theorem dX5_game_159 : decode cX5_game 159 = .ok (.invokevirtual 210, 3) := dk_182 0 210 (dk_at dksX5_game_6 18 rfl rfl)
theorem dX5_game_162 : decode cX5_game 162 = .ok (.ifCond .eq 22, 3) := dk_153 0 22 (dk_at dksX5_game_6 21 rfl rfl)
theorem dX5_game_165 : decode cX5_game 165 = .ok (.iload 5, 2) := dk_21 5 (dk_at dksX5_game_7 0 rfl rfl)
theorem dX5_game_167 : decode cX5_game 167 = .ok (.iload 4, 2) := dk_21 4 (dk_at dksX5_game_7 2 rfl rfl)
theorem dX5_game_169 : decode cX5_game 169 = .ok (.if_icmp .ne 8, 3) := dk_160 0 8 (dk_at dksX5_game_7 4 rfl rfl)
theorem dX5_game_172 : decode cX5_game 172 = .ok (.iload 7, 2) := dk_21 7 (dk_at dksX5_game_7 7 rfl rfl)
theorem dX5_game_174 : decode cX5_game 174 = .ok (.goto 5, 3) := dk_167 0 5 (dk_at dksX5_game_7 9 rfl rfl)
theorem dX5_game_177 : decode cX5_game 177 = .ok (.iload 6, 2) := dk_21 6 (dk_at dksX5_game_7 12 rfl rfl)
theorem dX5_game_179 : decode cX5_game 179 = .ok (.istore 6, 2) := dk_54 6 (dk_at dksX5_game_7 14 rfl rfl)
theorem dX5_game_181 : decode cX5_game 181 = .ok (.iinc 5 1, 3) := dk_132 5 1 (dk_at dksX5_game_7 16 rfl rfl)
theorem dX5_game_184 : decode cX5_game 184 = .ok (.iinc 7 1, 3) := dk_132 7 1 (dk_at dksX5_game_7 19 rfl rfl)
theorem dX5_game_187 : decode cX5_game 187 = .ok (.goto (-46), 3) := dk_167 255 210 (dk_at dksX5_game_8 0 rfl rfl)
theorem dX5_game_190 : decode cX5_game 190 = .ok (.iload 4, 2) := dk_21 4 (dk_at dksX5_game_8 3 rfl rfl)
theorem dX5_game_192 : decode cX5_game 192 = .ok (.iconst (-1), 1) := dk_2 (dk_at dksX5_game_8 5 rfl rfl)
theorem dX5_game_193 : decode cX5_game 193 = .ok (.if_icmp .ne 8, 3) := dk_160 0 8 (dk_at dksX5_game_8 6 rfl rfl)
theorem dX5_game_196 : decode cX5_game 196 = .ok (.iload 5, 2) := dk_21 5 (dk_at dksX5_game_8 9 rfl rfl)
theorem dX5_game_198 : decode cX5_game 198 = .ok (.goto 5, 3) := dk_167 0 5 (dk_at dksX5_game_8 11 rfl rfl)
theorem dX5_game_201 : decode cX5_game 201 = .ok (.iload 6, 2) := dk_21 6 (dk_at dksX5_game_8 14 rfl rfl)
theorem dX5_game_203 : decode cX5_game 203 = .ok (.ireturn, 1) := dk_172 (dk_at dksX5_game_8 16 rfl rfl)
abbrev cX5_rests : ByteArray := prog_20_method_74_code
def yX5_rests : MethodName := ⟨RX5, "rests", "(II)Z"⟩
def dkwX5_rests_4 : List UInt8 := [167, 0, 4, 3, 54, 4, 132, 5, 1, 167, 255, 215, 21, 4, 172]
abbrev dktX5_rests_4 : List UInt8 := dkwX5_rests_4 ++ []
def dkwX5_rests_3 : List UInt8 := [153, 0, 26, 42, 180, 0, 48, 16, 10, 27, 104, 21, 5, 96, 46, 21, 5, 100, 29, 163, 0, 7, 4]
abbrev dktX5_rests_3 : List UInt8 := dkwX5_rests_3 ++ dktX5_rests_4
def dkwX5_rests_2 : List UInt8 := [104, 100, 161, 0, 7, 4, 167, 0, 4, 3, 54, 4, 3, 54, 5, 21, 5, 16, 10, 162, 0, 40, 21, 4]
abbrev dktX5_rests_2 : List UInt8 := dkwX5_rests_2 ++ dktX5_rests_3
def dkwX5_rests_1 : List UInt8 := [46, 116, 5, 27, 104, 100, 42, 180, 0, 48, 16, 10, 4, 27, 100, 104, 28, 96, 46, 116, 5, 4, 27, 100]
abbrev dktX5_rests_1 : List UInt8 := dkwX5_rests_1 ++ dktX5_rests_2
def dkwX5_rests_0 : List UInt8 := [42, 180, 0, 48, 16, 10, 27, 104, 28, 96, 46, 28, 100, 62, 42, 180, 0, 48, 16, 10, 27, 104, 28, 96]
abbrev dktX5_rests_0 : List UInt8 := dkwX5_rests_0 ++ dktX5_rests_1
theorem dksX5_rests_0 : cX5_rests.data.toList.drop 0 = dktX5_rests_0 := by decide +kernel
theorem dksX5_rests_1 : cX5_rests.data.toList.drop 24 = dktX5_rests_1 := dk_seg dksX5_rests_0 24 rfl rfl
theorem dksX5_rests_2 : cX5_rests.data.toList.drop 48 = dktX5_rests_2 := dk_seg dksX5_rests_1 24 rfl rfl
theorem dksX5_rests_3 : cX5_rests.data.toList.drop 72 = dktX5_rests_3 := dk_seg dksX5_rests_2 24 rfl rfl
theorem dksX5_rests_4 : cX5_rests.data.toList.drop 95 = dktX5_rests_4 := dk_seg dksX5_rests_3 23 rfl rfl
theorem dX5_rests_0 : decode cX5_rests 0 = .ok (.aload_n 0, 1) := dk_42 (dk_at dksX5_rests_0 0 rfl rfl)
theorem dX5_rests_1 : decode cX5_rests 1 = .ok (.getfield 48, 3) := dk_180 0 48 (dk_at dksX5_rests_0 1 rfl rfl)
theorem dX5_rests_4 : decode cX5_rests 4 = .ok (.bipush 10, 2) := dk_16 10 (dk_at dksX5_rests_0 4 rfl rfl)
theorem dX5_rests_6 : decode cX5_rests 6 = .ok (.iload_n 1, 1) := dk_27 (dk_at dksX5_rests_0 6 rfl rfl)
theorem dX5_rests_7 : decode cX5_rests 7 = .ok (.imul, 1) := dk_104 (dk_at dksX5_rests_0 7 rfl rfl)
theorem dX5_rests_8 : decode cX5_rests 8 = .ok (.iload_n 2, 1) := dk_28 (dk_at dksX5_rests_0 8 rfl rfl)
theorem dX5_rests_9 : decode cX5_rests 9 = .ok (.iadd, 1) := dk_96 (dk_at dksX5_rests_0 9 rfl rfl)
theorem dX5_rests_10 : decode cX5_rests 10 = .ok (.iaload, 1) := dk_46 (dk_at dksX5_rests_0 10 rfl rfl)
theorem dX5_rests_11 : decode cX5_rests 11 = .ok (.iload_n 2, 1) := dk_28 (dk_at dksX5_rests_0 11 rfl rfl)
theorem dX5_rests_12 : decode cX5_rests 12 = .ok (.isub, 1) := dk_100 (dk_at dksX5_rests_0 12 rfl rfl)
theorem dX5_rests_13 : decode cX5_rests 13 = .ok (.istore_n 3, 1) := dk_62 (dk_at dksX5_rests_0 13 rfl rfl)
theorem dX5_rests_14 : decode cX5_rests 14 = .ok (.aload_n 0, 1) := dk_42 (dk_at dksX5_rests_0 14 rfl rfl)
theorem dX5_rests_15 : decode cX5_rests 15 = .ok (.getfield 48, 3) := dk_180 0 48 (dk_at dksX5_rests_0 15 rfl rfl)
theorem dX5_rests_18 : decode cX5_rests 18 = .ok (.bipush 10, 2) := dk_16 10 (dk_at dksX5_rests_0 18 rfl rfl)
theorem dX5_rests_20 : decode cX5_rests 20 = .ok (.iload_n 1, 1) := dk_27 (dk_at dksX5_rests_0 20 rfl rfl)
theorem dX5_rests_21 : decode cX5_rests 21 = .ok (.imul, 1) := dk_104 (dk_at dksX5_rests_0 21 rfl rfl)
theorem dX5_rests_22 : decode cX5_rests 22 = .ok (.iload_n 2, 1) := dk_28 (dk_at dksX5_rests_0 22 rfl rfl)
theorem dX5_rests_23 : decode cX5_rests 23 = .ok (.iadd, 1) := dk_96 (dk_at dksX5_rests_0 23 rfl rfl)
theorem dX5_rests_24 : decode cX5_rests 24 = .ok (.iaload, 1) := dk_46 (dk_at dksX5_rests_1 0 rfl rfl)
theorem dX5_rests_25 : decode cX5_rests 25 = .ok (.ineg, 1) := dk_116 (dk_at dksX5_rests_1 1 rfl rfl)
theorem dX5_rests_26 : decode cX5_rests 26 = .ok (.iconst 2, 1) := dk_5 (dk_at dksX5_rests_1 2 rfl rfl)
theorem dX5_rests_27 : decode cX5_rests 27 = .ok (.iload_n 1, 1) := dk_27 (dk_at dksX5_rests_1 3 rfl rfl)
theorem dX5_rests_28 : decode cX5_rests 28 = .ok (.imul, 1) := dk_104 (dk_at dksX5_rests_1 4 rfl rfl)
theorem dX5_rests_29 : decode cX5_rests 29 = .ok (.isub, 1) := dk_100 (dk_at dksX5_rests_1 5 rfl rfl)
theorem dX5_rests_30 : decode cX5_rests 30 = .ok (.aload_n 0, 1) := dk_42 (dk_at dksX5_rests_1 6 rfl rfl)
theorem dX5_rests_31 : decode cX5_rests 31 = .ok (.getfield 48, 3) := dk_180 0 48 (dk_at dksX5_rests_1 7 rfl rfl)
theorem dX5_rests_34 : decode cX5_rests 34 = .ok (.bipush 10, 2) := dk_16 10 (dk_at dksX5_rests_1 10 rfl rfl)
theorem dX5_rests_36 : decode cX5_rests 36 = .ok (.iconst 1, 1) := dk_4 (dk_at dksX5_rests_1 12 rfl rfl)
theorem dX5_rests_37 : decode cX5_rests 37 = .ok (.iload_n 1, 1) := dk_27 (dk_at dksX5_rests_1 13 rfl rfl)
theorem dX5_rests_38 : decode cX5_rests 38 = .ok (.isub, 1) := dk_100 (dk_at dksX5_rests_1 14 rfl rfl)
theorem dX5_rests_39 : decode cX5_rests 39 = .ok (.imul, 1) := dk_104 (dk_at dksX5_rests_1 15 rfl rfl)
theorem dX5_rests_40 : decode cX5_rests 40 = .ok (.iload_n 2, 1) := dk_28 (dk_at dksX5_rests_1 16 rfl rfl)
theorem dX5_rests_41 : decode cX5_rests 41 = .ok (.iadd, 1) := dk_96 (dk_at dksX5_rests_1 17 rfl rfl)
theorem dX5_rests_42 : decode cX5_rests 42 = .ok (.iaload, 1) := dk_46 (dk_at dksX5_rests_1 18 rfl rfl)
theorem dX5_rests_43 : decode cX5_rests 43 = .ok (.ineg, 1) := dk_116 (dk_at dksX5_rests_1 19 rfl rfl)
theorem dX5_rests_44 : decode cX5_rests 44 = .ok (.iconst 2, 1) := dk_5 (dk_at dksX5_rests_1 20 rfl rfl)
theorem dX5_rests_45 : decode cX5_rests 45 = .ok (.iconst 1, 1) := dk_4 (dk_at dksX5_rests_1 21 rfl rfl)
theorem dX5_rests_46 : decode cX5_rests 46 = .ok (.iload_n 1, 1) := dk_27 (dk_at dksX5_rests_1 22 rfl rfl)
theorem dX5_rests_47 : decode cX5_rests 47 = .ok (.isub, 1) := dk_100 (dk_at dksX5_rests_1 23 rfl rfl)
theorem dX5_rests_48 : decode cX5_rests 48 = .ok (.imul, 1) := dk_104 (dk_at dksX5_rests_2 0 rfl rfl)
theorem dX5_rests_49 : decode cX5_rests 49 = .ok (.isub, 1) := dk_100 (dk_at dksX5_rests_2 1 rfl rfl)
theorem dX5_rests_50 : decode cX5_rests 50 = .ok (.if_icmp .lt 7, 3) := dk_161 0 7 (dk_at dksX5_rests_2 2 rfl rfl)
theorem dX5_rests_53 : decode cX5_rests 53 = .ok (.iconst 1, 1) := dk_4 (dk_at dksX5_rests_2 5 rfl rfl)
theorem dX5_rests_54 : decode cX5_rests 54 = .ok (.goto 4, 3) := dk_167 0 4 (dk_at dksX5_rests_2 6 rfl rfl)
theorem dX5_rests_57 : decode cX5_rests 57 = .ok (.iconst 0, 1) := dk_3 (dk_at dksX5_rests_2 9 rfl rfl)
theorem dX5_rests_58 : decode cX5_rests 58 = .ok (.istore 4, 2) := dk_54 4 (dk_at dksX5_rests_2 10 rfl rfl)
theorem dX5_rests_60 : decode cX5_rests 60 = .ok (.iconst 0, 1) := dk_3 (dk_at dksX5_rests_2 12 rfl rfl)
theorem dX5_rests_61 : decode cX5_rests 61 = .ok (.istore 5, 2) := dk_54 5 (dk_at dksX5_rests_2 13 rfl rfl)
theorem dX5_rests_63 : decode cX5_rests 63 = .ok (.iload 5, 2) := dk_21 5 (dk_at dksX5_rests_2 15 rfl rfl)
theorem dX5_rests_65 : decode cX5_rests 65 = .ok (.bipush 10, 2) := dk_16 10 (dk_at dksX5_rests_2 17 rfl rfl)
theorem dX5_rests_67 : decode cX5_rests 67 = .ok (.if_icmp .ge 40, 3) := dk_162 0 40 (dk_at dksX5_rests_2 19 rfl rfl)
theorem dX5_rests_70 : decode cX5_rests 70 = .ok (.iload 4, 2) := dk_21 4 (dk_at dksX5_rests_2 22 rfl rfl)
theorem dX5_rests_72 : decode cX5_rests 72 = .ok (.ifCond .eq 26, 3) := dk_153 0 26 (dk_at dksX5_rests_3 0 rfl rfl)
theorem dX5_rests_75 : decode cX5_rests 75 = .ok (.aload_n 0, 1) := dk_42 (dk_at dksX5_rests_3 3 rfl rfl)
theorem dX5_rests_76 : decode cX5_rests 76 = .ok (.getfield 48, 3) := dk_180 0 48 (dk_at dksX5_rests_3 4 rfl rfl)
theorem dX5_rests_79 : decode cX5_rests 79 = .ok (.bipush 10, 2) := dk_16 10 (dk_at dksX5_rests_3 7 rfl rfl)
theorem dX5_rests_81 : decode cX5_rests 81 = .ok (.iload_n 1, 1) := dk_27 (dk_at dksX5_rests_3 9 rfl rfl)
theorem dX5_rests_82 : decode cX5_rests 82 = .ok (.imul, 1) := dk_104 (dk_at dksX5_rests_3 10 rfl rfl)
theorem dX5_rests_83 : decode cX5_rests 83 = .ok (.iload 5, 2) := dk_21 5 (dk_at dksX5_rests_3 11 rfl rfl)
theorem dX5_rests_85 : decode cX5_rests 85 = .ok (.iadd, 1) := dk_96 (dk_at dksX5_rests_3 13 rfl rfl)
theorem dX5_rests_86 : decode cX5_rests 86 = .ok (.iaload, 1) := dk_46 (dk_at dksX5_rests_3 14 rfl rfl)
theorem dX5_rests_87 : decode cX5_rests 87 = .ok (.iload 5, 2) := dk_21 5 (dk_at dksX5_rests_3 15 rfl rfl)
theorem dX5_rests_89 : decode cX5_rests 89 = .ok (.isub, 1) := dk_100 (dk_at dksX5_rests_3 17 rfl rfl)
theorem dX5_rests_90 : decode cX5_rests 90 = .ok (.iload_n 3, 1) := dk_29 (dk_at dksX5_rests_3 18 rfl rfl)
theorem dX5_rests_91 : decode cX5_rests 91 = .ok (.if_icmp .gt 7, 3) := dk_163 0 7 (dk_at dksX5_rests_3 19 rfl rfl)
theorem dX5_rests_94 : decode cX5_rests 94 = .ok (.iconst 1, 1) := dk_4 (dk_at dksX5_rests_3 22 rfl rfl)
theorem dX5_rests_95 : decode cX5_rests 95 = .ok (.goto 4, 3) := dk_167 0 4 (dk_at dksX5_rests_4 0 rfl rfl)
theorem dX5_rests_98 : decode cX5_rests 98 = .ok (.iconst 0, 1) := dk_3 (dk_at dksX5_rests_4 3 rfl rfl)
theorem dX5_rests_99 : decode cX5_rests 99 = .ok (.istore 4, 2) := dk_54 4 (dk_at dksX5_rests_4 4 rfl rfl)
theorem dX5_rests_101 : decode cX5_rests 101 = .ok (.iinc 5 1, 3) := dk_132 5 1 (dk_at dksX5_rests_4 6 rfl rfl)
theorem dX5_rests_104 : decode cX5_rests 104 = .ok (.goto (-41), 3) := dk_167 255 215 (dk_at dksX5_rests_4 9 rfl rfl)
theorem dX5_rests_107 : decode cX5_rests 107 = .ok (.iload 4, 2) := dk_21 4 (dk_at dksX5_rests_4 12 rfl rfl)
theorem dX5_rests_109 : decode cX5_rests 109 = .ok (.ireturn, 1) := dk_172 (dk_at dksX5_rests_4 14 rfl rfl)
abbrev cX5_slips : ByteArray := prog_20_method_77_code
def yX5_slips : MethodName := ⟨RX5, "slips", "(II)I"⟩
def dkwX5_slips_8 : List UInt8 := [182, 0, 216, 4, 172]
abbrev dktX5_slips_8 : List UInt8 := dkwX5_slips_8 ++ []
def dkwX5_slips_7 : List UInt8 := [167, 0, 4, 9, 97, 66, 22, 5, 22, 8, 97, 55, 5, 132, 7, 1, 167, 255, 118, 42, 33, 22, 5]
abbrev dktX5_slips_7 : List UInt8 := dkwX5_slips_7 ++ dktX5_slips_8
def dkwX5_slips_6 : List UInt8 := [16, 7, 46, 21, 7, 2, 130, 126, 79, 33, 42, 17, 2, 25, 27, 182, 0, 153, 158, 0, 8, 22, 8]
abbrev dktX5_slips_6 : List UInt8 := dkwX5_slips_6 ++ dktX5_slips_7
def dkwX5_slips_5 : List UInt8 := [28, 100, 133, 105, 55, 8, 132, 10, 1, 167, 255, 203, 42, 180, 0, 7, 17, 2, 32, 42, 180, 0, 7]
abbrev dktX5_slips_5 : List UInt8 := dkwX5_slips_5 ++ dktX5_slips_6
def dkwX5_slips_4 : List UInt8 := [154, 0, 7, 10, 167, 0, 23, 21, 7, 21, 10, 184, 0, 139, 153, 0, 8, 28, 133, 167, 0, 8, 16, 10]
abbrev dktX5_slips_4 : List UInt8 := dkwX5_slips_4 ++ dktX5_slips_5
def dkwX5_slips_3 : List UInt8 := [54, 10, 21, 10, 7, 162, 0, 53, 22, 8, 42, 180, 0, 7, 16, 7, 46, 21, 10, 184, 0, 139]
abbrev dktX5_slips_3 : List UInt8 := dkwX5_slips_3 ++ dktX5_slips_4
def dkwX5_slips_2 : List UInt8 := [21, 7, 42, 180, 0, 7, 16, 7, 46, 2, 130, 126, 154, 0, 7, 10, 167, 0, 4, 9, 55, 8, 3]
abbrev dktX5_slips_2 : List UInt8 := dkwX5_slips_2 ++ dktX5_slips_3
def dkwX5_slips_1 : List UInt8 := [182, 0, 55, 172, 42, 182, 0, 168, 9, 66, 9, 55, 5, 3, 54, 7, 21, 7, 16, 16, 162, 0, 137]
abbrev dktX5_slips_1 : List UInt8 := dkwX5_slips_1 ++ dktX5_slips_2
def dkwX5_slips_0 : List UInt8 := [27, 3, 16, 99, 184, 0, 51, 153, 0, 13, 28, 3, 16, 10, 184, 0, 51, 154, 0, 10, 42, 16, 254]
abbrev dktX5_slips_0 : List UInt8 := dkwX5_slips_0 ++ dktX5_slips_1
theorem dksX5_slips_0 : cX5_slips.data.toList.drop 0 = dktX5_slips_0 := by decide +kernel
theorem dksX5_slips_1 : cX5_slips.data.toList.drop 23 = dktX5_slips_1 := dk_seg dksX5_slips_0 23 rfl rfl
theorem dksX5_slips_2 : cX5_slips.data.toList.drop 46 = dktX5_slips_2 := dk_seg dksX5_slips_1 23 rfl rfl
theorem dksX5_slips_3 : cX5_slips.data.toList.drop 69 = dktX5_slips_3 := dk_seg dksX5_slips_2 23 rfl rfl
theorem dksX5_slips_4 : cX5_slips.data.toList.drop 91 = dktX5_slips_4 := dk_seg dksX5_slips_3 22 rfl rfl
theorem dksX5_slips_5 : cX5_slips.data.toList.drop 115 = dktX5_slips_5 := dk_seg dksX5_slips_4 24 rfl rfl
theorem dksX5_slips_6 : cX5_slips.data.toList.drop 138 = dktX5_slips_6 := dk_seg dksX5_slips_5 23 rfl rfl
theorem dksX5_slips_7 : cX5_slips.data.toList.drop 161 = dktX5_slips_7 := dk_seg dksX5_slips_6 23 rfl rfl
theorem dksX5_slips_8 : cX5_slips.data.toList.drop 184 = dktX5_slips_8 := dk_seg dksX5_slips_7 23 rfl rfl
theorem dX5_slips_0 : decode cX5_slips 0 = .ok (.iload_n 1, 1) := dk_27 (dk_at dksX5_slips_0 0 rfl rfl)
theorem dX5_slips_1 : decode cX5_slips 1 = .ok (.iconst 0, 1) := dk_3 (dk_at dksX5_slips_0 1 rfl rfl)
theorem dX5_slips_2 : decode cX5_slips 2 = .ok (.bipush 99, 2) := dk_16 99 (dk_at dksX5_slips_0 2 rfl rfl)
theorem dX5_slips_4 : decode cX5_slips 4 = .ok (.invokestatic 51, 3) := dk_184 0 51 (dk_at dksX5_slips_0 4 rfl rfl)
theorem dX5_slips_7 : decode cX5_slips 7 = .ok (.ifCond .eq 13, 3) := dk_153 0 13 (dk_at dksX5_slips_0 7 rfl rfl)
theorem dX5_slips_10 : decode cX5_slips 10 = .ok (.iload_n 2, 1) := dk_28 (dk_at dksX5_slips_0 10 rfl rfl)
theorem dX5_slips_11 : decode cX5_slips 11 = .ok (.iconst 0, 1) := dk_3 (dk_at dksX5_slips_0 11 rfl rfl)
theorem dX5_slips_12 : decode cX5_slips 12 = .ok (.bipush 10, 2) := dk_16 10 (dk_at dksX5_slips_0 12 rfl rfl)
theorem dX5_slips_14 : decode cX5_slips 14 = .ok (.invokestatic 51, 3) := dk_184 0 51 (dk_at dksX5_slips_0 14 rfl rfl)
theorem dX5_slips_17 : decode cX5_slips 17 = .ok (.ifCond .ne 10, 3) := dk_154 0 10 (dk_at dksX5_slips_0 17 rfl rfl)
theorem dX5_slips_20 : decode cX5_slips 20 = .ok (.aload_n 0, 1) := dk_42 (dk_at dksX5_slips_0 20 rfl rfl)
theorem dX5_slips_21 : decode cX5_slips 21 = .ok (.bipush (-2), 2) := dk_16 254 (dk_at dksX5_slips_0 21 rfl rfl)
theorem dX5_slips_23 : decode cX5_slips 23 = .ok (.invokevirtual 55, 3) := dk_182 0 55 (dk_at dksX5_slips_1 0 rfl rfl)
theorem dX5_slips_26 : decode cX5_slips 26 = .ok (.ireturn, 1) := dk_172 (dk_at dksX5_slips_1 3 rfl rfl)
theorem dX5_slips_27 : decode cX5_slips 27 = .ok (.aload_n 0, 1) := dk_42 (dk_at dksX5_slips_1 4 rfl rfl)
theorem dX5_slips_28 : decode cX5_slips 28 = .ok (.invokevirtual 168, 3) := dk_182 0 168 (dk_at dksX5_slips_1 5 rfl rfl)
theorem dX5_slips_31 : decode cX5_slips 31 = .ok (.lconst 0, 1) := dk_9 (dk_at dksX5_slips_1 8 rfl rfl)
theorem dX5_slips_32 : decode cX5_slips 32 = .ok (.lstore_n 3, 1) := dk_66 (dk_at dksX5_slips_1 9 rfl rfl)
theorem dX5_slips_33 : decode cX5_slips 33 = .ok (.lconst 0, 1) := dk_9 (dk_at dksX5_slips_1 10 rfl rfl)
theorem dX5_slips_34 : decode cX5_slips 34 = .ok (.lstore 5, 2) := dk_55 5 (dk_at dksX5_slips_1 11 rfl rfl)
theorem dX5_slips_36 : decode cX5_slips 36 = .ok (.iconst 0, 1) := dk_3 (dk_at dksX5_slips_1 13 rfl rfl)
theorem dX5_slips_37 : decode cX5_slips 37 = .ok (.istore 7, 2) := dk_54 7 (dk_at dksX5_slips_1 14 rfl rfl)
theorem dX5_slips_39 : decode cX5_slips 39 = .ok (.iload 7, 2) := dk_21 7 (dk_at dksX5_slips_1 16 rfl rfl)
theorem dX5_slips_41 : decode cX5_slips 41 = .ok (.bipush 16, 2) := dk_16 16 (dk_at dksX5_slips_1 18 rfl rfl)
theorem dX5_slips_43 : decode cX5_slips 43 = .ok (.if_icmp .ge 137, 3) := dk_162 0 137 (dk_at dksX5_slips_1 20 rfl rfl)
theorem dX5_slips_46 : decode cX5_slips 46 = .ok (.iload 7, 2) := dk_21 7 (dk_at dksX5_slips_2 0 rfl rfl)
theorem dX5_slips_48 : decode cX5_slips 48 = .ok (.aload_n 0, 1) := dk_42 (dk_at dksX5_slips_2 2 rfl rfl)
theorem dX5_slips_49 : decode cX5_slips 49 = .ok (.getfield 7, 3) := dk_180 0 7 (dk_at dksX5_slips_2 3 rfl rfl)
theorem dX5_slips_52 : decode cX5_slips 52 = .ok (.bipush 7, 2) := dk_16 7 (dk_at dksX5_slips_2 6 rfl rfl)
theorem dX5_slips_54 : decode cX5_slips 54 = .ok (.iaload, 1) := dk_46 (dk_at dksX5_slips_2 8 rfl rfl)
theorem dX5_slips_55 : decode cX5_slips 55 = .ok (.iconst (-1), 1) := dk_2 (dk_at dksX5_slips_2 9 rfl rfl)
theorem dX5_slips_56 : decode cX5_slips 56 = .ok (.ixor, 1) := dk_130 (dk_at dksX5_slips_2 10 rfl rfl)
theorem dX5_slips_57 : decode cX5_slips 57 = .ok (.iand, 1) := dk_126 (dk_at dksX5_slips_2 11 rfl rfl)
theorem dX5_slips_58 : decode cX5_slips 58 = .ok (.ifCond .ne 7, 3) := dk_154 0 7 (dk_at dksX5_slips_2 12 rfl rfl)
theorem dX5_slips_61 : decode cX5_slips 61 = .ok (.lconst 1, 1) := dk_10 (dk_at dksX5_slips_2 15 rfl rfl)
theorem dX5_slips_62 : decode cX5_slips 62 = .ok (.goto 4, 3) := dk_167 0 4 (dk_at dksX5_slips_2 16 rfl rfl)
theorem dX5_slips_65 : decode cX5_slips 65 = .ok (.lconst 0, 1) := dk_9 (dk_at dksX5_slips_2 19 rfl rfl)
theorem dX5_slips_66 : decode cX5_slips 66 = .ok (.lstore 8, 2) := dk_55 8 (dk_at dksX5_slips_2 20 rfl rfl)
theorem dX5_slips_68 : decode cX5_slips 68 = .ok (.iconst 0, 1) := dk_3 (dk_at dksX5_slips_2 22 rfl rfl)
theorem dX5_slips_69 : decode cX5_slips 69 = .ok (.istore 10, 2) := dk_54 10 (dk_at dksX5_slips_3 0 rfl rfl)
theorem dX5_slips_71 : decode cX5_slips 71 = .ok (.iload 10, 2) := dk_21 10 (dk_at dksX5_slips_3 2 rfl rfl)
theorem dX5_slips_73 : decode cX5_slips 73 = .ok (.iconst 4, 1) := dk_7 (dk_at dksX5_slips_3 4 rfl rfl)
theorem dX5_slips_74 : decode cX5_slips 74 = .ok (.if_icmp .ge 53, 3) := dk_162 0 53 (dk_at dksX5_slips_3 5 rfl rfl)
theorem dX5_slips_77 : decode cX5_slips 77 = .ok (.lload 8, 2) := dk_22 8 (dk_at dksX5_slips_3 8 rfl rfl)
theorem dX5_slips_79 : decode cX5_slips 79 = .ok (.aload_n 0, 1) := dk_42 (dk_at dksX5_slips_3 10 rfl rfl)
theorem dX5_slips_80 : decode cX5_slips 80 = .ok (.getfield 7, 3) := dk_180 0 7 (dk_at dksX5_slips_3 11 rfl rfl)
theorem dX5_slips_83 : decode cX5_slips 83 = .ok (.bipush 7, 2) := dk_16 7 (dk_at dksX5_slips_3 14 rfl rfl)
theorem dX5_slips_85 : decode cX5_slips 85 = .ok (.iaload, 1) := dk_46 (dk_at dksX5_slips_3 16 rfl rfl)
theorem dX5_slips_86 : decode cX5_slips 86 = .ok (.iload 10, 2) := dk_21 10 (dk_at dksX5_slips_3 17 rfl rfl)
theorem dX5_slips_88 : decode cX5_slips 88 = .ok (.invokestatic 139, 3) := dk_184 0 139 (dk_at dksX5_slips_3 19 rfl rfl)
theorem dX5_slips_91 : decode cX5_slips 91 = .ok (.ifCond .ne 7, 3) := dk_154 0 7 (dk_at dksX5_slips_4 0 rfl rfl)
theorem dX5_slips_94 : decode cX5_slips 94 = .ok (.lconst 1, 1) := dk_10 (dk_at dksX5_slips_4 3 rfl rfl)
theorem dX5_slips_95 : decode cX5_slips 95 = .ok (.goto 23, 3) := dk_167 0 23 (dk_at dksX5_slips_4 4 rfl rfl)
theorem dX5_slips_98 : decode cX5_slips 98 = .ok (.iload 7, 2) := dk_21 7 (dk_at dksX5_slips_4 7 rfl rfl)
theorem dX5_slips_100 : decode cX5_slips 100 = .ok (.iload 10, 2) := dk_21 10 (dk_at dksX5_slips_4 9 rfl rfl)
theorem dX5_slips_102 : decode cX5_slips 102 = .ok (.invokestatic 139, 3) := dk_184 0 139 (dk_at dksX5_slips_4 11 rfl rfl)
theorem dX5_slips_105 : decode cX5_slips 105 = .ok (.ifCond .eq 8, 3) := dk_153 0 8 (dk_at dksX5_slips_4 14 rfl rfl)
theorem dX5_slips_108 : decode cX5_slips 108 = .ok (.iload_n 2, 1) := dk_28 (dk_at dksX5_slips_4 17 rfl rfl)
theorem dX5_slips_109 : decode cX5_slips 109 = .ok (.i2l, 1) := dk_133 (dk_at dksX5_slips_4 18 rfl rfl)
theorem dX5_slips_110 : decode cX5_slips 110 = .ok (.goto 8, 3) := dk_167 0 8 (dk_at dksX5_slips_4 19 rfl rfl)
theorem dX5_slips_113 : decode cX5_slips 113 = .ok (.bipush 10, 2) := dk_16 10 (dk_at dksX5_slips_4 22 rfl rfl)
theorem dX5_slips_115 : decode cX5_slips 115 = .ok (.iload_n 2, 1) := dk_28 (dk_at dksX5_slips_5 0 rfl rfl)
theorem dX5_slips_116 : decode cX5_slips 116 = .ok (.isub, 1) := dk_100 (dk_at dksX5_slips_5 1 rfl rfl)
theorem dX5_slips_117 : decode cX5_slips 117 = .ok (.i2l, 1) := dk_133 (dk_at dksX5_slips_5 2 rfl rfl)
theorem dX5_slips_118 : decode cX5_slips 118 = .ok (.lmul, 1) := dk_105 (dk_at dksX5_slips_5 3 rfl rfl)
theorem dX5_slips_119 : decode cX5_slips 119 = .ok (.lstore 8, 2) := dk_55 8 (dk_at dksX5_slips_5 4 rfl rfl)
theorem dX5_slips_121 : decode cX5_slips 121 = .ok (.iinc 10 1, 3) := dk_132 10 1 (dk_at dksX5_slips_5 6 rfl rfl)
theorem dX5_slips_124 : decode cX5_slips 124 = .ok (.goto (-53), 3) := dk_167 255 203 (dk_at dksX5_slips_5 9 rfl rfl)
theorem dX5_slips_127 : decode cX5_slips 127 = .ok (.aload_n 0, 1) := dk_42 (dk_at dksX5_slips_5 12 rfl rfl)
theorem dX5_slips_128 : decode cX5_slips 128 = .ok (.getfield 7, 3) := dk_180 0 7 (dk_at dksX5_slips_5 13 rfl rfl)
theorem dX5_slips_131 : decode cX5_slips 131 = .ok (.sipush 544, 3) := dk_17 2 32 (dk_at dksX5_slips_5 16 rfl rfl)
theorem dX5_slips_134 : decode cX5_slips 134 = .ok (.aload_n 0, 1) := dk_42 (dk_at dksX5_slips_5 19 rfl rfl)
theorem dX5_slips_135 : decode cX5_slips 135 = .ok (.getfield 7, 3) := dk_180 0 7 (dk_at dksX5_slips_5 20 rfl rfl)
theorem dX5_slips_138 : decode cX5_slips 138 = .ok (.bipush 7, 2) := dk_16 7 (dk_at dksX5_slips_6 0 rfl rfl)
theorem dX5_slips_140 : decode cX5_slips 140 = .ok (.iaload, 1) := dk_46 (dk_at dksX5_slips_6 2 rfl rfl)
theorem dX5_slips_141 : decode cX5_slips 141 = .ok (.iload 7, 2) := dk_21 7 (dk_at dksX5_slips_6 3 rfl rfl)
theorem dX5_slips_143 : decode cX5_slips 143 = .ok (.iconst (-1), 1) := dk_2 (dk_at dksX5_slips_6 5 rfl rfl)
theorem dX5_slips_144 : decode cX5_slips 144 = .ok (.ixor, 1) := dk_130 (dk_at dksX5_slips_6 6 rfl rfl)
theorem dX5_slips_145 : decode cX5_slips 145 = .ok (.iand, 1) := dk_126 (dk_at dksX5_slips_6 7 rfl rfl)
theorem dX5_slips_146 : decode cX5_slips 146 = .ok (.iastore, 1) := dk_79 (dk_at dksX5_slips_6 8 rfl rfl)
theorem dX5_slips_147 : decode cX5_slips 147 = .ok (.lload_n 3, 1) := dk_33 (dk_at dksX5_slips_6 9 rfl rfl)
theorem dX5_slips_148 : decode cX5_slips 148 = .ok (.aload_n 0, 1) := dk_42 (dk_at dksX5_slips_6 10 rfl rfl)
theorem dX5_slips_149 : decode cX5_slips 149 = .ok (.sipush 537, 3) := dk_17 2 25 (dk_at dksX5_slips_6 11 rfl rfl)
theorem dX5_slips_152 : decode cX5_slips 152 = .ok (.iload_n 1, 1) := dk_27 (dk_at dksX5_slips_6 14 rfl rfl)
theorem dX5_slips_153 : decode cX5_slips 153 = .ok (.invokevirtual 153, 3) := dk_182 0 153 (dk_at dksX5_slips_6 15 rfl rfl)
theorem dX5_slips_156 : decode cX5_slips 156 = .ok (.ifCond .le 8, 3) := dk_158 0 8 (dk_at dksX5_slips_6 18 rfl rfl)
theorem dX5_slips_159 : decode cX5_slips 159 = .ok (.lload 8, 2) := dk_22 8 (dk_at dksX5_slips_6 21 rfl rfl)
theorem dX5_slips_161 : decode cX5_slips 161 = .ok (.goto 4, 3) := dk_167 0 4 (dk_at dksX5_slips_7 0 rfl rfl)
theorem dX5_slips_164 : decode cX5_slips 164 = .ok (.lconst 0, 1) := dk_9 (dk_at dksX5_slips_7 3 rfl rfl)
theorem dX5_slips_165 : decode cX5_slips 165 = .ok (.ladd, 1) := dk_97 (dk_at dksX5_slips_7 4 rfl rfl)
theorem dX5_slips_166 : decode cX5_slips 166 = .ok (.lstore_n 3, 1) := dk_66 (dk_at dksX5_slips_7 5 rfl rfl)
theorem dX5_slips_167 : decode cX5_slips 167 = .ok (.lload 5, 2) := dk_22 5 (dk_at dksX5_slips_7 6 rfl rfl)
theorem dX5_slips_169 : decode cX5_slips 169 = .ok (.lload 8, 2) := dk_22 8 (dk_at dksX5_slips_7 8 rfl rfl)
theorem dX5_slips_171 : decode cX5_slips 171 = .ok (.ladd, 1) := dk_97 (dk_at dksX5_slips_7 10 rfl rfl)
theorem dX5_slips_172 : decode cX5_slips 172 = .ok (.lstore 5, 2) := dk_55 5 (dk_at dksX5_slips_7 11 rfl rfl)
theorem dX5_slips_174 : decode cX5_slips 174 = .ok (.iinc 7 1, 3) := dk_132 7 1 (dk_at dksX5_slips_7 13 rfl rfl)
theorem dX5_slips_177 : decode cX5_slips 177 = .ok (.goto (-138), 3) := dk_167 255 118 (dk_at dksX5_slips_7 16 rfl rfl)
theorem dX5_slips_180 : decode cX5_slips 180 = .ok (.aload_n 0, 1) := dk_42 (dk_at dksX5_slips_7 19 rfl rfl)
theorem dX5_slips_181 : decode cX5_slips 181 = .ok (.lload_n 3, 1) := dk_33 (dk_at dksX5_slips_7 20 rfl rfl)
theorem dX5_slips_182 : decode cX5_slips 182 = .ok (.lload 5, 2) := dk_22 5 (dk_at dksX5_slips_7 21 rfl rfl)
theorem dX5_slips_184 : decode cX5_slips 184 = .ok (.invokevirtual 216, 3) := dk_182 0 216 (dk_at dksX5_slips_8 0 rfl rfl)
theorem dX5_slips_187 : decode cX5_slips 187 = .ok (.iconst 1, 1) := dk_4 (dk_at dksX5_slips_8 3 rfl rfl)
theorem dX5_slips_188 : decode cX5_slips 188 = .ok (.ireturn, 1) := dk_172 (dk_at dksX5_slips_8 4 rfl rfl)
abbrev cX5_tell : ByteArray := prog_20_method_76_code
def yX5_tell : MethodName := ⟨RX5, "tell", "(JJ)V"⟩
def dkwX5_tell_1 : List UInt8 := [22, 9, 55, 7, 167, 255, 234, 42, 31, 22, 5, 109, 181, 0, 213, 42, 33, 22, 5, 109, 181, 0, 20, 177]
abbrev dktX5_tell_1 : List UInt8 := dkwX5_tell_1 ++ []
def dkwX5_tell_0 : List UInt8 := [31, 55, 5, 33, 55, 7, 22, 7, 9, 148, 153, 0, 21, 22, 5, 22, 7, 113, 55, 9, 22, 7, 55, 5]
abbrev dktX5_tell_0 : List UInt8 := dkwX5_tell_0 ++ dktX5_tell_1
theorem dksX5_tell_0 : cX5_tell.data.toList.drop 0 = dktX5_tell_0 := by decide +kernel
theorem dksX5_tell_1 : cX5_tell.data.toList.drop 24 = dktX5_tell_1 := dk_seg dksX5_tell_0 24 rfl rfl
theorem dX5_tell_0 : decode cX5_tell 0 = .ok (.lload_n 1, 1) := dk_31 (dk_at dksX5_tell_0 0 rfl rfl)
theorem dX5_tell_1 : decode cX5_tell 1 = .ok (.lstore 5, 2) := dk_55 5 (dk_at dksX5_tell_0 1 rfl rfl)
theorem dX5_tell_3 : decode cX5_tell 3 = .ok (.lload_n 3, 1) := dk_33 (dk_at dksX5_tell_0 3 rfl rfl)
theorem dX5_tell_4 : decode cX5_tell 4 = .ok (.lstore 7, 2) := dk_55 7 (dk_at dksX5_tell_0 4 rfl rfl)
theorem dX5_tell_6 : decode cX5_tell 6 = .ok (.lload 7, 2) := dk_22 7 (dk_at dksX5_tell_0 6 rfl rfl)
theorem dX5_tell_8 : decode cX5_tell 8 = .ok (.lconst 0, 1) := dk_9 (dk_at dksX5_tell_0 8 rfl rfl)
theorem dX5_tell_9 : decode cX5_tell 9 = .ok (.lcmp, 1) := dk_148 (dk_at dksX5_tell_0 9 rfl rfl)
theorem dX5_tell_10 : decode cX5_tell 10 = .ok (.ifCond .eq 21, 3) := dk_153 0 21 (dk_at dksX5_tell_0 10 rfl rfl)
theorem dX5_tell_13 : decode cX5_tell 13 = .ok (.lload 5, 2) := dk_22 5 (dk_at dksX5_tell_0 13 rfl rfl)
theorem dX5_tell_15 : decode cX5_tell 15 = .ok (.lload 7, 2) := dk_22 7 (dk_at dksX5_tell_0 15 rfl rfl)
theorem dX5_tell_17 : decode cX5_tell 17 = .ok (.lrem, 1) := dk_113 (dk_at dksX5_tell_0 17 rfl rfl)
theorem dX5_tell_18 : decode cX5_tell 18 = .ok (.lstore 9, 2) := dk_55 9 (dk_at dksX5_tell_0 18 rfl rfl)
theorem dX5_tell_20 : decode cX5_tell 20 = .ok (.lload 7, 2) := dk_22 7 (dk_at dksX5_tell_0 20 rfl rfl)
theorem dX5_tell_22 : decode cX5_tell 22 = .ok (.lstore 5, 2) := dk_55 5 (dk_at dksX5_tell_0 22 rfl rfl)
theorem dX5_tell_24 : decode cX5_tell 24 = .ok (.lload 9, 2) := dk_22 9 (dk_at dksX5_tell_1 0 rfl rfl)
theorem dX5_tell_26 : decode cX5_tell 26 = .ok (.lstore 7, 2) := dk_55 7 (dk_at dksX5_tell_1 2 rfl rfl)
theorem dX5_tell_28 : decode cX5_tell 28 = .ok (.goto (-22), 3) := dk_167 255 234 (dk_at dksX5_tell_1 4 rfl rfl)
theorem dX5_tell_31 : decode cX5_tell 31 = .ok (.aload_n 0, 1) := dk_42 (dk_at dksX5_tell_1 7 rfl rfl)
theorem dX5_tell_32 : decode cX5_tell 32 = .ok (.lload_n 1, 1) := dk_31 (dk_at dksX5_tell_1 8 rfl rfl)
theorem dX5_tell_33 : decode cX5_tell 33 = .ok (.lload 5, 2) := dk_22 5 (dk_at dksX5_tell_1 9 rfl rfl)
theorem dX5_tell_35 : decode cX5_tell 35 = .ok (.ldiv, 1) := dk_109 (dk_at dksX5_tell_1 11 rfl rfl)
theorem dX5_tell_36 : decode cX5_tell 36 = .ok (.putfield 213, 3) := dk_181 0 213 (dk_at dksX5_tell_1 12 rfl rfl)
theorem dX5_tell_39 : decode cX5_tell 39 = .ok (.aload_n 0, 1) := dk_42 (dk_at dksX5_tell_1 15 rfl rfl)
theorem dX5_tell_40 : decode cX5_tell 40 = .ok (.lload_n 3, 1) := dk_33 (dk_at dksX5_tell_1 16 rfl rfl)
theorem dX5_tell_41 : decode cX5_tell 41 = .ok (.lload 5, 2) := dk_22 5 (dk_at dksX5_tell_1 17 rfl rfl)
theorem dX5_tell_43 : decode cX5_tell 43 = .ok (.ldiv, 1) := dk_109 (dk_at dksX5_tell_1 19 rfl rfl)
theorem dX5_tell_44 : decode cX5_tell 44 = .ok (.putfield 20, 3) := dk_181 0 20 (dk_at dksX5_tell_1 20 rfl rfl)
theorem dX5_tell_47 : decode cX5_tell 47 = .ok (.return_, 1) := dk_177 (dk_at dksX5_tell_1 23 rfl rfl)
abbrev cX5_reigns : ByteArray := prog_20_method_78_code
def yX5_reigns : MethodName := ⟨RX5, "reigns", "(II)I"⟩
def dkwX5_reigns_5 : List UInt8 := [21, 6, 96, 182, 0, 153, 96, 54, 5, 132, 6, 1, 167, 255, 169, 21, 5, 172]
abbrev dktX5_reigns_5 : List UInt8 := dkwX5_reigns_5 ++ []
def dkwX5_reigns_4 : List UInt8 := [20, 0, 231, 109, 20, 0, 233, 113, 136, 79, 21, 5, 42, 17, 2, 25, 42, 180, 0, 7, 16, 9, 46]
abbrev dktX5_reigns_4 : List UInt8 := dkwX5_reigns_4 ++ dktX5_reigns_5
def dkwX5_reigns_3 : List UInt8 := [54, 7, 42, 21, 7, 182, 0, 159, 153, 0, 24, 42, 180, 0, 7, 17, 2, 25, 21, 7, 96, 33]
abbrev dktX5_reigns_3 : List UInt8 := dkwX5_reigns_3 ++ dktX5_reigns_4
def dkwX5_reigns_2 : List UInt8 := [20, 0, 221, 105, 20, 0, 223, 97, 20, 0, 225, 113, 66, 33, 20, 0, 227, 109, 20, 0, 229, 113, 136]
abbrev dktX5_reigns_2 : List UInt8 := dkwX5_reigns_2 ++ dktX5_reigns_3
def dkwX5_reigns_1 : List UInt8 := [182, 0, 55, 172, 42, 182, 0, 168, 27, 133, 66, 3, 54, 5, 3, 54, 6, 21, 6, 28, 162, 0, 87, 33]
abbrev dktX5_reigns_1 : List UInt8 := dkwX5_reigns_1 ++ dktX5_reigns_2
def dkwX5_reigns_0 : List UInt8 := [27, 3, 18, 220, 184, 0, 51, 153, 0, 13, 28, 3, 16, 60, 184, 0, 51, 154, 0, 10, 42, 16, 254]
abbrev dktX5_reigns_0 : List UInt8 := dkwX5_reigns_0 ++ dktX5_reigns_1
theorem dksX5_reigns_0 : cX5_reigns.data.toList.drop 0 = dktX5_reigns_0 := by decide +kernel
theorem dksX5_reigns_1 : cX5_reigns.data.toList.drop 23 = dktX5_reigns_1 := dk_seg dksX5_reigns_0 23 rfl rfl
theorem dksX5_reigns_2 : cX5_reigns.data.toList.drop 47 = dktX5_reigns_2 := dk_seg dksX5_reigns_1 24 rfl rfl
theorem dksX5_reigns_3 : cX5_reigns.data.toList.drop 70 = dktX5_reigns_3 := dk_seg dksX5_reigns_2 23 rfl rfl
theorem dksX5_reigns_4 : cX5_reigns.data.toList.drop 92 = dktX5_reigns_4 := dk_seg dksX5_reigns_3 22 rfl rfl
theorem dksX5_reigns_5 : cX5_reigns.data.toList.drop 115 = dktX5_reigns_5 := dk_seg dksX5_reigns_4 23 rfl rfl
theorem dX5_reigns_0 : decode cX5_reigns 0 = .ok (.iload_n 1, 1) := dk_27 (dk_at dksX5_reigns_0 0 rfl rfl)
theorem dX5_reigns_1 : decode cX5_reigns 1 = .ok (.iconst 0, 1) := dk_3 (dk_at dksX5_reigns_0 1 rfl rfl)
theorem dX5_reigns_2 : decode cX5_reigns 2 = .ok (.ldc 220, 2) := dk_18 220 (dk_at dksX5_reigns_0 2 rfl rfl)
theorem dX5_reigns_4 : decode cX5_reigns 4 = .ok (.invokestatic 51, 3) := dk_184 0 51 (dk_at dksX5_reigns_0 4 rfl rfl)
theorem dX5_reigns_7 : decode cX5_reigns 7 = .ok (.ifCond .eq 13, 3) := dk_153 0 13 (dk_at dksX5_reigns_0 7 rfl rfl)
theorem dX5_reigns_10 : decode cX5_reigns 10 = .ok (.iload_n 2, 1) := dk_28 (dk_at dksX5_reigns_0 10 rfl rfl)
theorem dX5_reigns_11 : decode cX5_reigns 11 = .ok (.iconst 0, 1) := dk_3 (dk_at dksX5_reigns_0 11 rfl rfl)
theorem dX5_reigns_12 : decode cX5_reigns 12 = .ok (.bipush 60, 2) := dk_16 60 (dk_at dksX5_reigns_0 12 rfl rfl)
theorem dX5_reigns_14 : decode cX5_reigns 14 = .ok (.invokestatic 51, 3) := dk_184 0 51 (dk_at dksX5_reigns_0 14 rfl rfl)
theorem dX5_reigns_17 : decode cX5_reigns 17 = .ok (.ifCond .ne 10, 3) := dk_154 0 10 (dk_at dksX5_reigns_0 17 rfl rfl)
theorem dX5_reigns_20 : decode cX5_reigns 20 = .ok (.aload_n 0, 1) := dk_42 (dk_at dksX5_reigns_0 20 rfl rfl)
theorem dX5_reigns_21 : decode cX5_reigns 21 = .ok (.bipush (-2), 2) := dk_16 254 (dk_at dksX5_reigns_0 21 rfl rfl)
theorem dX5_reigns_23 : decode cX5_reigns 23 = .ok (.invokevirtual 55, 3) := dk_182 0 55 (dk_at dksX5_reigns_1 0 rfl rfl)
theorem dX5_reigns_26 : decode cX5_reigns 26 = .ok (.ireturn, 1) := dk_172 (dk_at dksX5_reigns_1 3 rfl rfl)
theorem dX5_reigns_27 : decode cX5_reigns 27 = .ok (.aload_n 0, 1) := dk_42 (dk_at dksX5_reigns_1 4 rfl rfl)
theorem dX5_reigns_28 : decode cX5_reigns 28 = .ok (.invokevirtual 168, 3) := dk_182 0 168 (dk_at dksX5_reigns_1 5 rfl rfl)
theorem dX5_reigns_31 : decode cX5_reigns 31 = .ok (.iload_n 1, 1) := dk_27 (dk_at dksX5_reigns_1 8 rfl rfl)
theorem dX5_reigns_32 : decode cX5_reigns 32 = .ok (.i2l, 1) := dk_133 (dk_at dksX5_reigns_1 9 rfl rfl)
theorem dX5_reigns_33 : decode cX5_reigns 33 = .ok (.lstore_n 3, 1) := dk_66 (dk_at dksX5_reigns_1 10 rfl rfl)
theorem dX5_reigns_34 : decode cX5_reigns 34 = .ok (.iconst 0, 1) := dk_3 (dk_at dksX5_reigns_1 11 rfl rfl)
theorem dX5_reigns_35 : decode cX5_reigns 35 = .ok (.istore 5, 2) := dk_54 5 (dk_at dksX5_reigns_1 12 rfl rfl)
theorem dX5_reigns_37 : decode cX5_reigns 37 = .ok (.iconst 0, 1) := dk_3 (dk_at dksX5_reigns_1 14 rfl rfl)
theorem dX5_reigns_38 : decode cX5_reigns 38 = .ok (.istore 6, 2) := dk_54 6 (dk_at dksX5_reigns_1 15 rfl rfl)
theorem dX5_reigns_40 : decode cX5_reigns 40 = .ok (.iload 6, 2) := dk_21 6 (dk_at dksX5_reigns_1 17 rfl rfl)
theorem dX5_reigns_42 : decode cX5_reigns 42 = .ok (.iload_n 2, 1) := dk_28 (dk_at dksX5_reigns_1 19 rfl rfl)
theorem dX5_reigns_43 : decode cX5_reigns 43 = .ok (.if_icmp .ge 87, 3) := dk_162 0 87 (dk_at dksX5_reigns_1 20 rfl rfl)
theorem dX5_reigns_46 : decode cX5_reigns 46 = .ok (.lload_n 3, 1) := dk_33 (dk_at dksX5_reigns_1 23 rfl rfl)
theorem dX5_reigns_47 : decode cX5_reigns 47 = .ok (.ldc2_w 221, 3) := dk_20 0 221 (dk_at dksX5_reigns_2 0 rfl rfl)
theorem dX5_reigns_50 : decode cX5_reigns 50 = .ok (.lmul, 1) := dk_105 (dk_at dksX5_reigns_2 3 rfl rfl)
theorem dX5_reigns_51 : decode cX5_reigns 51 = .ok (.ldc2_w 223, 3) := dk_20 0 223 (dk_at dksX5_reigns_2 4 rfl rfl)
theorem dX5_reigns_54 : decode cX5_reigns 54 = .ok (.ladd, 1) := dk_97 (dk_at dksX5_reigns_2 7 rfl rfl)
theorem dX5_reigns_55 : decode cX5_reigns 55 = .ok (.ldc2_w 225, 3) := dk_20 0 225 (dk_at dksX5_reigns_2 8 rfl rfl)
theorem dX5_reigns_58 : decode cX5_reigns 58 = .ok (.lrem, 1) := dk_113 (dk_at dksX5_reigns_2 11 rfl rfl)
theorem dX5_reigns_59 : decode cX5_reigns 59 = .ok (.lstore_n 3, 1) := dk_66 (dk_at dksX5_reigns_2 12 rfl rfl)
theorem dX5_reigns_60 : decode cX5_reigns 60 = .ok (.lload_n 3, 1) := dk_33 (dk_at dksX5_reigns_2 13 rfl rfl)
theorem dX5_reigns_61 : decode cX5_reigns 61 = .ok (.ldc2_w 227, 3) := dk_20 0 227 (dk_at dksX5_reigns_2 14 rfl rfl)
theorem dX5_reigns_64 : decode cX5_reigns 64 = .ok (.ldiv, 1) := dk_109 (dk_at dksX5_reigns_2 17 rfl rfl)
theorem dX5_reigns_65 : decode cX5_reigns 65 = .ok (.ldc2_w 229, 3) := dk_20 0 229 (dk_at dksX5_reigns_2 18 rfl rfl)
theorem dX5_reigns_68 : decode cX5_reigns 68 = .ok (.lrem, 1) := dk_113 (dk_at dksX5_reigns_2 21 rfl rfl)
theorem dX5_reigns_69 : decode cX5_reigns 69 = .ok (.l2i, 1) := dk_136 (dk_at dksX5_reigns_2 22 rfl rfl)
theorem dX5_reigns_70 : decode cX5_reigns 70 = .ok (.istore 7, 2) := dk_54 7 (dk_at dksX5_reigns_3 0 rfl rfl)
theorem dX5_reigns_72 : decode cX5_reigns 72 = .ok (.aload_n 0, 1) := dk_42 (dk_at dksX5_reigns_3 2 rfl rfl)
theorem dX5_reigns_73 : decode cX5_reigns 73 = .ok (.iload 7, 2) := dk_21 7 (dk_at dksX5_reigns_3 3 rfl rfl)
theorem dX5_reigns_75 : decode cX5_reigns 75 = .ok (.invokevirtual 159, 3) := dk_182 0 159 (dk_at dksX5_reigns_3 5 rfl rfl)
theorem dX5_reigns_78 : decode cX5_reigns 78 = .ok (.ifCond .eq 24, 3) := dk_153 0 24 (dk_at dksX5_reigns_3 8 rfl rfl)
theorem dX5_reigns_81 : decode cX5_reigns 81 = .ok (.aload_n 0, 1) := dk_42 (dk_at dksX5_reigns_3 11 rfl rfl)
theorem dX5_reigns_82 : decode cX5_reigns 82 = .ok (.getfield 7, 3) := dk_180 0 7 (dk_at dksX5_reigns_3 12 rfl rfl)
theorem dX5_reigns_85 : decode cX5_reigns 85 = .ok (.sipush 537, 3) := dk_17 2 25 (dk_at dksX5_reigns_3 15 rfl rfl)
theorem dX5_reigns_88 : decode cX5_reigns 88 = .ok (.iload 7, 2) := dk_21 7 (dk_at dksX5_reigns_3 18 rfl rfl)
theorem dX5_reigns_90 : decode cX5_reigns 90 = .ok (.iadd, 1) := dk_96 (dk_at dksX5_reigns_3 20 rfl rfl)
theorem dX5_reigns_91 : decode cX5_reigns 91 = .ok (.lload_n 3, 1) := dk_33 (dk_at dksX5_reigns_3 21 rfl rfl)
theorem dX5_reigns_92 : decode cX5_reigns 92 = .ok (.ldc2_w 231, 3) := dk_20 0 231 (dk_at dksX5_reigns_4 0 rfl rfl)
theorem dX5_reigns_95 : decode cX5_reigns 95 = .ok (.ldiv, 1) := dk_109 (dk_at dksX5_reigns_4 3 rfl rfl)
theorem dX5_reigns_96 : decode cX5_reigns 96 = .ok (.ldc2_w 233, 3) := dk_20 0 233 (dk_at dksX5_reigns_4 4 rfl rfl)
theorem dX5_reigns_99 : decode cX5_reigns 99 = .ok (.lrem, 1) := dk_113 (dk_at dksX5_reigns_4 7 rfl rfl)
theorem dX5_reigns_100 : decode cX5_reigns 100 = .ok (.l2i, 1) := dk_136 (dk_at dksX5_reigns_4 8 rfl rfl)
theorem dX5_reigns_101 : decode cX5_reigns 101 = .ok (.iastore, 1) := dk_79 (dk_at dksX5_reigns_4 9 rfl rfl)
theorem dX5_reigns_102 : decode cX5_reigns 102 = .ok (.iload 5, 2) := dk_21 5 (dk_at dksX5_reigns_4 10 rfl rfl)
theorem dX5_reigns_104 : decode cX5_reigns 104 = .ok (.aload_n 0, 1) := dk_42 (dk_at dksX5_reigns_4 12 rfl rfl)
theorem dX5_reigns_105 : decode cX5_reigns 105 = .ok (.sipush 537, 3) := dk_17 2 25 (dk_at dksX5_reigns_4 13 rfl rfl)
theorem dX5_reigns_108 : decode cX5_reigns 108 = .ok (.aload_n 0, 1) := dk_42 (dk_at dksX5_reigns_4 16 rfl rfl)
theorem dX5_reigns_109 : decode cX5_reigns 109 = .ok (.getfield 7, 3) := dk_180 0 7 (dk_at dksX5_reigns_4 17 rfl rfl)
theorem dX5_reigns_112 : decode cX5_reigns 112 = .ok (.bipush 9, 2) := dk_16 9 (dk_at dksX5_reigns_4 20 rfl rfl)
theorem dX5_reigns_114 : decode cX5_reigns 114 = .ok (.iaload, 1) := dk_46 (dk_at dksX5_reigns_4 22 rfl rfl)
theorem dX5_reigns_115 : decode cX5_reigns 115 = .ok (.iload 6, 2) := dk_21 6 (dk_at dksX5_reigns_5 0 rfl rfl)
theorem dX5_reigns_117 : decode cX5_reigns 117 = .ok (.iadd, 1) := dk_96 (dk_at dksX5_reigns_5 2 rfl rfl)
theorem dX5_reigns_118 : decode cX5_reigns 118 = .ok (.invokevirtual 153, 3) := dk_182 0 153 (dk_at dksX5_reigns_5 3 rfl rfl)
theorem dX5_reigns_121 : decode cX5_reigns 121 = .ok (.iadd, 1) := dk_96 (dk_at dksX5_reigns_5 6 rfl rfl)
theorem dX5_reigns_122 : decode cX5_reigns 122 = .ok (.istore 5, 2) := dk_54 5 (dk_at dksX5_reigns_5 7 rfl rfl)
theorem dX5_reigns_124 : decode cX5_reigns 124 = .ok (.iinc 6 1, 3) := dk_132 6 1 (dk_at dksX5_reigns_5 9 rfl rfl)
theorem dX5_reigns_127 : decode cX5_reigns 127 = .ok (.goto (-87), 3) := dk_167 255 169 (dk_at dksX5_reigns_5 12 rfl rfl)
theorem dX5_reigns_130 : decode cX5_reigns 130 = .ok (.iload 5, 2) := dk_21 5 (dk_at dksX5_reigns_5 15 rfl rfl)
theorem dX5_reigns_132 : decode cX5_reigns 132 = .ok (.ireturn, 1) := dk_172 (dk_at dksX5_reigns_5 17 rfl rfl)
abbrev cX5_part : ByteArray := prog_20_method_79_code
def yX5_part : MethodName := ⟨RX5, "part", "(I)J"⟩
def dkwX5_part_1 : List UInt8 := [180, 0, 213, 167, 0, 7, 42, 180, 0, 20, 173]
abbrev dktX5_part_1 : List UInt8 := dkwX5_part_1 ++ []
def dkwX5_part_0 : List UInt8 := [27, 3, 4, 184, 0, 51, 154, 0, 11, 42, 16, 254, 182, 0, 55, 133, 173, 27, 154, 0, 10, 42]
abbrev dktX5_part_0 : List UInt8 := dkwX5_part_0 ++ dktX5_part_1
theorem dksX5_part_0 : cX5_part.data.toList.drop 0 = dktX5_part_0 := by decide +kernel
theorem dksX5_part_1 : cX5_part.data.toList.drop 22 = dktX5_part_1 := dk_seg dksX5_part_0 22 rfl rfl
theorem dX5_part_0 : decode cX5_part 0 = .ok (.iload_n 1, 1) := dk_27 (dk_at dksX5_part_0 0 rfl rfl)
theorem dX5_part_1 : decode cX5_part 1 = .ok (.iconst 0, 1) := dk_3 (dk_at dksX5_part_0 1 rfl rfl)
theorem dX5_part_2 : decode cX5_part 2 = .ok (.iconst 1, 1) := dk_4 (dk_at dksX5_part_0 2 rfl rfl)
theorem dX5_part_3 : decode cX5_part 3 = .ok (.invokestatic 51, 3) := dk_184 0 51 (dk_at dksX5_part_0 3 rfl rfl)
theorem dX5_part_6 : decode cX5_part 6 = .ok (.ifCond .ne 11, 3) := dk_154 0 11 (dk_at dksX5_part_0 6 rfl rfl)
theorem dX5_part_9 : decode cX5_part 9 = .ok (.aload_n 0, 1) := dk_42 (dk_at dksX5_part_0 9 rfl rfl)
theorem dX5_part_10 : decode cX5_part 10 = .ok (.bipush (-2), 2) := dk_16 254 (dk_at dksX5_part_0 10 rfl rfl)
theorem dX5_part_12 : decode cX5_part 12 = .ok (.invokevirtual 55, 3) := dk_182 0 55 (dk_at dksX5_part_0 12 rfl rfl)
theorem dX5_part_15 : decode cX5_part 15 = .ok (.i2l, 1) := dk_133 (dk_at dksX5_part_0 15 rfl rfl)
theorem dX5_part_16 : decode cX5_part 16 = .ok (.lreturn, 1) := dk_173 (dk_at dksX5_part_0 16 rfl rfl)
theorem dX5_part_17 : decode cX5_part 17 = .ok (.iload_n 1, 1) := dk_27 (dk_at dksX5_part_0 17 rfl rfl)
theorem dX5_part_18 : decode cX5_part 18 = .ok (.ifCond .ne 10, 3) := dk_154 0 10 (dk_at dksX5_part_0 18 rfl rfl)
theorem dX5_part_21 : decode cX5_part 21 = .ok (.aload_n 0, 1) := dk_42 (dk_at dksX5_part_0 21 rfl rfl)
theorem dX5_part_22 : decode cX5_part 22 = .ok (.getfield 213, 3) := dk_180 0 213 (dk_at dksX5_part_1 0 rfl rfl)
theorem dX5_part_25 : decode cX5_part 25 = .ok (.goto 7, 3) := dk_167 0 7 (dk_at dksX5_part_1 3 rfl rfl)
theorem dX5_part_28 : decode cX5_part 28 = .ok (.aload_n 0, 1) := dk_42 (dk_at dksX5_part_1 6 rfl rfl)
theorem dX5_part_29 : decode cX5_part 29 = .ok (.getfield 20, 3) := dk_180 0 20 (dk_at dksX5_part_1 7 rfl rfl)
theorem dX5_part_32 : decode cX5_part 32 = .ok (.lreturn, 1) := dk_173 (dk_at dksX5_part_1 10 rfl rfl)
abbrev cX5_image : ByteArray := prog_20_method_80_code
def yX5_image : MethodName := ⟨RX5, "image", "(I)I"⟩
def dkwX5_image_2 : List UInt8 := [79, 132, 2, 1, 167, 255, 224, 42, 180, 0, 13, 27, 4, 84, 4, 172]
abbrev dktX5_image_2 : List UInt8 := dkwX5_image_2 ++ []
def dkwX5_image_1 : List UInt8 := [162, 0, 31, 42, 180, 0, 7, 17, 0, 179, 17, 0, 179, 27, 104, 96, 28, 96, 42, 180, 0, 7, 28, 46]
abbrev dktX5_image_1 : List UInt8 := dkwX5_image_1 ++ dktX5_image_2
def dkwX5_image_0 : List UInt8 := [27, 3, 4, 184, 0, 51, 154, 0, 10, 42, 16, 254, 182, 0, 55, 172, 3, 61, 28, 17, 0, 179]
abbrev dktX5_image_0 : List UInt8 := dkwX5_image_0 ++ dktX5_image_1
theorem dksX5_image_0 : cX5_image.data.toList.drop 0 = dktX5_image_0 := by decide +kernel
theorem dksX5_image_1 : cX5_image.data.toList.drop 22 = dktX5_image_1 := dk_seg dksX5_image_0 22 rfl rfl
theorem dksX5_image_2 : cX5_image.data.toList.drop 46 = dktX5_image_2 := dk_seg dksX5_image_1 24 rfl rfl
theorem dX5_image_0 : decode cX5_image 0 = .ok (.iload_n 1, 1) := dk_27 (dk_at dksX5_image_0 0 rfl rfl)
theorem dX5_image_1 : decode cX5_image 1 = .ok (.iconst 0, 1) := dk_3 (dk_at dksX5_image_0 1 rfl rfl)
theorem dX5_image_2 : decode cX5_image 2 = .ok (.iconst 1, 1) := dk_4 (dk_at dksX5_image_0 2 rfl rfl)
theorem dX5_image_3 : decode cX5_image 3 = .ok (.invokestatic 51, 3) := dk_184 0 51 (dk_at dksX5_image_0 3 rfl rfl)
theorem dX5_image_6 : decode cX5_image 6 = .ok (.ifCond .ne 10, 3) := dk_154 0 10 (dk_at dksX5_image_0 6 rfl rfl)
theorem dX5_image_9 : decode cX5_image 9 = .ok (.aload_n 0, 1) := dk_42 (dk_at dksX5_image_0 9 rfl rfl)
theorem dX5_image_10 : decode cX5_image 10 = .ok (.bipush (-2), 2) := dk_16 254 (dk_at dksX5_image_0 10 rfl rfl)
theorem dX5_image_12 : decode cX5_image 12 = .ok (.invokevirtual 55, 3) := dk_182 0 55 (dk_at dksX5_image_0 12 rfl rfl)
theorem dX5_image_15 : decode cX5_image 15 = .ok (.ireturn, 1) := dk_172 (dk_at dksX5_image_0 15 rfl rfl)
theorem dX5_image_16 : decode cX5_image 16 = .ok (.iconst 0, 1) := dk_3 (dk_at dksX5_image_0 16 rfl rfl)
theorem dX5_image_17 : decode cX5_image 17 = .ok (.istore_n 2, 1) := dk_61 (dk_at dksX5_image_0 17 rfl rfl)
theorem dX5_image_18 : decode cX5_image 18 = .ok (.iload_n 2, 1) := dk_28 (dk_at dksX5_image_0 18 rfl rfl)
theorem dX5_image_19 : decode cX5_image 19 = .ok (.sipush 179, 3) := dk_17 0 179 (dk_at dksX5_image_0 19 rfl rfl)
theorem dX5_image_22 : decode cX5_image 22 = .ok (.if_icmp .ge 31, 3) := dk_162 0 31 (dk_at dksX5_image_1 0 rfl rfl)
theorem dX5_image_25 : decode cX5_image 25 = .ok (.aload_n 0, 1) := dk_42 (dk_at dksX5_image_1 3 rfl rfl)
theorem dX5_image_26 : decode cX5_image 26 = .ok (.getfield 7, 3) := dk_180 0 7 (dk_at dksX5_image_1 4 rfl rfl)
theorem dX5_image_29 : decode cX5_image 29 = .ok (.sipush 179, 3) := dk_17 0 179 (dk_at dksX5_image_1 7 rfl rfl)
theorem dX5_image_32 : decode cX5_image 32 = .ok (.sipush 179, 3) := dk_17 0 179 (dk_at dksX5_image_1 10 rfl rfl)
theorem dX5_image_35 : decode cX5_image 35 = .ok (.iload_n 1, 1) := dk_27 (dk_at dksX5_image_1 13 rfl rfl)
theorem dX5_image_36 : decode cX5_image 36 = .ok (.imul, 1) := dk_104 (dk_at dksX5_image_1 14 rfl rfl)
theorem dX5_image_37 : decode cX5_image 37 = .ok (.iadd, 1) := dk_96 (dk_at dksX5_image_1 15 rfl rfl)
theorem dX5_image_38 : decode cX5_image 38 = .ok (.iload_n 2, 1) := dk_28 (dk_at dksX5_image_1 16 rfl rfl)
theorem dX5_image_39 : decode cX5_image 39 = .ok (.iadd, 1) := dk_96 (dk_at dksX5_image_1 17 rfl rfl)
theorem dX5_image_40 : decode cX5_image 40 = .ok (.aload_n 0, 1) := dk_42 (dk_at dksX5_image_1 18 rfl rfl)
theorem dX5_image_41 : decode cX5_image 41 = .ok (.getfield 7, 3) := dk_180 0 7 (dk_at dksX5_image_1 19 rfl rfl)
theorem dX5_image_44 : decode cX5_image 44 = .ok (.iload_n 2, 1) := dk_28 (dk_at dksX5_image_1 22 rfl rfl)
theorem dX5_image_45 : decode cX5_image 45 = .ok (.iaload, 1) := dk_46 (dk_at dksX5_image_1 23 rfl rfl)
theorem dX5_image_46 : decode cX5_image 46 = .ok (.iastore, 1) := dk_79 (dk_at dksX5_image_2 0 rfl rfl)
theorem dX5_image_47 : decode cX5_image 47 = .ok (.iinc 2 1, 3) := dk_132 2 1 (dk_at dksX5_image_2 1 rfl rfl)
theorem dX5_image_50 : decode cX5_image 50 = .ok (.goto (-32), 3) := dk_167 255 224 (dk_at dksX5_image_2 4 rfl rfl)
theorem dX5_image_53 : decode cX5_image 53 = .ok (.aload_n 0, 1) := dk_42 (dk_at dksX5_image_2 7 rfl rfl)
theorem dX5_image_54 : decode cX5_image 54 = .ok (.getfield 13, 3) := dk_180 0 13 (dk_at dksX5_image_2 8 rfl rfl)
theorem dX5_image_57 : decode cX5_image 57 = .ok (.iload_n 1, 1) := dk_27 (dk_at dksX5_image_2 11 rfl rfl)
theorem dX5_image_58 : decode cX5_image 58 = .ok (.iconst 1, 1) := dk_4 (dk_at dksX5_image_2 12 rfl rfl)
theorem dX5_image_59 : decode cX5_image 59 = .ok (.bastore, 1) := dk_84 (dk_at dksX5_image_2 13 rfl rfl)
theorem dX5_image_60 : decode cX5_image 60 = .ok (.iconst 1, 1) := dk_4 (dk_at dksX5_image_2 14 rfl rfl)
theorem dX5_image_61 : decode cX5_image 61 = .ok (.ireturn, 1) := dk_172 (dk_at dksX5_image_2 15 rfl rfl)
abbrev cX5_from : ByteArray := prog_20_method_81_code
def yX5_from : MethodName := ⟨RX5, "from", "(I)I"⟩
def dkwX5_from_3 : List UInt8 := [172]
abbrev dktX5_from_3 : List UInt8 := dkwX5_from_3 ++ []
def dkwX5_from_2 : List UInt8 := [42, 180, 0, 7, 17, 0, 179, 17, 0, 179, 27, 104, 96, 28, 96, 46, 79, 132, 2, 1, 167, 255, 224, 4]
abbrev dktX5_from_2 : List UInt8 := dkwX5_from_2 ++ dktX5_from_3
def dkwX5_from_1 : List UInt8 := [154, 0, 10, 42, 16, 253, 182, 0, 55, 172, 3, 61, 28, 17, 0, 179, 162, 0, 31, 42, 180, 0, 7, 28]
abbrev dktX5_from_1 : List UInt8 := dkwX5_from_1 ++ dktX5_from_2
def dkwX5_from_0 : List UInt8 := [27, 3, 4, 184, 0, 51, 154, 0, 10, 42, 16, 254, 182, 0, 55, 172, 42, 180, 0, 13, 27, 51]
abbrev dktX5_from_0 : List UInt8 := dkwX5_from_0 ++ dktX5_from_1
theorem dksX5_from_0 : cX5_from.data.toList.drop 0 = dktX5_from_0 := by decide +kernel
theorem dksX5_from_1 : cX5_from.data.toList.drop 22 = dktX5_from_1 := dk_seg dksX5_from_0 22 rfl rfl
theorem dksX5_from_2 : cX5_from.data.toList.drop 46 = dktX5_from_2 := dk_seg dksX5_from_1 24 rfl rfl
theorem dksX5_from_3 : cX5_from.data.toList.drop 70 = dktX5_from_3 := dk_seg dksX5_from_2 24 rfl rfl
theorem dX5_from_0 : decode cX5_from 0 = .ok (.iload_n 1, 1) := dk_27 (dk_at dksX5_from_0 0 rfl rfl)
theorem dX5_from_1 : decode cX5_from 1 = .ok (.iconst 0, 1) := dk_3 (dk_at dksX5_from_0 1 rfl rfl)
theorem dX5_from_2 : decode cX5_from 2 = .ok (.iconst 1, 1) := dk_4 (dk_at dksX5_from_0 2 rfl rfl)
theorem dX5_from_3 : decode cX5_from 3 = .ok (.invokestatic 51, 3) := dk_184 0 51 (dk_at dksX5_from_0 3 rfl rfl)
theorem dX5_from_6 : decode cX5_from 6 = .ok (.ifCond .ne 10, 3) := dk_154 0 10 (dk_at dksX5_from_0 6 rfl rfl)
theorem dX5_from_9 : decode cX5_from 9 = .ok (.aload_n 0, 1) := dk_42 (dk_at dksX5_from_0 9 rfl rfl)
theorem dX5_from_10 : decode cX5_from 10 = .ok (.bipush (-2), 2) := dk_16 254 (dk_at dksX5_from_0 10 rfl rfl)
theorem dX5_from_12 : decode cX5_from 12 = .ok (.invokevirtual 55, 3) := dk_182 0 55 (dk_at dksX5_from_0 12 rfl rfl)
theorem dX5_from_15 : decode cX5_from 15 = .ok (.ireturn, 1) := dk_172 (dk_at dksX5_from_0 15 rfl rfl)
theorem dX5_from_16 : decode cX5_from 16 = .ok (.aload_n 0, 1) := dk_42 (dk_at dksX5_from_0 16 rfl rfl)
theorem dX5_from_17 : decode cX5_from 17 = .ok (.getfield 13, 3) := dk_180 0 13 (dk_at dksX5_from_0 17 rfl rfl)
theorem dX5_from_20 : decode cX5_from 20 = .ok (.iload_n 1, 1) := dk_27 (dk_at dksX5_from_0 20 rfl rfl)
theorem dX5_from_21 : decode cX5_from 21 = .ok (.baload, 1) := dk_51 (dk_at dksX5_from_0 21 rfl rfl)
theorem dX5_from_22 : decode cX5_from 22 = .ok (.ifCond .ne 10, 3) := dk_154 0 10 (dk_at dksX5_from_1 0 rfl rfl)
theorem dX5_from_25 : decode cX5_from 25 = .ok (.aload_n 0, 1) := dk_42 (dk_at dksX5_from_1 3 rfl rfl)
theorem dX5_from_26 : decode cX5_from 26 = .ok (.bipush (-3), 2) := dk_16 253 (dk_at dksX5_from_1 4 rfl rfl)
theorem dX5_from_28 : decode cX5_from 28 = .ok (.invokevirtual 55, 3) := dk_182 0 55 (dk_at dksX5_from_1 6 rfl rfl)
theorem dX5_from_31 : decode cX5_from 31 = .ok (.ireturn, 1) := dk_172 (dk_at dksX5_from_1 9 rfl rfl)
theorem dX5_from_32 : decode cX5_from 32 = .ok (.iconst 0, 1) := dk_3 (dk_at dksX5_from_1 10 rfl rfl)
theorem dX5_from_33 : decode cX5_from 33 = .ok (.istore_n 2, 1) := dk_61 (dk_at dksX5_from_1 11 rfl rfl)
theorem dX5_from_34 : decode cX5_from 34 = .ok (.iload_n 2, 1) := dk_28 (dk_at dksX5_from_1 12 rfl rfl)
theorem dX5_from_35 : decode cX5_from 35 = .ok (.sipush 179, 3) := dk_17 0 179 (dk_at dksX5_from_1 13 rfl rfl)
theorem dX5_from_38 : decode cX5_from 38 = .ok (.if_icmp .ge 31, 3) := dk_162 0 31 (dk_at dksX5_from_1 16 rfl rfl)
theorem dX5_from_41 : decode cX5_from 41 = .ok (.aload_n 0, 1) := dk_42 (dk_at dksX5_from_1 19 rfl rfl)
theorem dX5_from_42 : decode cX5_from 42 = .ok (.getfield 7, 3) := dk_180 0 7 (dk_at dksX5_from_1 20 rfl rfl)
theorem dX5_from_45 : decode cX5_from 45 = .ok (.iload_n 2, 1) := dk_28 (dk_at dksX5_from_1 23 rfl rfl)
theorem dX5_from_46 : decode cX5_from 46 = .ok (.aload_n 0, 1) := dk_42 (dk_at dksX5_from_2 0 rfl rfl)
theorem dX5_from_47 : decode cX5_from 47 = .ok (.getfield 7, 3) := dk_180 0 7 (dk_at dksX5_from_2 1 rfl rfl)
theorem dX5_from_50 : decode cX5_from 50 = .ok (.sipush 179, 3) := dk_17 0 179 (dk_at dksX5_from_2 4 rfl rfl)
theorem dX5_from_53 : decode cX5_from 53 = .ok (.sipush 179, 3) := dk_17 0 179 (dk_at dksX5_from_2 7 rfl rfl)
theorem dX5_from_56 : decode cX5_from 56 = .ok (.iload_n 1, 1) := dk_27 (dk_at dksX5_from_2 10 rfl rfl)
theorem dX5_from_57 : decode cX5_from 57 = .ok (.imul, 1) := dk_104 (dk_at dksX5_from_2 11 rfl rfl)
theorem dX5_from_58 : decode cX5_from 58 = .ok (.iadd, 1) := dk_96 (dk_at dksX5_from_2 12 rfl rfl)
theorem dX5_from_59 : decode cX5_from 59 = .ok (.iload_n 2, 1) := dk_28 (dk_at dksX5_from_2 13 rfl rfl)
theorem dX5_from_60 : decode cX5_from 60 = .ok (.iadd, 1) := dk_96 (dk_at dksX5_from_2 14 rfl rfl)
theorem dX5_from_61 : decode cX5_from 61 = .ok (.iaload, 1) := dk_46 (dk_at dksX5_from_2 15 rfl rfl)
theorem dX5_from_62 : decode cX5_from 62 = .ok (.iastore, 1) := dk_79 (dk_at dksX5_from_2 16 rfl rfl)
theorem dX5_from_63 : decode cX5_from 63 = .ok (.iinc 2 1, 3) := dk_132 2 1 (dk_at dksX5_from_2 17 rfl rfl)
theorem dX5_from_66 : decode cX5_from 66 = .ok (.goto (-32), 3) := dk_167 255 224 (dk_at dksX5_from_2 20 rfl rfl)
theorem dX5_from_69 : decode cX5_from 69 = .ok (.iconst 1, 1) := dk_4 (dk_at dksX5_from_2 23 rfl rfl)
theorem dX5_from_70 : decode cX5_from 70 = .ok (.ireturn, 1) := dk_172 (dk_at dksX5_from_3 0 rfl rfl)
abbrev cX5_status : ByteArray := prog_20_method_82_code
def yX5_status : MethodName := ⟨RX5, "status", "(I)I"⟩
def dkwX5_status_0 : List UInt8 := [27, 3, 5, 184, 0, 51, 153, 0, 12, 42, 180, 0, 17, 27, 46, 167, 0, 8, 42, 2, 182, 0, 165, 172]
abbrev dktX5_status_0 : List UInt8 := dkwX5_status_0 ++ []
theorem dksX5_status_0 : cX5_status.data.toList.drop 0 = dktX5_status_0 := by decide +kernel
theorem dX5_status_0 : decode cX5_status 0 = .ok (.iload_n 1, 1) := dk_27 (dk_at dksX5_status_0 0 rfl rfl)
theorem dX5_status_1 : decode cX5_status 1 = .ok (.iconst 0, 1) := dk_3 (dk_at dksX5_status_0 1 rfl rfl)
theorem dX5_status_2 : decode cX5_status 2 = .ok (.iconst 2, 1) := dk_5 (dk_at dksX5_status_0 2 rfl rfl)
theorem dX5_status_3 : decode cX5_status 3 = .ok (.invokestatic 51, 3) := dk_184 0 51 (dk_at dksX5_status_0 3 rfl rfl)
theorem dX5_status_6 : decode cX5_status 6 = .ok (.ifCond .eq 12, 3) := dk_153 0 12 (dk_at dksX5_status_0 6 rfl rfl)
theorem dX5_status_9 : decode cX5_status 9 = .ok (.aload_n 0, 1) := dk_42 (dk_at dksX5_status_0 9 rfl rfl)
theorem dX5_status_10 : decode cX5_status 10 = .ok (.getfield 17, 3) := dk_180 0 17 (dk_at dksX5_status_0 10 rfl rfl)
theorem dX5_status_13 : decode cX5_status 13 = .ok (.iload_n 1, 1) := dk_27 (dk_at dksX5_status_0 13 rfl rfl)
theorem dX5_status_14 : decode cX5_status 14 = .ok (.iaload, 1) := dk_46 (dk_at dksX5_status_0 14 rfl rfl)
theorem dX5_status_15 : decode cX5_status 15 = .ok (.goto 8, 3) := dk_167 0 8 (dk_at dksX5_status_0 15 rfl rfl)
theorem dX5_status_18 : decode cX5_status 18 = .ok (.aload_n 0, 1) := dk_42 (dk_at dksX5_status_0 18 rfl rfl)
theorem dX5_status_19 : decode cX5_status 19 = .ok (.iconst (-1), 1) := dk_2 (dk_at dksX5_status_0 19 rfl rfl)
theorem dX5_status_20 : decode cX5_status 20 = .ok (.invokevirtual 165, 3) := dk_182 0 165 (dk_at dksX5_status_0 20 rfl rfl)
theorem dX5_status_23 : decode cX5_status 23 = .ok (.ireturn, 1) := dk_172 (dk_at dksX5_status_0 23 rfl rfl)
abbrev cX5_count : ByteArray := prog_20_method_84_code
def yX5_count : MethodName := ⟨RX5, "count", "(I)I"⟩
def dkwX5_count_1 : List UInt8 := [172]
abbrev dktX5_count_1 : List UInt8 := dkwX5_count_1 ++ []
def dkwX5_count_0 : List UInt8 := [27, 3, 16, 10, 184, 0, 51, 153, 0, 11, 42, 27, 182, 0, 235, 167, 0, 9, 42, 16, 254, 182, 0, 55]
abbrev dktX5_count_0 : List UInt8 := dkwX5_count_0 ++ dktX5_count_1
theorem dksX5_count_0 : cX5_count.data.toList.drop 0 = dktX5_count_0 := by decide +kernel
theorem dksX5_count_1 : cX5_count.data.toList.drop 24 = dktX5_count_1 := dk_seg dksX5_count_0 24 rfl rfl
theorem dX5_count_0 : decode cX5_count 0 = .ok (.iload_n 1, 1) := dk_27 (dk_at dksX5_count_0 0 rfl rfl)
theorem dX5_count_1 : decode cX5_count 1 = .ok (.iconst 0, 1) := dk_3 (dk_at dksX5_count_0 1 rfl rfl)
theorem dX5_count_2 : decode cX5_count 2 = .ok (.bipush 10, 2) := dk_16 10 (dk_at dksX5_count_0 2 rfl rfl)
theorem dX5_count_4 : decode cX5_count 4 = .ok (.invokestatic 51, 3) := dk_184 0 51 (dk_at dksX5_count_0 4 rfl rfl)
theorem dX5_count_7 : decode cX5_count 7 = .ok (.ifCond .eq 11, 3) := dk_153 0 11 (dk_at dksX5_count_0 7 rfl rfl)
theorem dX5_count_10 : decode cX5_count 10 = .ok (.aload_n 0, 1) := dk_42 (dk_at dksX5_count_0 10 rfl rfl)
theorem dX5_count_11 : decode cX5_count 11 = .ok (.iload_n 1, 1) := dk_27 (dk_at dksX5_count_0 11 rfl rfl)
theorem dX5_count_12 : decode cX5_count 12 = .ok (.invokevirtual 235, 3) := dk_182 0 235 (dk_at dksX5_count_0 12 rfl rfl)
theorem dX5_count_15 : decode cX5_count 15 = .ok (.goto 9, 3) := dk_167 0 9 (dk_at dksX5_count_0 15 rfl rfl)
theorem dX5_count_18 : decode cX5_count 18 = .ok (.aload_n 0, 1) := dk_42 (dk_at dksX5_count_0 18 rfl rfl)
theorem dX5_count_19 : decode cX5_count 19 = .ok (.bipush (-2), 2) := dk_16 254 (dk_at dksX5_count_0 19 rfl rfl)
theorem dX5_count_21 : decode cX5_count 21 = .ok (.invokevirtual 55, 3) := dk_182 0 55 (dk_at dksX5_count_0 21 rfl rfl)
theorem dX5_count_24 : decode cX5_count 24 = .ok (.ireturn, 1) := dk_172 (dk_at dksX5_count_1 0 rfl rfl)
abbrev cX5_countOf : ByteArray := prog_20_method_83_code
def yX5_countOf : MethodName := ⟨RX5, "countOf", "(I)I"⟩
def dkwX5_countOf_5 : List UInt8 := [16, 73, 46, 172, 42, 180, 0, 7, 16, 98, 46, 172, 42, 180, 0, 71, 172]
abbrev dktX5_countOf_5 : List UInt8 := dkwX5_countOf_5 ++ []
def dkwX5_countOf_4 : List UInt8 := [16, 10, 46, 172, 42, 180, 0, 7, 16, 35, 46, 172, 42, 180, 0, 7, 16, 48, 46, 172, 42, 180, 0, 7]
abbrev dktX5_countOf_4 : List UInt8 := dkwX5_countOf_4 ++ dktX5_countOf_5
def dkwX5_countOf_3 : List UInt8 := [184, 0, 171, 172, 42, 180, 0, 7, 16, 9, 46, 172, 42, 180, 0, 7, 16, 8, 46, 172, 42, 180, 0, 7]
abbrev dktX5_countOf_3 : List UInt8 := dkwX5_countOf_3 ++ dktX5_countOf_4
def dkwX5_countOf_2 : List UInt8 := [42, 180, 0, 7, 16, 11, 46, 172, 42, 180, 0, 7, 16, 26, 46, 172, 42, 180, 0, 7, 16, 7, 46]
abbrev dktX5_countOf_2 : List UInt8 := dkwX5_countOf_2 ++ dktX5_countOf_3
def dkwX5_countOf_1 : List UInt8 := [170, 0, 0, 0, 0, 0, 138, 0, 0, 0, 0, 0, 0, 0, 9, 0, 0, 0, 55, 0, 0, 0, 63, 0, 0, 0, 71, 0, 0, 0, 82, 0, 0, 0, 90, 0, 0, 0, 98, 0, 0, 0, 106, 0, 0, 0, 114, 0, 0, 0, 122, 0, 0, 0, 130]
abbrev dktX5_countOf_1 : List UInt8 := dkwX5_countOf_1 ++ dktX5_countOf_2
def dkwX5_countOf_0 : List UInt8 := [27]
abbrev dktX5_countOf_0 : List UInt8 := dkwX5_countOf_0 ++ dktX5_countOf_1
theorem dksX5_countOf_0 : cX5_countOf.data.toList.drop 0 = dktX5_countOf_0 := by decide +kernel
theorem dksX5_countOf_1 : cX5_countOf.data.toList.drop 1 = dktX5_countOf_1 := dk_seg dksX5_countOf_0 1 rfl rfl
theorem dksX5_countOf_2 : cX5_countOf.data.toList.drop 56 = dktX5_countOf_2 := dk_seg dksX5_countOf_1 55 rfl rfl
theorem dksX5_countOf_3 : cX5_countOf.data.toList.drop 79 = dktX5_countOf_3 := dk_seg dksX5_countOf_2 23 rfl rfl
theorem dksX5_countOf_4 : cX5_countOf.data.toList.drop 103 = dktX5_countOf_4 := dk_seg dksX5_countOf_3 24 rfl rfl
theorem dksX5_countOf_5 : cX5_countOf.data.toList.drop 127 = dktX5_countOf_5 := dk_seg dksX5_countOf_4 24 rfl rfl
theorem dX5_countOf_0 : decode cX5_countOf 0 = .ok (.iload_n 1, 1) := dk_27 (dk_at dksX5_countOf_0 0 rfl rfl)
theorem dX5_countOf_1 : decode cX5_countOf 1 = .ok (.tableswitch 138 0 9 #[55, 63, 71, 82, 90, 98, 106, 114, 122, 130], 55) := by decide +kernel
theorem dX5_countOf_56 : decode cX5_countOf 56 = .ok (.aload_n 0, 1) := dk_42 (dk_at dksX5_countOf_2 0 rfl rfl)
theorem dX5_countOf_57 : decode cX5_countOf 57 = .ok (.getfield 7, 3) := dk_180 0 7 (dk_at dksX5_countOf_2 1 rfl rfl)
theorem dX5_countOf_60 : decode cX5_countOf 60 = .ok (.bipush 11, 2) := dk_16 11 (dk_at dksX5_countOf_2 4 rfl rfl)
theorem dX5_countOf_62 : decode cX5_countOf 62 = .ok (.iaload, 1) := dk_46 (dk_at dksX5_countOf_2 6 rfl rfl)
theorem dX5_countOf_63 : decode cX5_countOf 63 = .ok (.ireturn, 1) := dk_172 (dk_at dksX5_countOf_2 7 rfl rfl)
theorem dX5_countOf_64 : decode cX5_countOf 64 = .ok (.aload_n 0, 1) := dk_42 (dk_at dksX5_countOf_2 8 rfl rfl)
theorem dX5_countOf_65 : decode cX5_countOf 65 = .ok (.getfield 7, 3) := dk_180 0 7 (dk_at dksX5_countOf_2 9 rfl rfl)
theorem dX5_countOf_68 : decode cX5_countOf 68 = .ok (.bipush 26, 2) := dk_16 26 (dk_at dksX5_countOf_2 12 rfl rfl)
theorem dX5_countOf_70 : decode cX5_countOf 70 = .ok (.iaload, 1) := dk_46 (dk_at dksX5_countOf_2 14 rfl rfl)
theorem dX5_countOf_71 : decode cX5_countOf 71 = .ok (.ireturn, 1) := dk_172 (dk_at dksX5_countOf_2 15 rfl rfl)
theorem dX5_countOf_72 : decode cX5_countOf 72 = .ok (.aload_n 0, 1) := dk_42 (dk_at dksX5_countOf_2 16 rfl rfl)
theorem dX5_countOf_73 : decode cX5_countOf 73 = .ok (.getfield 7, 3) := dk_180 0 7 (dk_at dksX5_countOf_2 17 rfl rfl)
theorem dX5_countOf_76 : decode cX5_countOf 76 = .ok (.bipush 7, 2) := dk_16 7 (dk_at dksX5_countOf_2 20 rfl rfl)
theorem dX5_countOf_78 : decode cX5_countOf 78 = .ok (.iaload, 1) := dk_46 (dk_at dksX5_countOf_2 22 rfl rfl)
theorem dX5_countOf_79 : decode cX5_countOf 79 = .ok (.invokestatic 171, 3) := dk_184 0 171 (dk_at dksX5_countOf_3 0 rfl rfl)
theorem dX5_countOf_82 : decode cX5_countOf 82 = .ok (.ireturn, 1) := dk_172 (dk_at dksX5_countOf_3 3 rfl rfl)
theorem dX5_countOf_83 : decode cX5_countOf 83 = .ok (.aload_n 0, 1) := dk_42 (dk_at dksX5_countOf_3 4 rfl rfl)
theorem dX5_countOf_84 : decode cX5_countOf 84 = .ok (.getfield 7, 3) := dk_180 0 7 (dk_at dksX5_countOf_3 5 rfl rfl)
theorem dX5_countOf_87 : decode cX5_countOf 87 = .ok (.bipush 9, 2) := dk_16 9 (dk_at dksX5_countOf_3 8 rfl rfl)
theorem dX5_countOf_89 : decode cX5_countOf 89 = .ok (.iaload, 1) := dk_46 (dk_at dksX5_countOf_3 10 rfl rfl)
theorem dX5_countOf_90 : decode cX5_countOf 90 = .ok (.ireturn, 1) := dk_172 (dk_at dksX5_countOf_3 11 rfl rfl)
theorem dX5_countOf_91 : decode cX5_countOf 91 = .ok (.aload_n 0, 1) := dk_42 (dk_at dksX5_countOf_3 12 rfl rfl)
theorem dX5_countOf_92 : decode cX5_countOf 92 = .ok (.getfield 7, 3) := dk_180 0 7 (dk_at dksX5_countOf_3 13 rfl rfl)
theorem dX5_countOf_95 : decode cX5_countOf 95 = .ok (.bipush 8, 2) := dk_16 8 (dk_at dksX5_countOf_3 16 rfl rfl)
theorem dX5_countOf_97 : decode cX5_countOf 97 = .ok (.iaload, 1) := dk_46 (dk_at dksX5_countOf_3 18 rfl rfl)
theorem dX5_countOf_98 : decode cX5_countOf 98 = .ok (.ireturn, 1) := dk_172 (dk_at dksX5_countOf_3 19 rfl rfl)
theorem dX5_countOf_99 : decode cX5_countOf 99 = .ok (.aload_n 0, 1) := dk_42 (dk_at dksX5_countOf_3 20 rfl rfl)
theorem dX5_countOf_100 : decode cX5_countOf 100 = .ok (.getfield 7, 3) := dk_180 0 7 (dk_at dksX5_countOf_3 21 rfl rfl)
theorem dX5_countOf_103 : decode cX5_countOf 103 = .ok (.bipush 10, 2) := dk_16 10 (dk_at dksX5_countOf_4 0 rfl rfl)
theorem dX5_countOf_105 : decode cX5_countOf 105 = .ok (.iaload, 1) := dk_46 (dk_at dksX5_countOf_4 2 rfl rfl)
theorem dX5_countOf_106 : decode cX5_countOf 106 = .ok (.ireturn, 1) := dk_172 (dk_at dksX5_countOf_4 3 rfl rfl)
theorem dX5_countOf_107 : decode cX5_countOf 107 = .ok (.aload_n 0, 1) := dk_42 (dk_at dksX5_countOf_4 4 rfl rfl)
theorem dX5_countOf_108 : decode cX5_countOf 108 = .ok (.getfield 7, 3) := dk_180 0 7 (dk_at dksX5_countOf_4 5 rfl rfl)
theorem dX5_countOf_111 : decode cX5_countOf 111 = .ok (.bipush 35, 2) := dk_16 35 (dk_at dksX5_countOf_4 8 rfl rfl)
theorem dX5_countOf_113 : decode cX5_countOf 113 = .ok (.iaload, 1) := dk_46 (dk_at dksX5_countOf_4 10 rfl rfl)
theorem dX5_countOf_114 : decode cX5_countOf 114 = .ok (.ireturn, 1) := dk_172 (dk_at dksX5_countOf_4 11 rfl rfl)
theorem dX5_countOf_115 : decode cX5_countOf 115 = .ok (.aload_n 0, 1) := dk_42 (dk_at dksX5_countOf_4 12 rfl rfl)
theorem dX5_countOf_116 : decode cX5_countOf 116 = .ok (.getfield 7, 3) := dk_180 0 7 (dk_at dksX5_countOf_4 13 rfl rfl)
theorem dX5_countOf_119 : decode cX5_countOf 119 = .ok (.bipush 48, 2) := dk_16 48 (dk_at dksX5_countOf_4 16 rfl rfl)
theorem dX5_countOf_121 : decode cX5_countOf 121 = .ok (.iaload, 1) := dk_46 (dk_at dksX5_countOf_4 18 rfl rfl)
theorem dX5_countOf_122 : decode cX5_countOf 122 = .ok (.ireturn, 1) := dk_172 (dk_at dksX5_countOf_4 19 rfl rfl)
theorem dX5_countOf_123 : decode cX5_countOf 123 = .ok (.aload_n 0, 1) := dk_42 (dk_at dksX5_countOf_4 20 rfl rfl)
theorem dX5_countOf_124 : decode cX5_countOf 124 = .ok (.getfield 7, 3) := dk_180 0 7 (dk_at dksX5_countOf_4 21 rfl rfl)
theorem dX5_countOf_127 : decode cX5_countOf 127 = .ok (.bipush 73, 2) := dk_16 73 (dk_at dksX5_countOf_5 0 rfl rfl)
theorem dX5_countOf_129 : decode cX5_countOf 129 = .ok (.iaload, 1) := dk_46 (dk_at dksX5_countOf_5 2 rfl rfl)
theorem dX5_countOf_130 : decode cX5_countOf 130 = .ok (.ireturn, 1) := dk_172 (dk_at dksX5_countOf_5 3 rfl rfl)
theorem dX5_countOf_131 : decode cX5_countOf 131 = .ok (.aload_n 0, 1) := dk_42 (dk_at dksX5_countOf_5 4 rfl rfl)
theorem dX5_countOf_132 : decode cX5_countOf 132 = .ok (.getfield 7, 3) := dk_180 0 7 (dk_at dksX5_countOf_5 5 rfl rfl)
theorem dX5_countOf_135 : decode cX5_countOf 135 = .ok (.bipush 98, 2) := dk_16 98 (dk_at dksX5_countOf_5 8 rfl rfl)
theorem dX5_countOf_137 : decode cX5_countOf 137 = .ok (.iaload, 1) := dk_46 (dk_at dksX5_countOf_5 10 rfl rfl)
theorem dX5_countOf_138 : decode cX5_countOf 138 = .ok (.ireturn, 1) := dk_172 (dk_at dksX5_countOf_5 11 rfl rfl)
theorem dX5_countOf_139 : decode cX5_countOf 139 = .ok (.aload_n 0, 1) := dk_42 (dk_at dksX5_countOf_5 12 rfl rfl)
theorem dX5_countOf_140 : decode cX5_countOf 140 = .ok (.getfield 71, 3) := dk_180 0 71 (dk_at dksX5_countOf_5 13 rfl rfl)
theorem dX5_countOf_143 : decode cX5_countOf 143 = .ok (.ireturn, 1) := dk_172 (dk_at dksX5_countOf_5 16 rfl rfl)
abbrev cX5_digest : ByteArray := prog_20_method_86_code
def yX5_digest : MethodName := ⟨RX5, "digest", "()J"⟩
def dkwX5_digest_10 : List UInt8 := [97, 173]
abbrev dktX5_digest_10 : List UInt8 := dkwX5_digest_10 ++ []
def dkwX5_digest_9 : List UInt8 := [46, 104, 182, 0, 242, 64, 20, 0, 238, 20, 0, 238, 31, 105, 42, 180, 0, 213, 97, 105, 42, 180, 0, 20]
abbrev dktX5_digest_9 : List UInt8 := dkwX5_digest_9 ++ dktX5_digest_10
def dkwX5_digest_8 : List UInt8 := [7, 42, 180, 0, 7, 16, 48, 46, 104, 182, 0, 242, 64, 42, 31, 16, 74, 7, 42, 180, 0, 7, 16, 73]
abbrev dktX5_digest_8 : List UInt8 := dkwX5_digest_8 ++ dktX5_digest_9
def dkwX5_digest_7 : List UInt8 := [167, 255, 193, 42, 31, 16, 36, 5, 42, 180, 0, 7, 16, 35, 46, 104, 182, 0, 242, 64, 42, 31, 16, 49]
abbrev dktX5_digest_7 : List UInt8 := dkwX5_digest_7 ++ dktX5_digest_8
def dkwX5_digest_6 : List UInt8 := [96, 46, 133, 97, 105, 42, 180, 0, 7, 16, 7, 46, 29, 122, 4, 126, 133, 97, 64, 132, 3, 1]
abbrev dktX5_digest_6 : List UInt8 := dkwX5_digest_6 ++ dktX5_digest_7
def dkwX5_digest_5 : List UInt8 := [20, 0, 238, 31, 105, 42, 180, 0, 7, 16, 27, 29, 96, 46, 133, 97, 105, 42, 180, 0, 7, 16, 31, 29]
abbrev dktX5_digest_5 : List UInt8 := dkwX5_digest_5 ++ dktX5_digest_6
def dkwX5_digest_4 : List UInt8 := [167, 255, 196, 3, 62, 29, 42, 180, 0, 7, 16, 26, 46, 162, 0, 58, 20, 0, 238, 20, 0, 238]
abbrev dktX5_digest_4 : List UInt8 := dkwX5_digest_4 ++ dktX5_digest_5
def dkwX5_digest_3 : List UInt8 := [16, 19, 29, 96, 46, 133, 97, 105, 42, 180, 0, 7, 3, 29, 96, 46, 133, 97, 64, 132, 3, 1]
abbrev dktX5_digest_3 : List UInt8 := dkwX5_digest_3 ++ dktX5_digest_4
def dkwX5_digest_2 : List UInt8 := [20, 0, 238, 20, 0, 238, 31, 105, 42, 180, 0, 7, 16, 12, 29, 96, 46, 133, 97, 105, 42, 180, 0, 7]
abbrev dktX5_digest_2 : List UInt8 := dkwX5_digest_2 ++ dktX5_digest_3
def dkwX5_digest_1 : List UInt8 := [64, 132, 3, 1, 167, 255, 234, 3, 62, 29, 42, 180, 0, 7, 16, 11, 46, 162, 0, 55, 20, 0, 238]
abbrev dktX5_digest_1 : List UInt8 := dkwX5_digest_1 ++ dktX5_digest_2
def dkwX5_digest_0 : List UInt8 := [20, 0, 240, 64, 3, 62, 29, 16, 11, 162, 0, 22, 20, 0, 238, 31, 105, 42, 29, 182, 0, 235, 133, 97]
abbrev dktX5_digest_0 : List UInt8 := dkwX5_digest_0 ++ dktX5_digest_1
theorem dksX5_digest_0 : cX5_digest.data.toList.drop 0 = dktX5_digest_0 := by decide +kernel
theorem dksX5_digest_1 : cX5_digest.data.toList.drop 24 = dktX5_digest_1 := dk_seg dksX5_digest_0 24 rfl rfl
theorem dksX5_digest_2 : cX5_digest.data.toList.drop 47 = dktX5_digest_2 := dk_seg dksX5_digest_1 23 rfl rfl
theorem dksX5_digest_3 : cX5_digest.data.toList.drop 71 = dktX5_digest_3 := dk_seg dksX5_digest_2 24 rfl rfl
theorem dksX5_digest_4 : cX5_digest.data.toList.drop 93 = dktX5_digest_4 := dk_seg dksX5_digest_3 22 rfl rfl
theorem dksX5_digest_5 : cX5_digest.data.toList.drop 115 = dktX5_digest_5 := dk_seg dksX5_digest_4 22 rfl rfl
theorem dksX5_digest_6 : cX5_digest.data.toList.drop 139 = dktX5_digest_6 := dk_seg dksX5_digest_5 24 rfl rfl
theorem dksX5_digest_7 : cX5_digest.data.toList.drop 161 = dktX5_digest_7 := dk_seg dksX5_digest_6 22 rfl rfl
theorem dksX5_digest_8 : cX5_digest.data.toList.drop 185 = dktX5_digest_8 := dk_seg dksX5_digest_7 24 rfl rfl
theorem dksX5_digest_9 : cX5_digest.data.toList.drop 209 = dktX5_digest_9 := dk_seg dksX5_digest_8 24 rfl rfl
theorem dksX5_digest_10 : cX5_digest.data.toList.drop 233 = dktX5_digest_10 := dk_seg dksX5_digest_9 24 rfl rfl
theorem dX5_digest_0 : decode cX5_digest 0 = .ok (.ldc2_w 240, 3) := dk_20 0 240 (dk_at dksX5_digest_0 0 rfl rfl)
theorem dX5_digest_3 : decode cX5_digest 3 = .ok (.lstore_n 1, 1) := dk_64 (dk_at dksX5_digest_0 3 rfl rfl)
theorem dX5_digest_4 : decode cX5_digest 4 = .ok (.iconst 0, 1) := dk_3 (dk_at dksX5_digest_0 4 rfl rfl)
theorem dX5_digest_5 : decode cX5_digest 5 = .ok (.istore_n 3, 1) := dk_62 (dk_at dksX5_digest_0 5 rfl rfl)
theorem dX5_digest_6 : decode cX5_digest 6 = .ok (.iload_n 3, 1) := dk_29 (dk_at dksX5_digest_0 6 rfl rfl)
theorem dX5_digest_7 : decode cX5_digest 7 = .ok (.bipush 11, 2) := dk_16 11 (dk_at dksX5_digest_0 7 rfl rfl)
theorem dX5_digest_9 : decode cX5_digest 9 = .ok (.if_icmp .ge 22, 3) := dk_162 0 22 (dk_at dksX5_digest_0 9 rfl rfl)
theorem dX5_digest_12 : decode cX5_digest 12 = .ok (.ldc2_w 238, 3) := dk_20 0 238 (dk_at dksX5_digest_0 12 rfl rfl)
theorem dX5_digest_15 : decode cX5_digest 15 = .ok (.lload_n 1, 1) := dk_31 (dk_at dksX5_digest_0 15 rfl rfl)
theorem dX5_digest_16 : decode cX5_digest 16 = .ok (.lmul, 1) := dk_105 (dk_at dksX5_digest_0 16 rfl rfl)
theorem dX5_digest_17 : decode cX5_digest 17 = .ok (.aload_n 0, 1) := dk_42 (dk_at dksX5_digest_0 17 rfl rfl)
theorem dX5_digest_18 : decode cX5_digest 18 = .ok (.iload_n 3, 1) := dk_29 (dk_at dksX5_digest_0 18 rfl rfl)
theorem dX5_digest_19 : decode cX5_digest 19 = .ok (.invokevirtual 235, 3) := dk_182 0 235 (dk_at dksX5_digest_0 19 rfl rfl)
theorem dX5_digest_22 : decode cX5_digest 22 = .ok (.i2l, 1) := dk_133 (dk_at dksX5_digest_0 22 rfl rfl)
theorem dX5_digest_23 : decode cX5_digest 23 = .ok (.ladd, 1) := dk_97 (dk_at dksX5_digest_0 23 rfl rfl)
theorem dX5_digest_24 : decode cX5_digest 24 = .ok (.lstore_n 1, 1) := dk_64 (dk_at dksX5_digest_1 0 rfl rfl)
theorem dX5_digest_25 : decode cX5_digest 25 = .ok (.iinc 3 1, 3) := dk_132 3 1 (dk_at dksX5_digest_1 1 rfl rfl)
theorem dX5_digest_28 : decode cX5_digest 28 = .ok (.goto (-22), 3) := dk_167 255 234 (dk_at dksX5_digest_1 4 rfl rfl)
theorem dX5_digest_31 : decode cX5_digest 31 = .ok (.iconst 0, 1) := dk_3 (dk_at dksX5_digest_1 7 rfl rfl)
theorem dX5_digest_32 : decode cX5_digest 32 = .ok (.istore_n 3, 1) := dk_62 (dk_at dksX5_digest_1 8 rfl rfl)
theorem dX5_digest_33 : decode cX5_digest 33 = .ok (.iload_n 3, 1) := dk_29 (dk_at dksX5_digest_1 9 rfl rfl)
theorem dX5_digest_34 : decode cX5_digest 34 = .ok (.aload_n 0, 1) := dk_42 (dk_at dksX5_digest_1 10 rfl rfl)
theorem dX5_digest_35 : decode cX5_digest 35 = .ok (.getfield 7, 3) := dk_180 0 7 (dk_at dksX5_digest_1 11 rfl rfl)
theorem dX5_digest_38 : decode cX5_digest 38 = .ok (.bipush 11, 2) := dk_16 11 (dk_at dksX5_digest_1 14 rfl rfl)
theorem dX5_digest_40 : decode cX5_digest 40 = .ok (.iaload, 1) := dk_46 (dk_at dksX5_digest_1 16 rfl rfl)
theorem dX5_digest_41 : decode cX5_digest 41 = .ok (.if_icmp .ge 55, 3) := dk_162 0 55 (dk_at dksX5_digest_1 17 rfl rfl)
theorem dX5_digest_44 : decode cX5_digest 44 = .ok (.ldc2_w 238, 3) := dk_20 0 238 (dk_at dksX5_digest_1 20 rfl rfl)
theorem dX5_digest_47 : decode cX5_digest 47 = .ok (.ldc2_w 238, 3) := dk_20 0 238 (dk_at dksX5_digest_2 0 rfl rfl)
theorem dX5_digest_50 : decode cX5_digest 50 = .ok (.ldc2_w 238, 3) := dk_20 0 238 (dk_at dksX5_digest_2 3 rfl rfl)
theorem dX5_digest_53 : decode cX5_digest 53 = .ok (.lload_n 1, 1) := dk_31 (dk_at dksX5_digest_2 6 rfl rfl)
theorem dX5_digest_54 : decode cX5_digest 54 = .ok (.lmul, 1) := dk_105 (dk_at dksX5_digest_2 7 rfl rfl)
theorem dX5_digest_55 : decode cX5_digest 55 = .ok (.aload_n 0, 1) := dk_42 (dk_at dksX5_digest_2 8 rfl rfl)
theorem dX5_digest_56 : decode cX5_digest 56 = .ok (.getfield 7, 3) := dk_180 0 7 (dk_at dksX5_digest_2 9 rfl rfl)
theorem dX5_digest_59 : decode cX5_digest 59 = .ok (.bipush 12, 2) := dk_16 12 (dk_at dksX5_digest_2 12 rfl rfl)
theorem dX5_digest_61 : decode cX5_digest 61 = .ok (.iload_n 3, 1) := dk_29 (dk_at dksX5_digest_2 14 rfl rfl)
theorem dX5_digest_62 : decode cX5_digest 62 = .ok (.iadd, 1) := dk_96 (dk_at dksX5_digest_2 15 rfl rfl)
theorem dX5_digest_63 : decode cX5_digest 63 = .ok (.iaload, 1) := dk_46 (dk_at dksX5_digest_2 16 rfl rfl)
theorem dX5_digest_64 : decode cX5_digest 64 = .ok (.i2l, 1) := dk_133 (dk_at dksX5_digest_2 17 rfl rfl)
theorem dX5_digest_65 : decode cX5_digest 65 = .ok (.ladd, 1) := dk_97 (dk_at dksX5_digest_2 18 rfl rfl)
theorem dX5_digest_66 : decode cX5_digest 66 = .ok (.lmul, 1) := dk_105 (dk_at dksX5_digest_2 19 rfl rfl)
theorem dX5_digest_67 : decode cX5_digest 67 = .ok (.aload_n 0, 1) := dk_42 (dk_at dksX5_digest_2 20 rfl rfl)
theorem dX5_digest_68 : decode cX5_digest 68 = .ok (.getfield 7, 3) := dk_180 0 7 (dk_at dksX5_digest_2 21 rfl rfl)
theorem dX5_digest_71 : decode cX5_digest 71 = .ok (.bipush 19, 2) := dk_16 19 (dk_at dksX5_digest_3 0 rfl rfl)
theorem dX5_digest_73 : decode cX5_digest 73 = .ok (.iload_n 3, 1) := dk_29 (dk_at dksX5_digest_3 2 rfl rfl)
theorem dX5_digest_74 : decode cX5_digest 74 = .ok (.iadd, 1) := dk_96 (dk_at dksX5_digest_3 3 rfl rfl)
theorem dX5_digest_75 : decode cX5_digest 75 = .ok (.iaload, 1) := dk_46 (dk_at dksX5_digest_3 4 rfl rfl)
theorem dX5_digest_76 : decode cX5_digest 76 = .ok (.i2l, 1) := dk_133 (dk_at dksX5_digest_3 5 rfl rfl)
theorem dX5_digest_77 : decode cX5_digest 77 = .ok (.ladd, 1) := dk_97 (dk_at dksX5_digest_3 6 rfl rfl)
theorem dX5_digest_78 : decode cX5_digest 78 = .ok (.lmul, 1) := dk_105 (dk_at dksX5_digest_3 7 rfl rfl)
theorem dX5_digest_79 : decode cX5_digest 79 = .ok (.aload_n 0, 1) := dk_42 (dk_at dksX5_digest_3 8 rfl rfl)
theorem dX5_digest_80 : decode cX5_digest 80 = .ok (.getfield 7, 3) := dk_180 0 7 (dk_at dksX5_digest_3 9 rfl rfl)
theorem dX5_digest_83 : decode cX5_digest 83 = .ok (.iconst 0, 1) := dk_3 (dk_at dksX5_digest_3 12 rfl rfl)
theorem dX5_digest_84 : decode cX5_digest 84 = .ok (.iload_n 3, 1) := dk_29 (dk_at dksX5_digest_3 13 rfl rfl)
theorem dX5_digest_85 : decode cX5_digest 85 = .ok (.iadd, 1) := dk_96 (dk_at dksX5_digest_3 14 rfl rfl)
theorem dX5_digest_86 : decode cX5_digest 86 = .ok (.iaload, 1) := dk_46 (dk_at dksX5_digest_3 15 rfl rfl)
theorem dX5_digest_87 : decode cX5_digest 87 = .ok (.i2l, 1) := dk_133 (dk_at dksX5_digest_3 16 rfl rfl)
theorem dX5_digest_88 : decode cX5_digest 88 = .ok (.ladd, 1) := dk_97 (dk_at dksX5_digest_3 17 rfl rfl)
theorem dX5_digest_89 : decode cX5_digest 89 = .ok (.lstore_n 1, 1) := dk_64 (dk_at dksX5_digest_3 18 rfl rfl)
theorem dX5_digest_90 : decode cX5_digest 90 = .ok (.iinc 3 1, 3) := dk_132 3 1 (dk_at dksX5_digest_3 19 rfl rfl)
theorem dX5_digest_93 : decode cX5_digest 93 = .ok (.goto (-60), 3) := dk_167 255 196 (dk_at dksX5_digest_4 0 rfl rfl)
theorem dX5_digest_96 : decode cX5_digest 96 = .ok (.iconst 0, 1) := dk_3 (dk_at dksX5_digest_4 3 rfl rfl)
theorem dX5_digest_97 : decode cX5_digest 97 = .ok (.istore_n 3, 1) := dk_62 (dk_at dksX5_digest_4 4 rfl rfl)
theorem dX5_digest_98 : decode cX5_digest 98 = .ok (.iload_n 3, 1) := dk_29 (dk_at dksX5_digest_4 5 rfl rfl)
theorem dX5_digest_99 : decode cX5_digest 99 = .ok (.aload_n 0, 1) := dk_42 (dk_at dksX5_digest_4 6 rfl rfl)
theorem dX5_digest_100 : decode cX5_digest 100 = .ok (.getfield 7, 3) := dk_180 0 7 (dk_at dksX5_digest_4 7 rfl rfl)
theorem dX5_digest_103 : decode cX5_digest 103 = .ok (.bipush 26, 2) := dk_16 26 (dk_at dksX5_digest_4 10 rfl rfl)
theorem dX5_digest_105 : decode cX5_digest 105 = .ok (.iaload, 1) := dk_46 (dk_at dksX5_digest_4 12 rfl rfl)
theorem dX5_digest_106 : decode cX5_digest 106 = .ok (.if_icmp .ge 58, 3) := dk_162 0 58 (dk_at dksX5_digest_4 13 rfl rfl)
theorem dX5_digest_109 : decode cX5_digest 109 = .ok (.ldc2_w 238, 3) := dk_20 0 238 (dk_at dksX5_digest_4 16 rfl rfl)
theorem dX5_digest_112 : decode cX5_digest 112 = .ok (.ldc2_w 238, 3) := dk_20 0 238 (dk_at dksX5_digest_4 19 rfl rfl)
theorem dX5_digest_115 : decode cX5_digest 115 = .ok (.ldc2_w 238, 3) := dk_20 0 238 (dk_at dksX5_digest_5 0 rfl rfl)
theorem dX5_digest_118 : decode cX5_digest 118 = .ok (.lload_n 1, 1) := dk_31 (dk_at dksX5_digest_5 3 rfl rfl)
theorem dX5_digest_119 : decode cX5_digest 119 = .ok (.lmul, 1) := dk_105 (dk_at dksX5_digest_5 4 rfl rfl)
theorem dX5_digest_120 : decode cX5_digest 120 = .ok (.aload_n 0, 1) := dk_42 (dk_at dksX5_digest_5 5 rfl rfl)
theorem dX5_digest_121 : decode cX5_digest 121 = .ok (.getfield 7, 3) := dk_180 0 7 (dk_at dksX5_digest_5 6 rfl rfl)
theorem dX5_digest_124 : decode cX5_digest 124 = .ok (.bipush 27, 2) := dk_16 27 (dk_at dksX5_digest_5 9 rfl rfl)
theorem dX5_digest_126 : decode cX5_digest 126 = .ok (.iload_n 3, 1) := dk_29 (dk_at dksX5_digest_5 11 rfl rfl)
theorem dX5_digest_127 : decode cX5_digest 127 = .ok (.iadd, 1) := dk_96 (dk_at dksX5_digest_5 12 rfl rfl)
theorem dX5_digest_128 : decode cX5_digest 128 = .ok (.iaload, 1) := dk_46 (dk_at dksX5_digest_5 13 rfl rfl)
theorem dX5_digest_129 : decode cX5_digest 129 = .ok (.i2l, 1) := dk_133 (dk_at dksX5_digest_5 14 rfl rfl)
theorem dX5_digest_130 : decode cX5_digest 130 = .ok (.ladd, 1) := dk_97 (dk_at dksX5_digest_5 15 rfl rfl)
theorem dX5_digest_131 : decode cX5_digest 131 = .ok (.lmul, 1) := dk_105 (dk_at dksX5_digest_5 16 rfl rfl)
theorem dX5_digest_132 : decode cX5_digest 132 = .ok (.aload_n 0, 1) := dk_42 (dk_at dksX5_digest_5 17 rfl rfl)
theorem dX5_digest_133 : decode cX5_digest 133 = .ok (.getfield 7, 3) := dk_180 0 7 (dk_at dksX5_digest_5 18 rfl rfl)
theorem dX5_digest_136 : decode cX5_digest 136 = .ok (.bipush 31, 2) := dk_16 31 (dk_at dksX5_digest_5 21 rfl rfl)
theorem dX5_digest_138 : decode cX5_digest 138 = .ok (.iload_n 3, 1) := dk_29 (dk_at dksX5_digest_5 23 rfl rfl)
theorem dX5_digest_139 : decode cX5_digest 139 = .ok (.iadd, 1) := dk_96 (dk_at dksX5_digest_6 0 rfl rfl)
theorem dX5_digest_140 : decode cX5_digest 140 = .ok (.iaload, 1) := dk_46 (dk_at dksX5_digest_6 1 rfl rfl)
theorem dX5_digest_141 : decode cX5_digest 141 = .ok (.i2l, 1) := dk_133 (dk_at dksX5_digest_6 2 rfl rfl)
theorem dX5_digest_142 : decode cX5_digest 142 = .ok (.ladd, 1) := dk_97 (dk_at dksX5_digest_6 3 rfl rfl)
theorem dX5_digest_143 : decode cX5_digest 143 = .ok (.lmul, 1) := dk_105 (dk_at dksX5_digest_6 4 rfl rfl)
theorem dX5_digest_144 : decode cX5_digest 144 = .ok (.aload_n 0, 1) := dk_42 (dk_at dksX5_digest_6 5 rfl rfl)
theorem dX5_digest_145 : decode cX5_digest 145 = .ok (.getfield 7, 3) := dk_180 0 7 (dk_at dksX5_digest_6 6 rfl rfl)
theorem dX5_digest_148 : decode cX5_digest 148 = .ok (.bipush 7, 2) := dk_16 7 (dk_at dksX5_digest_6 9 rfl rfl)
theorem dX5_digest_150 : decode cX5_digest 150 = .ok (.iaload, 1) := dk_46 (dk_at dksX5_digest_6 11 rfl rfl)
theorem dX5_digest_151 : decode cX5_digest 151 = .ok (.iload_n 3, 1) := dk_29 (dk_at dksX5_digest_6 12 rfl rfl)
theorem dX5_digest_152 : decode cX5_digest 152 = .ok (.ishr, 1) := dk_122 (dk_at dksX5_digest_6 13 rfl rfl)
theorem dX5_digest_153 : decode cX5_digest 153 = .ok (.iconst 1, 1) := dk_4 (dk_at dksX5_digest_6 14 rfl rfl)
theorem dX5_digest_154 : decode cX5_digest 154 = .ok (.iand, 1) := dk_126 (dk_at dksX5_digest_6 15 rfl rfl)
theorem dX5_digest_155 : decode cX5_digest 155 = .ok (.i2l, 1) := dk_133 (dk_at dksX5_digest_6 16 rfl rfl)
theorem dX5_digest_156 : decode cX5_digest 156 = .ok (.ladd, 1) := dk_97 (dk_at dksX5_digest_6 17 rfl rfl)
theorem dX5_digest_157 : decode cX5_digest 157 = .ok (.lstore_n 1, 1) := dk_64 (dk_at dksX5_digest_6 18 rfl rfl)
theorem dX5_digest_158 : decode cX5_digest 158 = .ok (.iinc 3 1, 3) := dk_132 3 1 (dk_at dksX5_digest_6 19 rfl rfl)
theorem dX5_digest_161 : decode cX5_digest 161 = .ok (.goto (-63), 3) := dk_167 255 193 (dk_at dksX5_digest_7 0 rfl rfl)
theorem dX5_digest_164 : decode cX5_digest 164 = .ok (.aload_n 0, 1) := dk_42 (dk_at dksX5_digest_7 3 rfl rfl)
theorem dX5_digest_165 : decode cX5_digest 165 = .ok (.lload_n 1, 1) := dk_31 (dk_at dksX5_digest_7 4 rfl rfl)
theorem dX5_digest_166 : decode cX5_digest 166 = .ok (.bipush 36, 2) := dk_16 36 (dk_at dksX5_digest_7 5 rfl rfl)
theorem dX5_digest_168 : decode cX5_digest 168 = .ok (.iconst 2, 1) := dk_5 (dk_at dksX5_digest_7 7 rfl rfl)
theorem dX5_digest_169 : decode cX5_digest 169 = .ok (.aload_n 0, 1) := dk_42 (dk_at dksX5_digest_7 8 rfl rfl)
theorem dX5_digest_170 : decode cX5_digest 170 = .ok (.getfield 7, 3) := dk_180 0 7 (dk_at dksX5_digest_7 9 rfl rfl)
theorem dX5_digest_173 : decode cX5_digest 173 = .ok (.bipush 35, 2) := dk_16 35 (dk_at dksX5_digest_7 12 rfl rfl)
theorem dX5_digest_175 : decode cX5_digest 175 = .ok (.iaload, 1) := dk_46 (dk_at dksX5_digest_7 14 rfl rfl)
theorem dX5_digest_176 : decode cX5_digest 176 = .ok (.imul, 1) := dk_104 (dk_at dksX5_digest_7 15 rfl rfl)
theorem dX5_digest_177 : decode cX5_digest 177 = .ok (.invokevirtual 242, 3) := dk_182 0 242 (dk_at dksX5_digest_7 16 rfl rfl)
theorem dX5_digest_180 : decode cX5_digest 180 = .ok (.lstore_n 1, 1) := dk_64 (dk_at dksX5_digest_7 19 rfl rfl)
theorem dX5_digest_181 : decode cX5_digest 181 = .ok (.aload_n 0, 1) := dk_42 (dk_at dksX5_digest_7 20 rfl rfl)
theorem dX5_digest_182 : decode cX5_digest 182 = .ok (.lload_n 1, 1) := dk_31 (dk_at dksX5_digest_7 21 rfl rfl)
theorem dX5_digest_183 : decode cX5_digest 183 = .ok (.bipush 49, 2) := dk_16 49 (dk_at dksX5_digest_7 22 rfl rfl)
theorem dX5_digest_185 : decode cX5_digest 185 = .ok (.iconst 4, 1) := dk_7 (dk_at dksX5_digest_8 0 rfl rfl)
theorem dX5_digest_186 : decode cX5_digest 186 = .ok (.aload_n 0, 1) := dk_42 (dk_at dksX5_digest_8 1 rfl rfl)
theorem dX5_digest_187 : decode cX5_digest 187 = .ok (.getfield 7, 3) := dk_180 0 7 (dk_at dksX5_digest_8 2 rfl rfl)
theorem dX5_digest_190 : decode cX5_digest 190 = .ok (.bipush 48, 2) := dk_16 48 (dk_at dksX5_digest_8 5 rfl rfl)
theorem dX5_digest_192 : decode cX5_digest 192 = .ok (.iaload, 1) := dk_46 (dk_at dksX5_digest_8 7 rfl rfl)
theorem dX5_digest_193 : decode cX5_digest 193 = .ok (.imul, 1) := dk_104 (dk_at dksX5_digest_8 8 rfl rfl)
theorem dX5_digest_194 : decode cX5_digest 194 = .ok (.invokevirtual 242, 3) := dk_182 0 242 (dk_at dksX5_digest_8 9 rfl rfl)
theorem dX5_digest_197 : decode cX5_digest 197 = .ok (.lstore_n 1, 1) := dk_64 (dk_at dksX5_digest_8 12 rfl rfl)
theorem dX5_digest_198 : decode cX5_digest 198 = .ok (.aload_n 0, 1) := dk_42 (dk_at dksX5_digest_8 13 rfl rfl)
theorem dX5_digest_199 : decode cX5_digest 199 = .ok (.lload_n 1, 1) := dk_31 (dk_at dksX5_digest_8 14 rfl rfl)
theorem dX5_digest_200 : decode cX5_digest 200 = .ok (.bipush 74, 2) := dk_16 74 (dk_at dksX5_digest_8 15 rfl rfl)
theorem dX5_digest_202 : decode cX5_digest 202 = .ok (.iconst 4, 1) := dk_7 (dk_at dksX5_digest_8 17 rfl rfl)
theorem dX5_digest_203 : decode cX5_digest 203 = .ok (.aload_n 0, 1) := dk_42 (dk_at dksX5_digest_8 18 rfl rfl)
theorem dX5_digest_204 : decode cX5_digest 204 = .ok (.getfield 7, 3) := dk_180 0 7 (dk_at dksX5_digest_8 19 rfl rfl)
theorem dX5_digest_207 : decode cX5_digest 207 = .ok (.bipush 73, 2) := dk_16 73 (dk_at dksX5_digest_8 22 rfl rfl)
theorem dX5_digest_209 : decode cX5_digest 209 = .ok (.iaload, 1) := dk_46 (dk_at dksX5_digest_9 0 rfl rfl)
theorem dX5_digest_210 : decode cX5_digest 210 = .ok (.imul, 1) := dk_104 (dk_at dksX5_digest_9 1 rfl rfl)
theorem dX5_digest_211 : decode cX5_digest 211 = .ok (.invokevirtual 242, 3) := dk_182 0 242 (dk_at dksX5_digest_9 2 rfl rfl)
theorem dX5_digest_214 : decode cX5_digest 214 = .ok (.lstore_n 1, 1) := dk_64 (dk_at dksX5_digest_9 5 rfl rfl)
theorem dX5_digest_215 : decode cX5_digest 215 = .ok (.ldc2_w 238, 3) := dk_20 0 238 (dk_at dksX5_digest_9 6 rfl rfl)
theorem dX5_digest_218 : decode cX5_digest 218 = .ok (.ldc2_w 238, 3) := dk_20 0 238 (dk_at dksX5_digest_9 9 rfl rfl)
theorem dX5_digest_221 : decode cX5_digest 221 = .ok (.lload_n 1, 1) := dk_31 (dk_at dksX5_digest_9 12 rfl rfl)
theorem dX5_digest_222 : decode cX5_digest 222 = .ok (.lmul, 1) := dk_105 (dk_at dksX5_digest_9 13 rfl rfl)
theorem dX5_digest_223 : decode cX5_digest 223 = .ok (.aload_n 0, 1) := dk_42 (dk_at dksX5_digest_9 14 rfl rfl)
theorem dX5_digest_224 : decode cX5_digest 224 = .ok (.getfield 213, 3) := dk_180 0 213 (dk_at dksX5_digest_9 15 rfl rfl)
theorem dX5_digest_227 : decode cX5_digest 227 = .ok (.ladd, 1) := dk_97 (dk_at dksX5_digest_9 18 rfl rfl)
theorem dX5_digest_228 : decode cX5_digest 228 = .ok (.lmul, 1) := dk_105 (dk_at dksX5_digest_9 19 rfl rfl)
theorem dX5_digest_229 : decode cX5_digest 229 = .ok (.aload_n 0, 1) := dk_42 (dk_at dksX5_digest_9 20 rfl rfl)
theorem dX5_digest_230 : decode cX5_digest 230 = .ok (.getfield 20, 3) := dk_180 0 20 (dk_at dksX5_digest_9 21 rfl rfl)
theorem dX5_digest_233 : decode cX5_digest 233 = .ok (.ladd, 1) := dk_97 (dk_at dksX5_digest_10 0 rfl rfl)
theorem dX5_digest_234 : decode cX5_digest 234 = .ok (.lreturn, 1) := dk_173 (dk_at dksX5_digest_10 1 rfl rfl)
abbrev cX5_join : ByteArray := prog_20_method_85_code
def yX5_join : MethodName := ⟨RX5, "join", "(JII)J"⟩
def dkwX5_join_1 : List UInt8 := [180, 0, 7, 21, 7, 46, 133, 97, 55, 5, 132, 7, 1, 167, 255, 227, 22, 5, 173]
abbrev dktX5_join_1 : List UInt8 := dkwX5_join_1 ++ []
def dkwX5_join_0 : List UInt8 := [31, 55, 5, 29, 54, 7, 21, 7, 29, 21, 4, 96, 162, 0, 26, 20, 0, 238, 22, 5, 105, 42]
abbrev dktX5_join_0 : List UInt8 := dkwX5_join_0 ++ dktX5_join_1
theorem dksX5_join_0 : cX5_join.data.toList.drop 0 = dktX5_join_0 := by decide +kernel
theorem dksX5_join_1 : cX5_join.data.toList.drop 22 = dktX5_join_1 := dk_seg dksX5_join_0 22 rfl rfl
theorem dX5_join_0 : decode cX5_join 0 = .ok (.lload_n 1, 1) := dk_31 (dk_at dksX5_join_0 0 rfl rfl)
theorem dX5_join_1 : decode cX5_join 1 = .ok (.lstore 5, 2) := dk_55 5 (dk_at dksX5_join_0 1 rfl rfl)
theorem dX5_join_3 : decode cX5_join 3 = .ok (.iload_n 3, 1) := dk_29 (dk_at dksX5_join_0 3 rfl rfl)
theorem dX5_join_4 : decode cX5_join 4 = .ok (.istore 7, 2) := dk_54 7 (dk_at dksX5_join_0 4 rfl rfl)
theorem dX5_join_6 : decode cX5_join 6 = .ok (.iload 7, 2) := dk_21 7 (dk_at dksX5_join_0 6 rfl rfl)
theorem dX5_join_8 : decode cX5_join 8 = .ok (.iload_n 3, 1) := dk_29 (dk_at dksX5_join_0 8 rfl rfl)
theorem dX5_join_9 : decode cX5_join 9 = .ok (.iload 4, 2) := dk_21 4 (dk_at dksX5_join_0 9 rfl rfl)
theorem dX5_join_11 : decode cX5_join 11 = .ok (.iadd, 1) := dk_96 (dk_at dksX5_join_0 11 rfl rfl)
theorem dX5_join_12 : decode cX5_join 12 = .ok (.if_icmp .ge 26, 3) := dk_162 0 26 (dk_at dksX5_join_0 12 rfl rfl)
theorem dX5_join_15 : decode cX5_join 15 = .ok (.ldc2_w 238, 3) := dk_20 0 238 (dk_at dksX5_join_0 15 rfl rfl)
theorem dX5_join_18 : decode cX5_join 18 = .ok (.lload 5, 2) := dk_22 5 (dk_at dksX5_join_0 18 rfl rfl)
theorem dX5_join_20 : decode cX5_join 20 = .ok (.lmul, 1) := dk_105 (dk_at dksX5_join_0 20 rfl rfl)
theorem dX5_join_21 : decode cX5_join 21 = .ok (.aload_n 0, 1) := dk_42 (dk_at dksX5_join_0 21 rfl rfl)
theorem dX5_join_22 : decode cX5_join 22 = .ok (.getfield 7, 3) := dk_180 0 7 (dk_at dksX5_join_1 0 rfl rfl)
theorem dX5_join_25 : decode cX5_join 25 = .ok (.iload 7, 2) := dk_21 7 (dk_at dksX5_join_1 3 rfl rfl)
theorem dX5_join_27 : decode cX5_join 27 = .ok (.iaload, 1) := dk_46 (dk_at dksX5_join_1 5 rfl rfl)
theorem dX5_join_28 : decode cX5_join 28 = .ok (.i2l, 1) := dk_133 (dk_at dksX5_join_1 6 rfl rfl)
theorem dX5_join_29 : decode cX5_join 29 = .ok (.ladd, 1) := dk_97 (dk_at dksX5_join_1 7 rfl rfl)
theorem dX5_join_30 : decode cX5_join 30 = .ok (.lstore 5, 2) := dk_55 5 (dk_at dksX5_join_1 8 rfl rfl)
theorem dX5_join_32 : decode cX5_join 32 = .ok (.iinc 7 1, 3) := dk_132 7 1 (dk_at dksX5_join_1 10 rfl rfl)
theorem dX5_join_35 : decode cX5_join 35 = .ok (.goto (-29), 3) := dk_167 255 227 (dk_at dksX5_join_1 13 rfl rfl)
theorem dX5_join_38 : decode cX5_join 38 = .ok (.lload 5, 2) := dk_22 5 (dk_at dksX5_join_1 16 rfl rfl)
theorem dX5_join_40 : decode cX5_join 40 = .ok (.lreturn, 1) := dk_173 (dk_at dksX5_join_1 18 rfl rfl)
theorem q66 : (Jvm.Cond.initialized "LaneCymbalsModel") ∈ lw_all := lw_g (lw_at lw_m1 6 rfl) rfl
theorem q903 : (Jvm.Cond.instantiable "LaneCymbalsModel" (22 : Nat)) ∈ lw_all := lw_g (lw_at lw_m4 123 rfl) rfl
theorem q905 : (Jvm.Cond.instanceMethod ({ cls := "LaneCymbalsModel", name := "<init>", desc := "()V" } : Jvm.MethodName)) ∈ lw_all := lw_g (lw_at lw_m4 125 rfl) rfl
theorem q906 : (Jvm.Cond.code ({ cls := "LaneCymbalsModel", name := "<init>", desc := "()V" } : Jvm.MethodName) prog_20_method_1_code (1 : Nat) (Option.none : Option Jvm.ClassFile.FieldType)) ∈ lw_all := lw_g (lw_at lw_m4 126 rfl) rfl
theorem q907 : (Jvm.Cond.methodLink "LaneCymbalsModel" (1 : Nat) ({ cls := "java/lang/Object", name := "<init>", desc := "()V" } : Jvm.MethodName)) ∈ lw_all := lw_g (lw_at lw_m4 127 rfl) rfl
theorem q908 : (Jvm.Cond.fieldLink "LaneCymbalsModel" (7 : Nat) "LaneCymbalsModel" "row" "[I") ∈ lw_all := lw_g (lw_at lw_m4 128 rfl) rfl
theorem q909 : (Jvm.Cond.fieldLink "LaneCymbalsModel" (13 : Nat) "LaneCymbalsModel" "isKept" "[Z") ∈ lw_all := lw_g (lw_at lw_m4 129 rfl) rfl
theorem q910 : (Jvm.Cond.fieldLink "LaneCymbalsModel" (17 : Nat) "LaneCymbalsModel" "refused" "[I") ∈ lw_all := lw_g (lw_at lw_m4 130 rfl) rfl
theorem q911 : (Jvm.Cond.fieldLink "LaneCymbalsModel" (213 : Nat) "LaneCymbalsModel" "above" "J") ∈ lw_all := lw_g (lw_at lw_m4 131 rfl) rfl
theorem q912 : (Jvm.Cond.fieldLink "LaneCymbalsModel" (20 : Nat) "LaneCymbalsModel" "below" "J") ∈ lw_all := lw_g (lw_at lw_m4 132 rfl) rfl
theorem q913 : (Jvm.Cond.fieldLink "LaneCymbalsModel" (24 : Nat) "LaneCymbalsModel" "text" "[I") ∈ lw_all := lw_g (lw_at lw_m4 133 rfl) rfl
theorem q914 : (Jvm.Cond.fieldLink "LaneCymbalsModel" (71 : Nat) "LaneCymbalsModel" "length" "I") ∈ lw_all := lw_g (lw_at lw_m4 134 rfl) rfl
theorem q915 : (Jvm.Cond.fieldLink "LaneCymbalsModel" (27 : Nat) "LaneCymbalsModel" "words" "[I") ∈ lw_all := lw_g (lw_at lw_m4 135 rfl) rfl
theorem q916 : (Jvm.Cond.fieldLink "LaneCymbalsModel" (78 : Nat) "LaneCymbalsModel" "at" "I") ∈ lw_all := lw_g (lw_at lw_m4 136 rfl) rfl
theorem q917 : (Jvm.Cond.fieldLink "LaneCymbalsModel" (75 : Nat) "LaneCymbalsModel" "behind" "I") ∈ lw_all := lw_g (lw_at lw_m4 137 rfl) rfl
theorem q918 : (Jvm.Cond.fieldLink "LaneCymbalsModel" (102 : Nat) "LaneCymbalsModel" "readPeople" "I") ∈ lw_all := lw_g (lw_at lw_m4 138 rfl) rfl
theorem q919 : (Jvm.Cond.fieldLink "LaneCymbalsModel" (105 : Nat) "LaneCymbalsModel" "readAunts" "I") ∈ lw_all := lw_g (lw_at lw_m4 139 rfl) rfl
theorem q920 : (Jvm.Cond.fieldLink "LaneCymbalsModel" (98 : Nat) "LaneCymbalsModel" "doing" "Z") ∈ lw_all := lw_g (lw_at lw_m4 140 rfl) rfl
theorem q921 : (Jvm.Cond.fieldLink "LaneCymbalsModel" (30 : Nat) "LaneCymbalsModel" "leanings" "[I") ∈ lw_all := lw_g (lw_at lw_m4 141 rfl) rfl
theorem q922 : (Jvm.Cond.fieldLink "LaneCymbalsModel" (33 : Nat) "LaneCymbalsModel" "left" "[I") ∈ lw_all := lw_g (lw_at lw_m4 142 rfl) rfl
theorem q923 : (Jvm.Cond.fieldLink "LaneCymbalsModel" (36 : Nat) "LaneCymbalsModel" "right" "[I") ∈ lw_all := lw_g (lw_at lw_m4 143 rfl) rfl
theorem q924 : (Jvm.Cond.fieldLink "LaneCymbalsModel" (177 : Nat) "LaneCymbalsModel" "lefts" "I") ∈ lw_all := lw_g (lw_at lw_m4 144 rfl) rfl
theorem q925 : (Jvm.Cond.fieldLink "LaneCymbalsModel" (180 : Nat) "LaneCymbalsModel" "rights" "I") ∈ lw_all := lw_g (lw_at lw_m4 145 rfl) rfl
theorem q926 : (Jvm.Cond.fieldLink "LaneCymbalsModel" (39 : Nat) "LaneCymbalsModel" "mates" "[I") ∈ lw_all := lw_g (lw_at lw_m4 146 rfl) rfl
theorem q927 : (Jvm.Cond.fieldLink "LaneCymbalsModel" (42 : Nat) "LaneCymbalsModel" "best" "[I") ∈ lw_all := lw_g (lw_at lw_m4 147 rfl) rfl
theorem q928 : (Jvm.Cond.fieldLink "LaneCymbalsModel" (45 : Nat) "LaneCymbalsModel" "comes" "[I") ∈ lw_all := lw_g (lw_at lw_m4 148 rfl) rfl
theorem q929 : (Jvm.Cond.fieldLink "LaneCymbalsModel" (48 : Nat) "LaneCymbalsModel" "both" "[I") ∈ lw_all := lw_g (lw_at lw_m4 149 rfl) rfl
theorem q930 : (Jvm.Cond.laysFinal "LaneCymbalsModel" "LaneCymbalsModel" "row" "[I") ∈ lw_all := lw_g (lw_at lw_m4 150 rfl) rfl
theorem q931 : (Jvm.Cond.soleField "LaneCymbalsModel" "row") ∈ lw_all := lw_g (lw_at lw_m4 151 rfl) rfl
theorem q932 : (Jvm.Cond.laysFinal "LaneCymbalsModel" "LaneCymbalsModel" "isKept" "[Z") ∈ lw_all := lw_g (lw_at lw_m4 152 rfl) rfl
theorem q933 : (Jvm.Cond.soleField "LaneCymbalsModel" "isKept") ∈ lw_all := lw_g (lw_at lw_m4 153 rfl) rfl
theorem q934 : (Jvm.Cond.laysFinal "LaneCymbalsModel" "LaneCymbalsModel" "refused" "[I") ∈ lw_all := lw_g (lw_at lw_m4 154 rfl) rfl
theorem q935 : (Jvm.Cond.soleField "LaneCymbalsModel" "refused") ∈ lw_all := lw_g (lw_at lw_m4 155 rfl) rfl
theorem q936 : (Jvm.Cond.lays "LaneCymbalsModel" "LaneCymbalsModel" "above" "J") ∈ lw_all := lw_g (lw_at lw_m4 156 rfl) rfl
theorem q937 : (Jvm.Cond.soleField "LaneCymbalsModel" "above") ∈ lw_all := lw_g (lw_at lw_m4 157 rfl) rfl
theorem q938 : (Jvm.Cond.lays "LaneCymbalsModel" "LaneCymbalsModel" "below" "J") ∈ lw_all := lw_g (lw_at lw_m4 158 rfl) rfl
theorem q939 : (Jvm.Cond.soleField "LaneCymbalsModel" "below") ∈ lw_all := lw_g (lw_at lw_m4 159 rfl) rfl
theorem q940 : (Jvm.Cond.laysFinal "LaneCymbalsModel" "LaneCymbalsModel" "text" "[I") ∈ lw_all := lw_g (lw_at lw_m4 160 rfl) rfl
theorem q941 : (Jvm.Cond.soleField "LaneCymbalsModel" "text") ∈ lw_all := lw_g (lw_at lw_m4 161 rfl) rfl
theorem q942 : (Jvm.Cond.lays "LaneCymbalsModel" "LaneCymbalsModel" "length" "I") ∈ lw_all := lw_g (lw_at lw_m4 162 rfl) rfl
theorem q943 : (Jvm.Cond.soleField "LaneCymbalsModel" "length") ∈ lw_all := lw_g (lw_at lw_m4 163 rfl) rfl
theorem q944 : (Jvm.Cond.laysFinal "LaneCymbalsModel" "LaneCymbalsModel" "words" "[I") ∈ lw_all := lw_g (lw_at lw_m4 164 rfl) rfl
theorem q945 : (Jvm.Cond.soleField "LaneCymbalsModel" "words") ∈ lw_all := lw_g (lw_at lw_m4 165 rfl) rfl
theorem q946 : (Jvm.Cond.lays "LaneCymbalsModel" "LaneCymbalsModel" "at" "I") ∈ lw_all := lw_g (lw_at lw_m4 166 rfl) rfl
theorem q947 : (Jvm.Cond.soleField "LaneCymbalsModel" "at") ∈ lw_all := lw_g (lw_at lw_m4 167 rfl) rfl
theorem q948 : (Jvm.Cond.lays "LaneCymbalsModel" "LaneCymbalsModel" "behind" "I") ∈ lw_all := lw_g (lw_at lw_m4 168 rfl) rfl
theorem q949 : (Jvm.Cond.soleField "LaneCymbalsModel" "behind") ∈ lw_all := lw_g (lw_at lw_m4 169 rfl) rfl
theorem q950 : (Jvm.Cond.lays "LaneCymbalsModel" "LaneCymbalsModel" "readPeople" "I") ∈ lw_all := lw_g (lw_at lw_m4 170 rfl) rfl
theorem q951 : (Jvm.Cond.soleField "LaneCymbalsModel" "readPeople") ∈ lw_all := lw_g (lw_at lw_m4 171 rfl) rfl
theorem q952 : (Jvm.Cond.lays "LaneCymbalsModel" "LaneCymbalsModel" "readAunts" "I") ∈ lw_all := lw_g (lw_at lw_m4 172 rfl) rfl
theorem q953 : (Jvm.Cond.soleField "LaneCymbalsModel" "readAunts") ∈ lw_all := lw_g (lw_at lw_m4 173 rfl) rfl
theorem q954 : (Jvm.Cond.lays "LaneCymbalsModel" "LaneCymbalsModel" "doing" "Z") ∈ lw_all := lw_g (lw_at lw_m4 174 rfl) rfl
theorem q955 : (Jvm.Cond.soleField "LaneCymbalsModel" "doing") ∈ lw_all := lw_g (lw_at lw_m4 175 rfl) rfl
theorem q956 : (Jvm.Cond.laysFinal "LaneCymbalsModel" "LaneCymbalsModel" "leanings" "[I") ∈ lw_all := lw_g (lw_at lw_m4 176 rfl) rfl
theorem q957 : (Jvm.Cond.soleField "LaneCymbalsModel" "leanings") ∈ lw_all := lw_g (lw_at lw_m4 177 rfl) rfl
theorem q958 : (Jvm.Cond.laysFinal "LaneCymbalsModel" "LaneCymbalsModel" "left" "[I") ∈ lw_all := lw_g (lw_at lw_m4 178 rfl) rfl
theorem q959 : (Jvm.Cond.soleField "LaneCymbalsModel" "left") ∈ lw_all := lw_g (lw_at lw_m4 179 rfl) rfl
theorem q960 : (Jvm.Cond.laysFinal "LaneCymbalsModel" "LaneCymbalsModel" "right" "[I") ∈ lw_all := lw_g (lw_at lw_m4 180 rfl) rfl
theorem q961 : (Jvm.Cond.soleField "LaneCymbalsModel" "right") ∈ lw_all := lw_g (lw_at lw_m4 181 rfl) rfl
theorem q962 : (Jvm.Cond.lays "LaneCymbalsModel" "LaneCymbalsModel" "lefts" "I") ∈ lw_all := lw_g (lw_at lw_m4 182 rfl) rfl
theorem q963 : (Jvm.Cond.soleField "LaneCymbalsModel" "lefts") ∈ lw_all := lw_g (lw_at lw_m4 183 rfl) rfl
theorem q964 : (Jvm.Cond.lays "LaneCymbalsModel" "LaneCymbalsModel" "rights" "I") ∈ lw_all := lw_g (lw_at lw_m4 184 rfl) rfl
theorem q965 : (Jvm.Cond.soleField "LaneCymbalsModel" "rights") ∈ lw_all := lw_g (lw_at lw_m4 185 rfl) rfl
theorem q966 : (Jvm.Cond.laysFinal "LaneCymbalsModel" "LaneCymbalsModel" "mates" "[I") ∈ lw_all := lw_g (lw_at lw_m4 186 rfl) rfl
theorem q967 : (Jvm.Cond.soleField "LaneCymbalsModel" "mates") ∈ lw_all := lw_g (lw_at lw_m4 187 rfl) rfl
theorem q968 : (Jvm.Cond.laysFinal "LaneCymbalsModel" "LaneCymbalsModel" "best" "[I") ∈ lw_all := lw_g (lw_at lw_m4 188 rfl) rfl
theorem q969 : (Jvm.Cond.soleField "LaneCymbalsModel" "best") ∈ lw_all := lw_g (lw_at lw_m4 189 rfl) rfl
theorem q970 : (Jvm.Cond.laysFinal "LaneCymbalsModel" "LaneCymbalsModel" "comes" "[I") ∈ lw_all := lw_g (lw_at lw_m4 190 rfl) rfl
theorem q971 : (Jvm.Cond.soleField "LaneCymbalsModel" "comes") ∈ lw_all := lw_g (lw_at lw_m4 191 rfl) rfl
theorem q972 : (Jvm.Cond.laysFinal "LaneCymbalsModel" "LaneCymbalsModel" "both" "[I") ∈ lw_all := lw_g (lw_at lw_m4 192 rfl) rfl
theorem q973 : (Jvm.Cond.soleField "LaneCymbalsModel" "both") ∈ lw_all := lw_g (lw_at lw_m4 193 rfl) rfl
theorem q974 : (Jvm.Cond.superclass "LaneCymbalsModel" "java/lang/Object") ∈ lw_all := lw_g (lw_at lw_m4 194 rfl) rfl
theorem q977 : (Jvm.Cond.instanceMethod ({ cls := "LaneCymbalsModel", name := "lane", desc := "(I)I" } : Jvm.MethodName)) ∈ lw_all := lw_g (lw_at lw_m4 197 rfl) rfl
theorem q978 : (Jvm.Cond.selects "LaneCymbalsModel" ({ cls := "LaneCymbalsModel", name := "lane", desc := "(I)I" } : Jvm.MethodName) ({ cls := "LaneCymbalsModel", name := "lane", desc := "(I)I" } : Jvm.MethodName)) ∈ lw_all := lw_g (lw_at lw_m4 198 rfl) rfl
theorem q979 : (Jvm.Cond.code ({ cls := "LaneCymbalsModel", name := "lane", desc := "(I)I" } : Jvm.MethodName) prog_20_method_7_code (3 : Nat) (Option.some Jvm.ClassFile.FieldType.int)) ∈ lw_all := lw_g (lw_at lw_m4 199 rfl) rfl
theorem q980 : (Jvm.Cond.methodLink "LaneCymbalsModel" (51 : Nat) ({ cls := "LaneCymbalsModel", name := "in", desc := "(III)Z" } : Jvm.MethodName)) ∈ lw_all := lw_g (lw_at lw_m4 200 rfl) rfl
theorem q981 : (Jvm.Cond.static ({ cls := "LaneCymbalsModel", name := "in", desc := "(III)Z" } : Jvm.MethodName)) ∈ lw_all := lw_g (lw_at lw_m4 201 rfl) rfl
theorem q982 : (Jvm.Cond.code ({ cls := "LaneCymbalsModel", name := "in", desc := "(III)Z" } : Jvm.MethodName) prog_20_method_2_code (3 : Nat) (Option.some Jvm.ClassFile.FieldType.boolean)) ∈ lw_all := lw_g (lw_at lw_m4 202 rfl) rfl
theorem q983 : (Jvm.Cond.methodLink "LaneCymbalsModel" (55 : Nat) ({ cls := "LaneCymbalsModel", name := "refuse", desc := "(I)I" } : Jvm.MethodName)) ∈ lw_all := lw_g (lw_at lw_m4 203 rfl) rfl
theorem q984 : (Jvm.Cond.privateMethod ({ cls := "LaneCymbalsModel", name := "refuse", desc := "(I)I" } : Jvm.MethodName)) ∈ lw_tbl := lw_at lw_m4 204 rfl
theorem q985 : (Jvm.Cond.instanceMethod ({ cls := "LaneCymbalsModel", name := "refuse", desc := "(I)I" } : Jvm.MethodName)) ∈ lw_all := lw_g (lw_at lw_m4 205 rfl) rfl
theorem q986 : (Jvm.Cond.code ({ cls := "LaneCymbalsModel", name := "refuse", desc := "(I)I" } : Jvm.MethodName) prog_20_method_5_code (2 : Nat) (Option.some Jvm.ClassFile.FieldType.int)) ∈ lw_all := lw_g (lw_at lw_m4 206 rfl) rfl
theorem q987 : (Jvm.Cond.methodLink "LaneCymbalsModel" (59 : Nat) ({ cls := "LaneCymbalsModel", name := "layHouses", desc := "(I)V" } : Jvm.MethodName)) ∈ lw_all := lw_g (lw_at lw_m4 207 rfl) rfl
theorem q988 : (Jvm.Cond.privateMethod ({ cls := "LaneCymbalsModel", name := "layHouses", desc := "(I)V" } : Jvm.MethodName)) ∈ lw_tbl := lw_at lw_m4 208 rfl
theorem q989 : (Jvm.Cond.instanceMethod ({ cls := "LaneCymbalsModel", name := "layHouses", desc := "(I)V" } : Jvm.MethodName)) ∈ lw_all := lw_g (lw_at lw_m4 209 rfl) rfl
theorem q990 : (Jvm.Cond.code ({ cls := "LaneCymbalsModel", name := "layHouses", desc := "(I)V" } : Jvm.MethodName) prog_20_method_6_code (3 : Nat) (Option.none : Option Jvm.ClassFile.FieldType)) ∈ lw_all := lw_g (lw_at lw_m4 210 rfl) rfl
theorem q992 : (Jvm.Cond.instanceMethod ({ cls := "LaneCymbalsModel", name := "wide", desc := "(I)I" } : Jvm.MethodName)) ∈ lw_all := lw_g (lw_at lw_m4 212 rfl) rfl
theorem q993 : (Jvm.Cond.selects "LaneCymbalsModel" ({ cls := "LaneCymbalsModel", name := "wide", desc := "(I)I" } : Jvm.MethodName) ({ cls := "LaneCymbalsModel", name := "wide", desc := "(I)I" } : Jvm.MethodName)) ∈ lw_all := lw_g (lw_at lw_m4 213 rfl) rfl
theorem q994 : (Jvm.Cond.code ({ cls := "LaneCymbalsModel", name := "wide", desc := "(I)I" } : Jvm.MethodName) prog_20_method_8_code (3 : Nat) (Option.some Jvm.ClassFile.FieldType.int)) ∈ lw_all := lw_g (lw_at lw_m4 214 rfl) rfl
theorem q996 : (Jvm.Cond.instanceMethod ({ cls := "LaneCymbalsModel", name := "one", desc := "(III)I" } : Jvm.MethodName)) ∈ lw_all := lw_g (lw_at lw_m4 216 rfl) rfl
theorem q997 : (Jvm.Cond.selects "LaneCymbalsModel" ({ cls := "LaneCymbalsModel", name := "one", desc := "(III)I" } : Jvm.MethodName) ({ cls := "LaneCymbalsModel", name := "one", desc := "(III)I" } : Jvm.MethodName)) ∈ lw_all := lw_g (lw_at lw_m4 217 rfl) rfl
theorem q998 : (Jvm.Cond.code ({ cls := "LaneCymbalsModel", name := "one", desc := "(III)I" } : Jvm.MethodName) prog_20_method_10_code (4 : Nat) (Option.some Jvm.ClassFile.FieldType.int)) ∈ lw_all := lw_g (lw_at lw_m4 218 rfl) rfl
theorem q999 : (Jvm.Cond.methodLink "LaneCymbalsModel" (63 : Nat) ({ cls := "LaneCymbalsModel", name := "addOne", desc := "(III)V" } : Jvm.MethodName)) ∈ lw_all := lw_g (lw_at lw_m4 219 rfl) rfl
theorem q1000 : (Jvm.Cond.privateMethod ({ cls := "LaneCymbalsModel", name := "addOne", desc := "(III)V" } : Jvm.MethodName)) ∈ lw_tbl := lw_at lw_m4 220 rfl
theorem q1001 : (Jvm.Cond.instanceMethod ({ cls := "LaneCymbalsModel", name := "addOne", desc := "(III)V" } : Jvm.MethodName)) ∈ lw_all := lw_g (lw_at lw_m4 221 rfl) rfl
theorem q1002 : (Jvm.Cond.code ({ cls := "LaneCymbalsModel", name := "addOne", desc := "(III)V" } : Jvm.MethodName) prog_20_method_9_code (5 : Nat) (Option.none : Option Jvm.ClassFile.FieldType)) ∈ lw_all := lw_g (lw_at lw_m4 222 rfl) rfl
theorem q1004 : (Jvm.Cond.instanceMethod ({ cls := "LaneCymbalsModel", name := "aunt", desc := "(II)I" } : Jvm.MethodName)) ∈ lw_all := lw_g (lw_at lw_m4 224 rfl) rfl
theorem q1005 : (Jvm.Cond.selects "LaneCymbalsModel" ({ cls := "LaneCymbalsModel", name := "aunt", desc := "(II)I" } : Jvm.MethodName) ({ cls := "LaneCymbalsModel", name := "aunt", desc := "(II)I" } : Jvm.MethodName)) ∈ lw_all := lw_g (lw_at lw_m4 225 rfl) rfl
theorem q1006 : (Jvm.Cond.code ({ cls := "LaneCymbalsModel", name := "aunt", desc := "(II)I" } : Jvm.MethodName) prog_20_method_12_code (3 : Nat) (Option.some Jvm.ClassFile.FieldType.int)) ∈ lw_all := lw_g (lw_at lw_m4 226 rfl) rfl
theorem q1007 : (Jvm.Cond.methodLink "LaneCymbalsModel" (67 : Nat) ({ cls := "LaneCymbalsModel", name := "addAunt", desc := "(II)V" } : Jvm.MethodName)) ∈ lw_all := lw_g (lw_at lw_m4 227 rfl) rfl
theorem q1008 : (Jvm.Cond.privateMethod ({ cls := "LaneCymbalsModel", name := "addAunt", desc := "(II)V" } : Jvm.MethodName)) ∈ lw_tbl := lw_at lw_m4 228 rfl
theorem q1009 : (Jvm.Cond.instanceMethod ({ cls := "LaneCymbalsModel", name := "addAunt", desc := "(II)V" } : Jvm.MethodName)) ∈ lw_all := lw_g (lw_at lw_m4 229 rfl) rfl
theorem q1010 : (Jvm.Cond.code ({ cls := "LaneCymbalsModel", name := "addAunt", desc := "(II)V" } : Jvm.MethodName) prog_20_method_11_code (4 : Nat) (Option.none : Option Jvm.ClassFile.FieldType)) ∈ lw_all := lw_g (lw_at lw_m4 230 rfl) rfl
theorem q1012 : (Jvm.Cond.instanceMethod ({ cls := "LaneCymbalsModel", name := "type", desc := "(I)I" } : Jvm.MethodName)) ∈ lw_all := lw_g (lw_at lw_m4 232 rfl) rfl
theorem q1013 : (Jvm.Cond.selects "LaneCymbalsModel" ({ cls := "LaneCymbalsModel", name := "type", desc := "(I)I" } : Jvm.MethodName) ({ cls := "LaneCymbalsModel", name := "type", desc := "(I)I" } : Jvm.MethodName)) ∈ lw_all := lw_g (lw_at lw_m4 233 rfl) rfl
theorem q1014 : (Jvm.Cond.code ({ cls := "LaneCymbalsModel", name := "type", desc := "(I)I" } : Jvm.MethodName) prog_20_method_13_code (2 : Nat) (Option.some Jvm.ClassFile.FieldType.int)) ∈ lw_all := lw_g (lw_at lw_m4 234 rfl) rfl
theorem q1016 : (Jvm.Cond.instanceMethod ({ cls := "LaneCymbalsModel", name := "clear", desc := "()I" } : Jvm.MethodName)) ∈ lw_all := lw_g (lw_at lw_m4 236 rfl) rfl
theorem q1017 : (Jvm.Cond.selects "LaneCymbalsModel" ({ cls := "LaneCymbalsModel", name := "clear", desc := "()I" } : Jvm.MethodName) ({ cls := "LaneCymbalsModel", name := "clear", desc := "()I" } : Jvm.MethodName)) ∈ lw_all := lw_g (lw_at lw_m4 237 rfl) rfl
theorem q1018 : (Jvm.Cond.code ({ cls := "LaneCymbalsModel", name := "clear", desc := "()I" } : Jvm.MethodName) prog_20_method_14_code (2 : Nat) (Option.some Jvm.ClassFile.FieldType.int)) ∈ lw_all := lw_g (lw_at lw_m4 238 rfl) rfl
theorem q1020 : (Jvm.Cond.instanceMethod ({ cls := "LaneCymbalsModel", name := "read", desc := "()I" } : Jvm.MethodName)) ∈ lw_all := lw_g (lw_at lw_m5 0 rfl) rfl
theorem q1021 : (Jvm.Cond.selects "LaneCymbalsModel" ({ cls := "LaneCymbalsModel", name := "read", desc := "()I" } : Jvm.MethodName) ({ cls := "LaneCymbalsModel", name := "read", desc := "()I" } : Jvm.MethodName)) ∈ lw_all := lw_g (lw_at lw_m5 1 rfl) rfl
theorem q1022 : (Jvm.Cond.code ({ cls := "LaneCymbalsModel", name := "read", desc := "()I" } : Jvm.MethodName) prog_20_method_26_code (2 : Nat) (Option.some Jvm.ClassFile.FieldType.int)) ∈ lw_all := lw_g (lw_at lw_m5 2 rfl) rfl
theorem q1023 : (Jvm.Cond.methodLink "LaneCymbalsModel" (128 : Nat) ({ cls := "LaneCymbalsModel", name := "readItems", desc := "(Z)I" } : Jvm.MethodName)) ∈ lw_all := lw_g (lw_at lw_m5 3 rfl) rfl
theorem q1024 : (Jvm.Cond.privateMethod ({ cls := "LaneCymbalsModel", name := "readItems", desc := "(Z)I" } : Jvm.MethodName)) ∈ lw_tbl := lw_at lw_m5 4 rfl
theorem q1025 : (Jvm.Cond.instanceMethod ({ cls := "LaneCymbalsModel", name := "readItems", desc := "(Z)I" } : Jvm.MethodName)) ∈ lw_all := lw_g (lw_at lw_m5 5 rfl) rfl
theorem q1026 : (Jvm.Cond.code ({ cls := "LaneCymbalsModel", name := "readItems", desc := "(Z)I" } : Jvm.MethodName) prog_20_method_25_code (4 : Nat) (Option.some Jvm.ClassFile.FieldType.int)) ∈ lw_all := lw_g (lw_at lw_m5 6 rfl) rfl
theorem q1027 : (Jvm.Cond.methodLink "LaneCymbalsModel" (91 : Nat) ({ cls := "LaneCymbalsModel", name := "next", desc := "()V" } : Jvm.MethodName)) ∈ lw_all := lw_g (lw_at lw_m5 7 rfl) rfl
theorem q1028 : (Jvm.Cond.privateMethod ({ cls := "LaneCymbalsModel", name := "next", desc := "()V" } : Jvm.MethodName)) ∈ lw_tbl := lw_at lw_m5 8 rfl
theorem q1029 : (Jvm.Cond.instanceMethod ({ cls := "LaneCymbalsModel", name := "next", desc := "()V" } : Jvm.MethodName)) ∈ lw_all := lw_g (lw_at lw_m5 9 rfl) rfl
theorem q1030 : (Jvm.Cond.code ({ cls := "LaneCymbalsModel", name := "next", desc := "()V" } : Jvm.MethodName) prog_20_method_17_code (1 : Nat) (Option.none : Option Jvm.ClassFile.FieldType)) ∈ lw_all := lw_g (lw_at lw_m5 10 rfl) rfl
theorem q1031 : (Jvm.Cond.methodLink "LaneCymbalsModel" (81 : Nat) ({ cls := "LaneCymbalsModel", name := "isLetter", desc := "(I)Z" } : Jvm.MethodName)) ∈ lw_all := lw_g (lw_at lw_m5 11 rfl) rfl
theorem q1032 : (Jvm.Cond.privateMethod ({ cls := "LaneCymbalsModel", name := "isLetter", desc := "(I)Z" } : Jvm.MethodName)) ∈ lw_tbl := lw_at lw_m5 12 rfl
theorem q1033 : (Jvm.Cond.instanceMethod ({ cls := "LaneCymbalsModel", name := "isLetter", desc := "(I)Z" } : Jvm.MethodName)) ∈ lw_all := lw_g (lw_at lw_m5 13 rfl) rfl
theorem q1034 : (Jvm.Cond.code ({ cls := "LaneCymbalsModel", name := "isLetter", desc := "(I)Z" } : Jvm.MethodName) prog_20_method_15_code (2 : Nat) (Option.some Jvm.ClassFile.FieldType.boolean)) ∈ lw_all := lw_g (lw_at lw_m5 14 rfl) rfl
theorem q1035 : (Jvm.Cond.methodLink "LaneCymbalsModel" (85 : Nat) ({ cls := "LaneCymbalsModel", name := "isFigure", desc := "(I)Z" } : Jvm.MethodName)) ∈ lw_all := lw_g (lw_at lw_m5 15 rfl) rfl
theorem q1036 : (Jvm.Cond.privateMethod ({ cls := "LaneCymbalsModel", name := "isFigure", desc := "(I)Z" } : Jvm.MethodName)) ∈ lw_tbl := lw_at lw_m5 16 rfl
theorem q1037 : (Jvm.Cond.instanceMethod ({ cls := "LaneCymbalsModel", name := "isFigure", desc := "(I)Z" } : Jvm.MethodName)) ∈ lw_all := lw_g (lw_at lw_m5 17 rfl) rfl
theorem q1038 : (Jvm.Cond.code ({ cls := "LaneCymbalsModel", name := "isFigure", desc := "(I)Z" } : Jvm.MethodName) prog_20_method_16_code (2 : Nat) (Option.some Jvm.ClassFile.FieldType.boolean)) ∈ lw_all := lw_g (lw_at lw_m5 18 rfl) rfl
theorem q1039 : (Jvm.Cond.methodLink "LaneCymbalsModel" (121 : Nat) ({ cls := "LaneCymbalsModel", name := "wordHere", desc := "()I" } : Jvm.MethodName)) ∈ lw_all := lw_g (lw_at lw_m5 19 rfl) rfl
theorem q1040 : (Jvm.Cond.privateMethod ({ cls := "LaneCymbalsModel", name := "wordHere", desc := "()I" } : Jvm.MethodName)) ∈ lw_tbl := lw_at lw_m5 20 rfl
theorem q1041 : (Jvm.Cond.instanceMethod ({ cls := "LaneCymbalsModel", name := "wordHere", desc := "()I" } : Jvm.MethodName)) ∈ lw_all := lw_g (lw_at lw_m5 21 rfl) rfl
theorem q1042 : (Jvm.Cond.code ({ cls := "LaneCymbalsModel", name := "wordHere", desc := "()I" } : Jvm.MethodName) prog_20_method_19_code (2 : Nat) (Option.some Jvm.ClassFile.FieldType.int)) ∈ lw_all := lw_g (lw_at lw_m5 22 rfl) rfl
theorem q1043 : (Jvm.Cond.methodLink "LaneCymbalsModel" (88 : Nat) ({ cls := "LaneCymbalsModel", name := "isWord", desc := "(I)Z" } : Jvm.MethodName)) ∈ lw_all := lw_g (lw_at lw_m5 23 rfl) rfl
theorem q1044 : (Jvm.Cond.privateMethod ({ cls := "LaneCymbalsModel", name := "isWord", desc := "(I)Z" } : Jvm.MethodName)) ∈ lw_tbl := lw_at lw_m5 24 rfl
theorem q1045 : (Jvm.Cond.instanceMethod ({ cls := "LaneCymbalsModel", name := "isWord", desc := "(I)Z" } : Jvm.MethodName)) ∈ lw_all := lw_g (lw_at lw_m5 25 rfl) rfl
theorem q1046 : (Jvm.Cond.code ({ cls := "LaneCymbalsModel", name := "isWord", desc := "(I)Z" } : Jvm.MethodName) prog_20_method_18_code (5 : Nat) (Option.some Jvm.ClassFile.FieldType.boolean)) ∈ lw_all := lw_g (lw_at lw_m5 26 rfl) rfl
theorem q1047 : (Jvm.Cond.methodLink "LaneCymbalsModel" (125 : Nat) ({ cls := "LaneCymbalsModel", name := "readsItem", desc := "(I)Z" } : Jvm.MethodName)) ∈ lw_all := lw_g (lw_at lw_m5 27 rfl) rfl
theorem q1048 : (Jvm.Cond.privateMethod ({ cls := "LaneCymbalsModel", name := "readsItem", desc := "(I)Z" } : Jvm.MethodName)) ∈ lw_tbl := lw_at lw_m5 28 rfl
theorem q1049 : (Jvm.Cond.instanceMethod ({ cls := "LaneCymbalsModel", name := "readsItem", desc := "(I)Z" } : Jvm.MethodName)) ∈ lw_all := lw_g (lw_at lw_m5 29 rfl) rfl
theorem q1050 : (Jvm.Cond.code ({ cls := "LaneCymbalsModel", name := "readsItem", desc := "(I)Z" } : Jvm.MethodName) prog_20_method_24_code (4 : Nat) (Option.some Jvm.ClassFile.FieldType.boolean)) ∈ lw_all := lw_g (lw_at lw_m5 30 rfl) rfl
theorem q1051 : (Jvm.Cond.methodLink "LaneCymbalsModel" (108 : Nat) ({ cls := "LaneCymbalsModel", name := "readsLane", desc := "()Z" } : Jvm.MethodName)) ∈ lw_all := lw_g (lw_at lw_m5 31 rfl) rfl
theorem q1052 : (Jvm.Cond.privateMethod ({ cls := "LaneCymbalsModel", name := "readsLane", desc := "()Z" } : Jvm.MethodName)) ∈ lw_tbl := lw_at lw_m5 32 rfl
theorem q1053 : (Jvm.Cond.instanceMethod ({ cls := "LaneCymbalsModel", name := "readsLane", desc := "()Z" } : Jvm.MethodName)) ∈ lw_all := lw_g (lw_at lw_m5 33 rfl) rfl
theorem q1054 : (Jvm.Cond.code ({ cls := "LaneCymbalsModel", name := "readsLane", desc := "()Z" } : Jvm.MethodName) prog_20_method_21_code (2 : Nat) (Option.some Jvm.ClassFile.FieldType.boolean)) ∈ lw_all := lw_g (lw_at lw_m5 34 rfl) rfl
theorem q1055 : (Jvm.Cond.methodLink "LaneCymbalsModel" (94 : Nat) ({ cls := "LaneCymbalsModel", name := "number", desc := "(II)I" } : Jvm.MethodName)) ∈ lw_all := lw_g (lw_at lw_m5 35 rfl) rfl
theorem q1056 : (Jvm.Cond.privateMethod ({ cls := "LaneCymbalsModel", name := "number", desc := "(II)I" } : Jvm.MethodName)) ∈ lw_tbl := lw_at lw_m5 36 rfl
theorem q1057 : (Jvm.Cond.instanceMethod ({ cls := "LaneCymbalsModel", name := "number", desc := "(II)I" } : Jvm.MethodName)) ∈ lw_all := lw_g (lw_at lw_m5 37 rfl) rfl
theorem q1058 : (Jvm.Cond.code ({ cls := "LaneCymbalsModel", name := "number", desc := "(II)I" } : Jvm.MethodName) prog_20_method_20_code (4 : Nat) (Option.some Jvm.ClassFile.FieldType.int)) ∈ lw_all := lw_g (lw_at lw_m5 38 rfl) rfl
theorem q1059 : (Jvm.Cond.methodLink "LaneCymbalsModel" (112 : Nat) ({ cls := "LaneCymbalsModel", name := "readsOne", desc := "()Z" } : Jvm.MethodName)) ∈ lw_all := lw_g (lw_at lw_m5 39 rfl) rfl
theorem q1060 : (Jvm.Cond.privateMethod ({ cls := "LaneCymbalsModel", name := "readsOne", desc := "()Z" } : Jvm.MethodName)) ∈ lw_tbl := lw_at lw_m5 40 rfl
theorem q1061 : (Jvm.Cond.instanceMethod ({ cls := "LaneCymbalsModel", name := "readsOne", desc := "()Z" } : Jvm.MethodName)) ∈ lw_all := lw_g (lw_at lw_m5 41 rfl) rfl
theorem q1062 : (Jvm.Cond.code ({ cls := "LaneCymbalsModel", name := "readsOne", desc := "()Z" } : Jvm.MethodName) prog_20_method_22_code (4 : Nat) (Option.some Jvm.ClassFile.FieldType.boolean)) ∈ lw_all := lw_g (lw_at lw_m5 42 rfl) rfl
theorem q1063 : (Jvm.Cond.methodLink "LaneCymbalsModel" (115 : Nat) ({ cls := "LaneCymbalsModel", name := "readsAunt", desc := "()Z" } : Jvm.MethodName)) ∈ lw_all := lw_g (lw_at lw_m5 43 rfl) rfl
theorem q1064 : (Jvm.Cond.privateMethod ({ cls := "LaneCymbalsModel", name := "readsAunt", desc := "()Z" } : Jvm.MethodName)) ∈ lw_tbl := lw_at lw_m5 44 rfl
theorem q1065 : (Jvm.Cond.instanceMethod ({ cls := "LaneCymbalsModel", name := "readsAunt", desc := "()Z" } : Jvm.MethodName)) ∈ lw_all := lw_g (lw_at lw_m5 45 rfl) rfl
theorem q1066 : (Jvm.Cond.code ({ cls := "LaneCymbalsModel", name := "readsAunt", desc := "()Z" } : Jvm.MethodName) prog_20_method_23_code (3 : Nat) (Option.some Jvm.ClassFile.FieldType.boolean)) ∈ lw_all := lw_g (lw_at lw_m5 46 rfl) rfl
theorem q1067 : (Jvm.Cond.methodLink "LaneCymbalsModel" (118 : Nat) ({ cls := "LaneCymbalsModel", name := "goBy", desc := "(II)V" } : Jvm.MethodName)) ∈ lw_all := lw_g (lw_at lw_m5 47 rfl) rfl
theorem q1068 : (Jvm.Cond.privateMethod ({ cls := "LaneCymbalsModel", name := "goBy", desc := "(II)V" } : Jvm.MethodName)) ∈ lw_tbl := lw_at lw_m5 48 rfl
theorem q1069 : (Jvm.Cond.instanceMethod ({ cls := "LaneCymbalsModel", name := "goBy", desc := "(II)V" } : Jvm.MethodName)) ∈ lw_all := lw_g (lw_at lw_m5 49 rfl) rfl
theorem q1070 : (Jvm.Cond.code ({ cls := "LaneCymbalsModel", name := "goBy", desc := "(II)V" } : Jvm.MethodName) prog_20_method_33_code (5 : Nat) (Option.none : Option Jvm.ClassFile.FieldType)) ∈ lw_all := lw_g (lw_at lw_m5 50 rfl) rfl
theorem q1071 : (Jvm.Cond.methodLink "LaneCymbalsModel" (153 : Nat) ({ cls := "LaneCymbalsModel", name := "soundAt", desc := "(II)I" } : Jvm.MethodName)) ∈ lw_all := lw_g (lw_at lw_m5 51 rfl) rfl
theorem q1072 : (Jvm.Cond.privateMethod ({ cls := "LaneCymbalsModel", name := "soundAt", desc := "(II)I" } : Jvm.MethodName)) ∈ lw_tbl := lw_at lw_m5 52 rfl
theorem q1073 : (Jvm.Cond.instanceMethod ({ cls := "LaneCymbalsModel", name := "soundAt", desc := "(II)I" } : Jvm.MethodName)) ∈ lw_all := lw_g (lw_at lw_m5 53 rfl) rfl
theorem q1074 : (Jvm.Cond.code ({ cls := "LaneCymbalsModel", name := "soundAt", desc := "(II)I" } : Jvm.MethodName) prog_20_method_32_code (3 : Nat) (Option.some Jvm.ClassFile.FieldType.int)) ∈ lw_all := lw_g (lw_at lw_m5 54 rfl) rfl
theorem q1075 : (Jvm.Cond.methodLink "LaneCymbalsModel" (149 : Nat) ({ cls := "LaneCymbalsModel", name := "soundBy", desc := "(IIII)I" } : Jvm.MethodName)) ∈ lw_all := lw_g (lw_at lw_m5 55 rfl) rfl
theorem q1076 : (Jvm.Cond.privateMethod ({ cls := "LaneCymbalsModel", name := "soundBy", desc := "(IIII)I" } : Jvm.MethodName)) ∈ lw_tbl := lw_at lw_m5 56 rfl
theorem q1077 : (Jvm.Cond.instanceMethod ({ cls := "LaneCymbalsModel", name := "soundBy", desc := "(IIII)I" } : Jvm.MethodName)) ∈ lw_all := lw_g (lw_at lw_m5 57 rfl) rfl
theorem q1078 : (Jvm.Cond.code ({ cls := "LaneCymbalsModel", name := "soundBy", desc := "(IIII)I" } : Jvm.MethodName) prog_20_method_31_code (11 : Nat) (Option.some Jvm.ClassFile.FieldType.int)) ∈ lw_all := lw_g (lw_at lw_m5 58 rfl) rfl
theorem q1079 : (Jvm.Cond.methodLink "LaneCymbalsModel" (146 : Nat) ({ cls := "LaneCymbalsModel", name := "leaning", desc := "(III)I" } : Jvm.MethodName)) ∈ lw_all := lw_g (lw_at lw_m5 59 rfl) rfl
theorem q1080 : (Jvm.Cond.privateMethod ({ cls := "LaneCymbalsModel", name := "leaning", desc := "(III)I" } : Jvm.MethodName)) ∈ lw_tbl := lw_at lw_m5 60 rfl
theorem q1081 : (Jvm.Cond.instanceMethod ({ cls := "LaneCymbalsModel", name := "leaning", desc := "(III)I" } : Jvm.MethodName)) ∈ lw_all := lw_g (lw_at lw_m5 61 rfl) rfl
theorem q1082 : (Jvm.Cond.code ({ cls := "LaneCymbalsModel", name := "leaning", desc := "(III)I" } : Jvm.MethodName) prog_20_method_30_code (6 : Nat) (Option.some Jvm.ClassFile.FieldType.int)) ∈ lw_all := lw_g (lw_at lw_m5 62 rfl) rfl
theorem q1083 : (Jvm.Cond.methodLink "LaneCymbalsModel" (135 : Nat) ({ cls := "LaneCymbalsModel", name := "leansBy", desc := "(III)I" } : Jvm.MethodName)) ∈ lw_all := lw_g (lw_at lw_m5 63 rfl) rfl
theorem q1084 : (Jvm.Cond.static ({ cls := "LaneCymbalsModel", name := "leansBy", desc := "(III)I" } : Jvm.MethodName)) ∈ lw_all := lw_g (lw_at lw_m5 64 rfl) rfl
theorem q1085 : (Jvm.Cond.code ({ cls := "LaneCymbalsModel", name := "leansBy", desc := "(III)I" } : Jvm.MethodName) prog_20_method_27_code (5 : Nat) (Option.some Jvm.ClassFile.FieldType.int)) ∈ lw_all := lw_g (lw_at lw_m5 65 rfl) rfl
theorem q1086 : (Jvm.Cond.methodLink "LaneCymbalsModel" (139 : Nat) ({ cls := "LaneCymbalsModel", name := "has", desc := "(II)Z" } : Jvm.MethodName)) ∈ lw_all := lw_g (lw_at lw_m5 66 rfl) rfl
theorem q1087 : (Jvm.Cond.static ({ cls := "LaneCymbalsModel", name := "has", desc := "(II)Z" } : Jvm.MethodName)) ∈ lw_all := lw_g (lw_at lw_m5 67 rfl) rfl
theorem q1088 : (Jvm.Cond.code ({ cls := "LaneCymbalsModel", name := "has", desc := "(II)Z" } : Jvm.MethodName) prog_20_method_3_code (2 : Nat) (Option.some Jvm.ClassFile.FieldType.boolean)) ∈ lw_all := lw_g (lw_at lw_m5 68 rfl) rfl
theorem q1089 : (Jvm.Cond.methodLink "LaneCymbalsModel" (143 : Nat) ({ cls := "LaneCymbalsModel", name := "dampedBy", desc := "(III)I" } : Jvm.MethodName)) ∈ lw_all := lw_g (lw_at lw_m5 69 rfl) rfl
theorem q1090 : (Jvm.Cond.static ({ cls := "LaneCymbalsModel", name := "dampedBy", desc := "(III)I" } : Jvm.MethodName)) ∈ lw_all := lw_g (lw_at lw_m5 70 rfl) rfl
theorem q1091 : (Jvm.Cond.code ({ cls := "LaneCymbalsModel", name := "dampedBy", desc := "(III)I" } : Jvm.MethodName) prog_20_method_29_code (3 : Nat) (Option.some Jvm.ClassFile.FieldType.int)) ∈ lw_all := lw_g (lw_at lw_m5 71 rfl) rfl
theorem q1092 : (Jvm.Cond.methodLink "LaneCymbalsModel" (132 : Nat) ({ cls := "LaneCymbalsModel", name := "dampedPlain", desc := "(I)I" } : Jvm.MethodName)) ∈ lw_all := lw_g (lw_at lw_m5 72 rfl) rfl
theorem q1093 : (Jvm.Cond.static ({ cls := "LaneCymbalsModel", name := "dampedPlain", desc := "(I)I" } : Jvm.MethodName)) ∈ lw_all := lw_g (lw_at lw_m5 73 rfl) rfl
theorem q1094 : (Jvm.Cond.code ({ cls := "LaneCymbalsModel", name := "dampedPlain", desc := "(I)I" } : Jvm.MethodName) prog_20_method_28_code (1 : Nat) (Option.some Jvm.ClassFile.FieldType.int)) ∈ lw_all := lw_g (lw_at lw_m5 74 rfl) rfl
theorem q1096 : (Jvm.Cond.instanceMethod ({ cls := "LaneCymbalsModel", name := "counts", desc := "(I)I" } : Jvm.MethodName)) ∈ lw_all := lw_g (lw_at lw_m5 76 rfl) rfl
theorem q1097 : (Jvm.Cond.selects "LaneCymbalsModel" ({ cls := "LaneCymbalsModel", name := "counts", desc := "(I)I" } : Jvm.MethodName) ({ cls := "LaneCymbalsModel", name := "counts", desc := "(I)I" } : Jvm.MethodName)) ∈ lw_all := lw_g (lw_at lw_m5 77 rfl) rfl
theorem q1098 : (Jvm.Cond.code ({ cls := "LaneCymbalsModel", name := "counts", desc := "(I)I" } : Jvm.MethodName) prog_20_method_37_code (2 : Nat) (Option.some Jvm.ClassFile.FieldType.int)) ∈ lw_all := lw_g (lw_at lw_m5 78 rfl) rfl
theorem q1099 : (Jvm.Cond.methodLink "LaneCymbalsModel" (156 : Nat) ({ cls := "LaneCymbalsModel", name := "keepPast", desc := "()V" } : Jvm.MethodName)) ∈ lw_all := lw_g (lw_at lw_m5 79 rfl) rfl
theorem q1100 : (Jvm.Cond.privateMethod ({ cls := "LaneCymbalsModel", name := "keepPast", desc := "()V" } : Jvm.MethodName)) ∈ lw_tbl := lw_at lw_m5 80 rfl
theorem q1101 : (Jvm.Cond.instanceMethod ({ cls := "LaneCymbalsModel", name := "keepPast", desc := "()V" } : Jvm.MethodName)) ∈ lw_all := lw_g (lw_at lw_m5 81 rfl) rfl
theorem q1102 : (Jvm.Cond.code ({ cls := "LaneCymbalsModel", name := "keepPast", desc := "()V" } : Jvm.MethodName) prog_20_method_34_code (2 : Nat) (Option.none : Option Jvm.ClassFile.FieldType)) ∈ lw_all := lw_g (lw_at lw_m5 82 rfl) rfl
theorem q1104 : (Jvm.Cond.instanceMethod ({ cls := "LaneCymbalsModel", name := "swings", desc := "(II)I" } : Jvm.MethodName)) ∈ lw_all := lw_g (lw_at lw_m5 84 rfl) rfl
theorem q1105 : (Jvm.Cond.selects "LaneCymbalsModel" ({ cls := "LaneCymbalsModel", name := "swings", desc := "(II)I" } : Jvm.MethodName) ({ cls := "LaneCymbalsModel", name := "swings", desc := "(II)I" } : Jvm.MethodName)) ∈ lw_all := lw_g (lw_at lw_m5 85 rfl) rfl
theorem q1106 : (Jvm.Cond.code ({ cls := "LaneCymbalsModel", name := "swings", desc := "(II)I" } : Jvm.MethodName) prog_20_method_38_code (4 : Nat) (Option.some Jvm.ClassFile.FieldType.int)) ∈ lw_all := lw_g (lw_at lw_m5 86 rfl) rfl
theorem q1107 : (Jvm.Cond.methodLink "LaneCymbalsModel" (159 : Nat) ({ cls := "LaneCymbalsModel", name := "isOne", desc := "(I)Z" } : Jvm.MethodName)) ∈ lw_all := lw_g (lw_at lw_m5 87 rfl) rfl
theorem q1108 : (Jvm.Cond.privateMethod ({ cls := "LaneCymbalsModel", name := "isOne", desc := "(I)Z" } : Jvm.MethodName)) ∈ lw_tbl := lw_at lw_m5 88 rfl
theorem q1109 : (Jvm.Cond.instanceMethod ({ cls := "LaneCymbalsModel", name := "isOne", desc := "(I)Z" } : Jvm.MethodName)) ∈ lw_all := lw_g (lw_at lw_m5 89 rfl) rfl
theorem q1110 : (Jvm.Cond.code ({ cls := "LaneCymbalsModel", name := "isOne", desc := "(I)Z" } : Jvm.MethodName) prog_20_method_35_code (2 : Nat) (Option.some Jvm.ClassFile.FieldType.boolean)) ∈ lw_all := lw_g (lw_at lw_m5 90 rfl) rfl
theorem q1112 : (Jvm.Cond.instanceMethod ({ cls := "LaneCymbalsModel", name := "sends", desc := "(II)I" } : Jvm.MethodName)) ∈ lw_all := lw_g (lw_at lw_m5 92 rfl) rfl
theorem q1113 : (Jvm.Cond.selects "LaneCymbalsModel" ({ cls := "LaneCymbalsModel", name := "sends", desc := "(II)I" } : Jvm.MethodName) ({ cls := "LaneCymbalsModel", name := "sends", desc := "(II)I" } : Jvm.MethodName)) ∈ lw_all := lw_g (lw_at lw_m5 93 rfl) rfl
theorem q1114 : (Jvm.Cond.code ({ cls := "LaneCymbalsModel", name := "sends", desc := "(II)I" } : Jvm.MethodName) prog_20_method_39_code (4 : Nat) (Option.some Jvm.ClassFile.FieldType.int)) ∈ lw_all := lw_g (lw_at lw_m5 94 rfl) rfl
theorem q1115 : (Jvm.Cond.methodLink "LaneCymbalsModel" (162 : Nat) ({ cls := "LaneCymbalsModel", name := "isAunt", desc := "(I)Z" } : Jvm.MethodName)) ∈ lw_all := lw_g (lw_at lw_m5 95 rfl) rfl
theorem q1116 : (Jvm.Cond.privateMethod ({ cls := "LaneCymbalsModel", name := "isAunt", desc := "(I)Z" } : Jvm.MethodName)) ∈ lw_tbl := lw_at lw_m5 96 rfl
theorem q1117 : (Jvm.Cond.instanceMethod ({ cls := "LaneCymbalsModel", name := "isAunt", desc := "(I)Z" } : Jvm.MethodName)) ∈ lw_all := lw_g (lw_at lw_m5 97 rfl) rfl
theorem q1118 : (Jvm.Cond.code ({ cls := "LaneCymbalsModel", name := "isAunt", desc := "(I)Z" } : Jvm.MethodName) prog_20_method_36_code (2 : Nat) (Option.some Jvm.ClassFile.FieldType.boolean)) ∈ lw_all := lw_g (lw_at lw_m5 98 rfl) rfl
theorem q1120 : (Jvm.Cond.instanceMethod ({ cls := "LaneCymbalsModel", name := "undo", desc := "()I" } : Jvm.MethodName)) ∈ lw_all := lw_g (lw_at lw_m5 100 rfl) rfl
theorem q1121 : (Jvm.Cond.selects "LaneCymbalsModel" ({ cls := "LaneCymbalsModel", name := "undo", desc := "()I" } : Jvm.MethodName) ({ cls := "LaneCymbalsModel", name := "undo", desc := "()I" } : Jvm.MethodName)) ∈ lw_all := lw_g (lw_at lw_m5 101 rfl) rfl
theorem q1122 : (Jvm.Cond.code ({ cls := "LaneCymbalsModel", name := "undo", desc := "()I" } : Jvm.MethodName) prog_20_method_40_code (2 : Nat) (Option.some Jvm.ClassFile.FieldType.int)) ∈ lw_all := lw_g (lw_at lw_m5 102 rfl) rfl
theorem q1124 : (Jvm.Cond.instanceMethod ({ cls := "LaneCymbalsModel", name := "of", desc := "(II)I" } : Jvm.MethodName)) ∈ lw_all := lw_g (lw_at lw_m5 104 rfl) rfl
theorem q1125 : (Jvm.Cond.selects "LaneCymbalsModel" ({ cls := "LaneCymbalsModel", name := "of", desc := "(II)I" } : Jvm.MethodName) ({ cls := "LaneCymbalsModel", name := "of", desc := "(II)I" } : Jvm.MethodName)) ∈ lw_all := lw_g (lw_at lw_m5 105 rfl) rfl
theorem q1126 : (Jvm.Cond.code ({ cls := "LaneCymbalsModel", name := "of", desc := "(II)I" } : Jvm.MethodName) prog_20_method_41_code (3 : Nat) (Option.some Jvm.ClassFile.FieldType.int)) ∈ lw_all := lw_g (lw_at lw_m5 106 rfl) rfl
theorem q1128 : (Jvm.Cond.instanceMethod ({ cls := "LaneCymbalsModel", name := "about", desc := "(II)I" } : Jvm.MethodName)) ∈ lw_all := lw_g (lw_at lw_m5 108 rfl) rfl
theorem q1129 : (Jvm.Cond.selects "LaneCymbalsModel" ({ cls := "LaneCymbalsModel", name := "about", desc := "(II)I" } : Jvm.MethodName) ({ cls := "LaneCymbalsModel", name := "about", desc := "(II)I" } : Jvm.MethodName)) ∈ lw_all := lw_g (lw_at lw_m5 109 rfl) rfl
theorem q1130 : (Jvm.Cond.code ({ cls := "LaneCymbalsModel", name := "about", desc := "(II)I" } : Jvm.MethodName) prog_20_method_42_code (3 : Nat) (Option.some Jvm.ClassFile.FieldType.int)) ∈ lw_all := lw_g (lw_at lw_m5 110 rfl) rfl
theorem q1132 : (Jvm.Cond.instanceMethod ({ cls := "LaneCymbalsModel", name := "leans", desc := "(III)I" } : Jvm.MethodName)) ∈ lw_all := lw_g (lw_at lw_m5 112 rfl) rfl
theorem q1133 : (Jvm.Cond.selects "LaneCymbalsModel" ({ cls := "LaneCymbalsModel", name := "leans", desc := "(III)I" } : Jvm.MethodName) ({ cls := "LaneCymbalsModel", name := "leans", desc := "(III)I" } : Jvm.MethodName)) ∈ lw_all := lw_g (lw_at lw_m5 113 rfl) rfl
theorem q1134 : (Jvm.Cond.code ({ cls := "LaneCymbalsModel", name := "leans", desc := "(III)I" } : Jvm.MethodName) prog_20_method_44_code (4 : Nat) (Option.some Jvm.ClassFile.FieldType.int)) ∈ lw_all := lw_g (lw_at lw_m5 114 rfl) rfl
theorem q1135 : (Jvm.Cond.methodLink "LaneCymbalsModel" (165 : Nat) ({ cls := "LaneCymbalsModel", name := "badAs", desc := "(I)I" } : Jvm.MethodName)) ∈ lw_all := lw_g (lw_at lw_m5 115 rfl) rfl
theorem q1136 : (Jvm.Cond.privateMethod ({ cls := "LaneCymbalsModel", name := "badAs", desc := "(I)I" } : Jvm.MethodName)) ∈ lw_tbl := lw_at lw_m5 116 rfl
theorem q1137 : (Jvm.Cond.instanceMethod ({ cls := "LaneCymbalsModel", name := "badAs", desc := "(I)I" } : Jvm.MethodName)) ∈ lw_all := lw_g (lw_at lw_m5 117 rfl) rfl
theorem q1138 : (Jvm.Cond.code ({ cls := "LaneCymbalsModel", name := "badAs", desc := "(I)I" } : Jvm.MethodName) prog_20_method_43_code (2 : Nat) (Option.some Jvm.ClassFile.FieldType.int)) ∈ lw_all := lw_g (lw_at lw_m5 118 rfl) rfl
theorem q1140 : (Jvm.Cond.instanceMethod ({ cls := "LaneCymbalsModel", name := "sound", desc := "(I)I" } : Jvm.MethodName)) ∈ lw_all := lw_g (lw_at lw_m5 120 rfl) rfl
theorem q1141 : (Jvm.Cond.selects "LaneCymbalsModel" ({ cls := "LaneCymbalsModel", name := "sound", desc := "(I)I" } : Jvm.MethodName) ({ cls := "LaneCymbalsModel", name := "sound", desc := "(I)I" } : Jvm.MethodName)) ∈ lw_all := lw_g (lw_at lw_m5 121 rfl) rfl
theorem q1142 : (Jvm.Cond.code ({ cls := "LaneCymbalsModel", name := "sound", desc := "(I)I" } : Jvm.MethodName) prog_20_method_45_code (2 : Nat) (Option.some Jvm.ClassFile.FieldType.int)) ∈ lw_all := lw_g (lw_at lw_m5 122 rfl) rfl
theorem q1144 : (Jvm.Cond.instanceMethod ({ cls := "LaneCymbalsModel", name := "entry", desc := "()I" } : Jvm.MethodName)) ∈ lw_all := lw_g (lw_at lw_m5 124 rfl) rfl
theorem q1145 : (Jvm.Cond.selects "LaneCymbalsModel" ({ cls := "LaneCymbalsModel", name := "entry", desc := "()I" } : Jvm.MethodName) ({ cls := "LaneCymbalsModel", name := "entry", desc := "()I" } : Jvm.MethodName)) ∈ lw_all := lw_g (lw_at lw_m5 125 rfl) rfl
theorem q1146 : (Jvm.Cond.code ({ cls := "LaneCymbalsModel", name := "entry", desc := "()I" } : Jvm.MethodName) prog_20_method_46_code (2 : Nat) (Option.some Jvm.ClassFile.FieldType.int)) ∈ lw_all := lw_g (lw_at lw_m5 126 rfl) rfl
theorem q1148 : (Jvm.Cond.instanceMethod ({ cls := "LaneCymbalsModel", name := "then", desc := "(I)I" } : Jvm.MethodName)) ∈ lw_all := lw_g (lw_at lw_m5 128 rfl) rfl
theorem q1149 : (Jvm.Cond.selects "LaneCymbalsModel" ({ cls := "LaneCymbalsModel", name := "then", desc := "(I)I" } : Jvm.MethodName) ({ cls := "LaneCymbalsModel", name := "then", desc := "(I)I" } : Jvm.MethodName)) ∈ lw_all := lw_g (lw_at lw_m5 129 rfl) rfl
theorem q1150 : (Jvm.Cond.code ({ cls := "LaneCymbalsModel", name := "then", desc := "(I)I" } : Jvm.MethodName) prog_20_method_48_code (2 : Nat) (Option.some Jvm.ClassFile.FieldType.int)) ∈ lw_all := lw_g (lw_at lw_m5 130 rfl) rfl
theorem q1151 : (Jvm.Cond.methodLink "LaneCymbalsModel" (168 : Nat) ({ cls := "LaneCymbalsModel", name := "layTried", desc := "()V" } : Jvm.MethodName)) ∈ lw_all := lw_g (lw_at lw_m5 131 rfl) rfl
theorem q1152 : (Jvm.Cond.privateMethod ({ cls := "LaneCymbalsModel", name := "layTried", desc := "()V" } : Jvm.MethodName)) ∈ lw_tbl := lw_at lw_m5 132 rfl
theorem q1153 : (Jvm.Cond.instanceMethod ({ cls := "LaneCymbalsModel", name := "layTried", desc := "()V" } : Jvm.MethodName)) ∈ lw_all := lw_g (lw_at lw_m5 133 rfl) rfl
theorem q1154 : (Jvm.Cond.code ({ cls := "LaneCymbalsModel", name := "layTried", desc := "()V" } : Jvm.MethodName) prog_20_method_47_code (2 : Nat) (Option.none : Option Jvm.ClassFile.FieldType)) ∈ lw_all := lw_g (lw_at lw_m5 134 rfl) rfl
theorem q1156 : (Jvm.Cond.instanceMethod ({ cls := "LaneCymbalsModel", name := "still", desc := "(I)I" } : Jvm.MethodName)) ∈ lw_all := lw_g (lw_at lw_m5 136 rfl) rfl
theorem q1157 : (Jvm.Cond.selects "LaneCymbalsModel" ({ cls := "LaneCymbalsModel", name := "still", desc := "(I)I" } : Jvm.MethodName) ({ cls := "LaneCymbalsModel", name := "still", desc := "(I)I" } : Jvm.MethodName)) ∈ lw_all := lw_g (lw_at lw_m5 137 rfl) rfl
theorem q1158 : (Jvm.Cond.code ({ cls := "LaneCymbalsModel", name := "still", desc := "(I)I" } : Jvm.MethodName) prog_20_method_50_code (5 : Nat) (Option.some Jvm.ClassFile.FieldType.int)) ∈ lw_all := lw_g (lw_at lw_m5 138 rfl) rfl
theorem q1159 : (Jvm.Cond.methodLink "LaneCymbalsModel" (171 : Nat) ({ cls := "LaneCymbalsModel", name := "bits", desc := "(I)I" } : Jvm.MethodName)) ∈ lw_all := lw_g (lw_at lw_m5 139 rfl) rfl
theorem q1160 : (Jvm.Cond.static ({ cls := "LaneCymbalsModel", name := "bits", desc := "(I)I" } : Jvm.MethodName)) ∈ lw_all := lw_g (lw_at lw_m5 140 rfl) rfl
theorem q1161 : (Jvm.Cond.code ({ cls := "LaneCymbalsModel", name := "bits", desc := "(I)I" } : Jvm.MethodName) prog_20_method_4_code (3 : Nat) (Option.some Jvm.ClassFile.FieldType.int)) ∈ lw_all := lw_g (lw_at lw_m5 141 rfl) rfl
theorem q1162 : (Jvm.Cond.methodLink "LaneCymbalsModel" (174 : Nat) ({ cls := "LaneCymbalsModel", name := "isStill", desc := "(I)Z" } : Jvm.MethodName)) ∈ lw_all := lw_g (lw_at lw_m5 142 rfl) rfl
theorem q1163 : (Jvm.Cond.privateMethod ({ cls := "LaneCymbalsModel", name := "isStill", desc := "(I)Z" } : Jvm.MethodName)) ∈ lw_tbl := lw_at lw_m5 143 rfl
theorem q1164 : (Jvm.Cond.instanceMethod ({ cls := "LaneCymbalsModel", name := "isStill", desc := "(I)Z" } : Jvm.MethodName)) ∈ lw_all := lw_g (lw_at lw_m5 144 rfl) rfl
theorem q1165 : (Jvm.Cond.code ({ cls := "LaneCymbalsModel", name := "isStill", desc := "(I)Z" } : Jvm.MethodName) prog_20_method_49_code (4 : Nat) (Option.some Jvm.ClassFile.FieldType.boolean)) ∈ lw_all := lw_g (lw_at lw_m5 145 rfl) rfl
theorem q1167 : (Jvm.Cond.instanceMethod ({ cls := "LaneCymbalsModel", name := "push", desc := "(II)I" } : Jvm.MethodName)) ∈ lw_all := lw_g (lw_at lw_m5 147 rfl) rfl
theorem q1168 : (Jvm.Cond.selects "LaneCymbalsModel" ({ cls := "LaneCymbalsModel", name := "push", desc := "(II)I" } : Jvm.MethodName) ({ cls := "LaneCymbalsModel", name := "push", desc := "(II)I" } : Jvm.MethodName)) ∈ lw_all := lw_g (lw_at lw_m5 148 rfl) rfl
theorem q1169 : (Jvm.Cond.code ({ cls := "LaneCymbalsModel", name := "push", desc := "(II)I" } : Jvm.MethodName) prog_20_method_51_code (4 : Nat) (Option.some Jvm.ClassFile.FieldType.int)) ∈ lw_all := lw_g (lw_at lw_m5 149 rfl) rfl
theorem q1171 : (Jvm.Cond.instanceMethod ({ cls := "LaneCymbalsModel", name := "widest", desc := "()I" } : Jvm.MethodName)) ∈ lw_all := lw_g (lw_at lw_m5 151 rfl) rfl
theorem q1172 : (Jvm.Cond.selects "LaneCymbalsModel" ({ cls := "LaneCymbalsModel", name := "widest", desc := "()I" } : Jvm.MethodName) ({ cls := "LaneCymbalsModel", name := "widest", desc := "()I" } : Jvm.MethodName)) ∈ lw_all := lw_g (lw_at lw_m5 152 rfl) rfl
theorem q1173 : (Jvm.Cond.code ({ cls := "LaneCymbalsModel", name := "widest", desc := "()I" } : Jvm.MethodName) prog_20_method_52_code (3 : Nat) (Option.some Jvm.ClassFile.FieldType.int)) ∈ lw_all := lw_g (lw_at lw_m5 153 rfl) rfl
theorem q1175 : (Jvm.Cond.instanceMethod ({ cls := "LaneCymbalsModel", name := "wrong", desc := "(I)I" } : Jvm.MethodName)) ∈ lw_all := lw_g (lw_at lw_m5 155 rfl) rfl
theorem q1176 : (Jvm.Cond.selects "LaneCymbalsModel" ({ cls := "LaneCymbalsModel", name := "wrong", desc := "(I)I" } : Jvm.MethodName) ({ cls := "LaneCymbalsModel", name := "wrong", desc := "(I)I" } : Jvm.MethodName)) ∈ lw_all := lw_g (lw_at lw_m5 156 rfl) rfl
theorem q1177 : (Jvm.Cond.code ({ cls := "LaneCymbalsModel", name := "wrong", desc := "(I)I" } : Jvm.MethodName) prog_20_method_53_code (5 : Nat) (Option.some Jvm.ClassFile.FieldType.int)) ∈ lw_all := lw_g (lw_at lw_m5 157 rfl) rfl
theorem q1179 : (Jvm.Cond.instanceMethod ({ cls := "LaneCymbalsModel", name := "marry", desc := "(I)I" } : Jvm.MethodName)) ∈ lw_all := lw_g (lw_at lw_m5 159 rfl) rfl
theorem q1180 : (Jvm.Cond.selects "LaneCymbalsModel" ({ cls := "LaneCymbalsModel", name := "marry", desc := "(I)I" } : Jvm.MethodName) ({ cls := "LaneCymbalsModel", name := "marry", desc := "(I)I" } : Jvm.MethodName)) ∈ lw_all := lw_g (lw_at lw_m5 160 rfl) rfl
theorem q1181 : (Jvm.Cond.code ({ cls := "LaneCymbalsModel", name := "marry", desc := "(I)I" } : Jvm.MethodName) prog_20_method_58_code (3 : Nat) (Option.some Jvm.ClassFile.FieldType.int)) ∈ lw_all := lw_g (lw_at lw_m5 161 rfl) rfl
theorem q1182 : (Jvm.Cond.methodLink "LaneCymbalsModel" (192 : Nat) ({ cls := "LaneCymbalsModel", name := "mostPairs", desc := "()I" } : Jvm.MethodName)) ∈ lw_all := lw_g (lw_at lw_m5 162 rfl) rfl
theorem q1183 : (Jvm.Cond.privateMethod ({ cls := "LaneCymbalsModel", name := "mostPairs", desc := "()I" } : Jvm.MethodName)) ∈ lw_tbl := lw_at lw_m5 163 rfl
theorem q1184 : (Jvm.Cond.instanceMethod ({ cls := "LaneCymbalsModel", name := "mostPairs", desc := "()I" } : Jvm.MethodName)) ∈ lw_all := lw_g (lw_at lw_m5 164 rfl) rfl
theorem q1185 : (Jvm.Cond.code ({ cls := "LaneCymbalsModel", name := "mostPairs", desc := "()I" } : Jvm.MethodName) prog_20_method_57_code (6 : Nat) (Option.some Jvm.ClassFile.FieldType.int)) ∈ lw_all := lw_g (lw_at lw_m5 165 rfl) rfl
theorem q1186 : (Jvm.Cond.methodLink "LaneCymbalsModel" (186 : Nat) ({ cls := "LaneCymbalsModel", name := "laySides", desc := "()V" } : Jvm.MethodName)) ∈ lw_all := lw_g (lw_at lw_m5 166 rfl) rfl
theorem q1187 : (Jvm.Cond.privateMethod ({ cls := "LaneCymbalsModel", name := "laySides", desc := "()V" } : Jvm.MethodName)) ∈ lw_tbl := lw_at lw_m5 167 rfl
theorem q1188 : (Jvm.Cond.instanceMethod ({ cls := "LaneCymbalsModel", name := "laySides", desc := "()V" } : Jvm.MethodName)) ∈ lw_all := lw_g (lw_at lw_m5 168 rfl) rfl
theorem q1189 : (Jvm.Cond.code ({ cls := "LaneCymbalsModel", name := "laySides", desc := "()V" } : Jvm.MethodName) prog_20_method_55_code (2 : Nat) (Option.none : Option Jvm.ClassFile.FieldType)) ∈ lw_all := lw_g (lw_at lw_m5 169 rfl) rfl
theorem q1190 : (Jvm.Cond.methodLink "LaneCymbalsModel" (189 : Nat) ({ cls := "LaneCymbalsModel", name := "pairsBy", desc := "(I)I" } : Jvm.MethodName)) ∈ lw_all := lw_g (lw_at lw_m5 170 rfl) rfl
theorem q1191 : (Jvm.Cond.privateMethod ({ cls := "LaneCymbalsModel", name := "pairsBy", desc := "(I)I" } : Jvm.MethodName)) ∈ lw_tbl := lw_at lw_m5 171 rfl
theorem q1192 : (Jvm.Cond.instanceMethod ({ cls := "LaneCymbalsModel", name := "pairsBy", desc := "(I)I" } : Jvm.MethodName)) ∈ lw_all := lw_g (lw_at lw_m5 172 rfl) rfl
theorem q1193 : (Jvm.Cond.code ({ cls := "LaneCymbalsModel", name := "pairsBy", desc := "(I)I" } : Jvm.MethodName) prog_20_method_56_code (9 : Nat) (Option.some Jvm.ClassFile.FieldType.int)) ∈ lw_all := lw_g (lw_at lw_m5 173 rfl) rfl
theorem q1194 : (Jvm.Cond.methodLink "LaneCymbalsModel" (183 : Nat) ({ cls := "LaneCymbalsModel", name := "areAlike", desc := "(II)Z" } : Jvm.MethodName)) ∈ lw_all := lw_g (lw_at lw_m5 174 rfl) rfl
theorem q1195 : (Jvm.Cond.privateMethod ({ cls := "LaneCymbalsModel", name := "areAlike", desc := "(II)Z" } : Jvm.MethodName)) ∈ lw_tbl := lw_at lw_m5 175 rfl
theorem q1196 : (Jvm.Cond.instanceMethod ({ cls := "LaneCymbalsModel", name := "areAlike", desc := "(II)Z" } : Jvm.MethodName)) ∈ lw_all := lw_g (lw_at lw_m5 176 rfl) rfl
theorem q1197 : (Jvm.Cond.code ({ cls := "LaneCymbalsModel", name := "areAlike", desc := "(II)Z" } : Jvm.MethodName) prog_20_method_54_code (6 : Nat) (Option.some Jvm.ClassFile.FieldType.boolean)) ∈ lw_all := lw_g (lw_at lw_m5 177 rfl) rfl
theorem q1199 : (Jvm.Cond.instanceMethod ({ cls := "LaneCymbalsModel", name := "heard", desc := "(II)I" } : Jvm.MethodName)) ∈ lw_all := lw_g (lw_at lw_m5 179 rfl) rfl
theorem q1200 : (Jvm.Cond.selects "LaneCymbalsModel" ({ cls := "LaneCymbalsModel", name := "heard", desc := "(II)I" } : Jvm.MethodName) ({ cls := "LaneCymbalsModel", name := "heard", desc := "(II)I" } : Jvm.MethodName)) ∈ lw_all := lw_g (lw_at lw_m5 180 rfl) rfl
theorem q1201 : (Jvm.Cond.code ({ cls := "LaneCymbalsModel", name := "heard", desc := "(II)I" } : Jvm.MethodName) prog_20_method_59_code (4 : Nat) (Option.some Jvm.ClassFile.FieldType.int)) ∈ lw_all := lw_g (lw_at lw_m5 181 rfl) rfl
theorem q1203 : (Jvm.Cond.instanceMethod ({ cls := "LaneCymbalsModel", name := "lanes", desc := "()I" } : Jvm.MethodName)) ∈ lw_all := lw_g (lw_at lw_m5 183 rfl) rfl
theorem q1204 : (Jvm.Cond.selects "LaneCymbalsModel" ({ cls := "LaneCymbalsModel", name := "lanes", desc := "()I" } : Jvm.MethodName) ({ cls := "LaneCymbalsModel", name := "lanes", desc := "()I" } : Jvm.MethodName)) ∈ lw_all := lw_g (lw_at lw_m5 184 rfl) rfl
theorem q1205 : (Jvm.Cond.code ({ cls := "LaneCymbalsModel", name := "lanes", desc := "()I" } : Jvm.MethodName) prog_20_method_61_code (3 : Nat) (Option.some Jvm.ClassFile.FieldType.int)) ∈ lw_all := lw_g (lw_at lw_m5 185 rfl) rfl
theorem q1206 : (Jvm.Cond.methodLink "LaneCymbalsModel" (195 : Nat) ({ cls := "LaneCymbalsModel", name := "isHeardSo", desc := "(II)Z" } : Jvm.MethodName)) ∈ lw_all := lw_g (lw_at lw_m5 186 rfl) rfl
theorem q1207 : (Jvm.Cond.privateMethod ({ cls := "LaneCymbalsModel", name := "isHeardSo", desc := "(II)Z" } : Jvm.MethodName)) ∈ lw_tbl := lw_at lw_m5 187 rfl
theorem q1208 : (Jvm.Cond.instanceMethod ({ cls := "LaneCymbalsModel", name := "isHeardSo", desc := "(II)Z" } : Jvm.MethodName)) ∈ lw_all := lw_g (lw_at lw_m5 188 rfl) rfl
theorem q1209 : (Jvm.Cond.code ({ cls := "LaneCymbalsModel", name := "isHeardSo", desc := "(II)Z" } : Jvm.MethodName) prog_20_method_60_code (5 : Nat) (Option.some Jvm.ClassFile.FieldType.boolean)) ∈ lw_all := lw_g (lw_at lw_m5 189 rfl) rfl
theorem q1211 : (Jvm.Cond.instanceMethod ({ cls := "LaneCymbalsModel", name := "swung", desc := "(I)I" } : Jvm.MethodName)) ∈ lw_all := lw_g (lw_at lw_m5 191 rfl) rfl
theorem q1212 : (Jvm.Cond.selects "LaneCymbalsModel" ({ cls := "LaneCymbalsModel", name := "swung", desc := "(I)I" } : Jvm.MethodName) ({ cls := "LaneCymbalsModel", name := "swung", desc := "(I)I" } : Jvm.MethodName)) ∈ lw_all := lw_g (lw_at lw_m5 192 rfl) rfl
theorem q1213 : (Jvm.Cond.code ({ cls := "LaneCymbalsModel", name := "swung", desc := "(I)I" } : Jvm.MethodName) prog_20_method_62_code (4 : Nat) (Option.some Jvm.ClassFile.FieldType.int)) ∈ lw_all := lw_g (lw_at lw_m5 193 rfl) rfl
theorem q1215 : (Jvm.Cond.instanceMethod ({ cls := "LaneCymbalsModel", name := "hear", desc := "()I" } : Jvm.MethodName)) ∈ lw_all := lw_g (lw_at lw_m5 195 rfl) rfl
theorem q1216 : (Jvm.Cond.selects "LaneCymbalsModel" ({ cls := "LaneCymbalsModel", name := "hear", desc := "()I" } : Jvm.MethodName) ({ cls := "LaneCymbalsModel", name := "hear", desc := "()I" } : Jvm.MethodName)) ∈ lw_all := lw_g (lw_at lw_m5 196 rfl) rfl
theorem q1217 : (Jvm.Cond.code ({ cls := "LaneCymbalsModel", name := "hear", desc := "()I" } : Jvm.MethodName) prog_20_method_63_code (8 : Nat) (Option.some Jvm.ClassFile.FieldType.int)) ∈ lw_all := lw_g (lw_at lw_m5 197 rfl) rfl
theorem q1218 : (Jvm.Cond.methodLink "LaneCymbalsModel" (198 : Nat) ({ cls := "LaneCymbalsModel", name := "lanes", desc := "()I" } : Jvm.MethodName)) ∈ lw_all := lw_g (lw_at lw_m5 198 rfl) rfl
theorem q1220 : (Jvm.Cond.instanceMethod ({ cls := "LaneCymbalsModel", name := "note", desc := "(IIII)I" } : Jvm.MethodName)) ∈ lw_all := lw_g (lw_at lw_m5 200 rfl) rfl
theorem q1221 : (Jvm.Cond.selects "LaneCymbalsModel" ({ cls := "LaneCymbalsModel", name := "note", desc := "(IIII)I" } : Jvm.MethodName) ({ cls := "LaneCymbalsModel", name := "note", desc := "(IIII)I" } : Jvm.MethodName)) ∈ lw_all := lw_g (lw_at lw_m5 201 rfl) rfl
theorem q1222 : (Jvm.Cond.code ({ cls := "LaneCymbalsModel", name := "note", desc := "(IIII)I" } : Jvm.MethodName) prog_20_method_64_code (6 : Nat) (Option.some Jvm.ClassFile.FieldType.int)) ∈ lw_all := lw_g (lw_at lw_m5 202 rfl) rfl
theorem q1224 : (Jvm.Cond.instanceMethod ({ cls := "LaneCymbalsModel", name := "mark", desc := "(IIII)I" } : Jvm.MethodName)) ∈ lw_all := lw_g (lw_at lw_m5 204 rfl) rfl
theorem q1225 : (Jvm.Cond.selects "LaneCymbalsModel" ({ cls := "LaneCymbalsModel", name := "mark", desc := "(IIII)I" } : Jvm.MethodName) ({ cls := "LaneCymbalsModel", name := "mark", desc := "(IIII)I" } : Jvm.MethodName)) ∈ lw_all := lw_g (lw_at lw_m5 205 rfl) rfl
theorem q1226 : (Jvm.Cond.code ({ cls := "LaneCymbalsModel", name := "mark", desc := "(IIII)I" } : Jvm.MethodName) prog_20_method_65_code (6 : Nat) (Option.some Jvm.ClassFile.FieldType.int)) ∈ lw_all := lw_g (lw_at lw_m5 206 rfl) rfl
theorem q1228 : (Jvm.Cond.instanceMethod ({ cls := "LaneCymbalsModel", name := "forget", desc := "(I)I" } : Jvm.MethodName)) ∈ lw_all := lw_g (lw_at lw_m5 208 rfl) rfl
theorem q1229 : (Jvm.Cond.selects "LaneCymbalsModel" ({ cls := "LaneCymbalsModel", name := "forget", desc := "(I)I" } : Jvm.MethodName) ({ cls := "LaneCymbalsModel", name := "forget", desc := "(I)I" } : Jvm.MethodName)) ∈ lw_all := lw_g (lw_at lw_m5 209 rfl) rfl
theorem q1230 : (Jvm.Cond.code ({ cls := "LaneCymbalsModel", name := "forget", desc := "(I)I" } : Jvm.MethodName) prog_20_method_66_code (4 : Nat) (Option.some Jvm.ClassFile.FieldType.int)) ∈ lw_all := lw_g (lw_at lw_m5 210 rfl) rfl
theorem q1232 : (Jvm.Cond.instanceMethod ({ cls := "LaneCymbalsModel", name := "is", desc := "(I)I" } : Jvm.MethodName)) ∈ lw_all := lw_g (lw_at lw_m5 212 rfl) rfl
theorem q1233 : (Jvm.Cond.selects "LaneCymbalsModel" ({ cls := "LaneCymbalsModel", name := "is", desc := "(I)I" } : Jvm.MethodName) ({ cls := "LaneCymbalsModel", name := "is", desc := "(I)I" } : Jvm.MethodName)) ∈ lw_all := lw_g (lw_at lw_m5 213 rfl) rfl
theorem q1234 : (Jvm.Cond.code ({ cls := "LaneCymbalsModel", name := "is", desc := "(I)I" } : Jvm.MethodName) prog_20_method_68_code (2 : Nat) (Option.some Jvm.ClassFile.FieldType.int)) ∈ lw_all := lw_g (lw_at lw_m5 214 rfl) rfl
theorem q1235 : (Jvm.Cond.methodLink "LaneCymbalsModel" (201 : Nat) ({ cls := "LaneCymbalsModel", name := "kindsOf", desc := "(I)I" } : Jvm.MethodName)) ∈ lw_all := lw_g (lw_at lw_m5 215 rfl) rfl
theorem q1236 : (Jvm.Cond.privateMethod ({ cls := "LaneCymbalsModel", name := "kindsOf", desc := "(I)I" } : Jvm.MethodName)) ∈ lw_tbl := lw_at lw_m5 216 rfl
theorem q1237 : (Jvm.Cond.instanceMethod ({ cls := "LaneCymbalsModel", name := "kindsOf", desc := "(I)I" } : Jvm.MethodName)) ∈ lw_all := lw_g (lw_at lw_m5 217 rfl) rfl
theorem q1238 : (Jvm.Cond.code ({ cls := "LaneCymbalsModel", name := "kindsOf", desc := "(I)I" } : Jvm.MethodName) prog_20_method_67_code (6 : Nat) (Option.some Jvm.ClassFile.FieldType.int)) ∈ lw_all := lw_g (lw_at lw_m5 218 rfl) rfl
theorem q1240 : (Jvm.Cond.instanceMethod ({ cls := "LaneCymbalsModel", name := "look", desc := "(I)I" } : Jvm.MethodName)) ∈ lw_all := lw_g (lw_at lw_m5 220 rfl) rfl
theorem q1241 : (Jvm.Cond.selects "LaneCymbalsModel" ({ cls := "LaneCymbalsModel", name := "look", desc := "(I)I" } : Jvm.MethodName) ({ cls := "LaneCymbalsModel", name := "look", desc := "(I)I" } : Jvm.MethodName)) ∈ lw_all := lw_g (lw_at lw_m5 221 rfl) rfl
theorem q1242 : (Jvm.Cond.code ({ cls := "LaneCymbalsModel", name := "look", desc := "(I)I" } : Jvm.MethodName) prog_20_method_70_code (7 : Nat) (Option.some Jvm.ClassFile.FieldType.int)) ∈ lw_all := lw_g (lw_at lw_m5 222 rfl) rfl
theorem q1243 : (Jvm.Cond.methodLink "LaneCymbalsModel" (204 : Nat) ({ cls := "LaneCymbalsModel", name := "mostAlike", desc := "(I)I" } : Jvm.MethodName)) ∈ lw_all := lw_g (lw_at lw_m5 223 rfl) rfl
theorem q1244 : (Jvm.Cond.privateMethod ({ cls := "LaneCymbalsModel", name := "mostAlike", desc := "(I)I" } : Jvm.MethodName)) ∈ lw_tbl := lw_at lw_m5 224 rfl
theorem q1245 : (Jvm.Cond.instanceMethod ({ cls := "LaneCymbalsModel", name := "mostAlike", desc := "(I)I" } : Jvm.MethodName)) ∈ lw_all := lw_g (lw_at lw_m5 225 rfl) rfl
theorem q1246 : (Jvm.Cond.code ({ cls := "LaneCymbalsModel", name := "mostAlike", desc := "(I)I" } : Jvm.MethodName) prog_20_method_69_code (6 : Nat) (Option.some Jvm.ClassFile.FieldType.int)) ∈ lw_all := lw_g (lw_at lw_m5 226 rfl) rfl
theorem q1248 : (Jvm.Cond.instanceMethod ({ cls := "LaneCymbalsModel", name := "kinds", desc := "(I)I" } : Jvm.MethodName)) ∈ lw_all := lw_g (lw_at lw_m5 228 rfl) rfl
theorem q1249 : (Jvm.Cond.selects "LaneCymbalsModel" ({ cls := "LaneCymbalsModel", name := "kinds", desc := "(I)I" } : Jvm.MethodName) ({ cls := "LaneCymbalsModel", name := "kinds", desc := "(I)I" } : Jvm.MethodName)) ∈ lw_all := lw_g (lw_at lw_m5 229 rfl) rfl
theorem q1250 : (Jvm.Cond.code ({ cls := "LaneCymbalsModel", name := "kinds", desc := "(I)I" } : Jvm.MethodName) prog_20_method_72_code (2 : Nat) (Option.some Jvm.ClassFile.FieldType.int)) ∈ lw_all := lw_g (lw_at lw_m5 230 rfl) rfl
theorem q1251 : (Jvm.Cond.methodLink "LaneCymbalsModel" (207 : Nat) ({ cls := "LaneCymbalsModel", name := "auntKinds", desc := "(I)I" } : Jvm.MethodName)) ∈ lw_all := lw_g (lw_at lw_m5 231 rfl) rfl
theorem q1252 : (Jvm.Cond.privateMethod ({ cls := "LaneCymbalsModel", name := "auntKinds", desc := "(I)I" } : Jvm.MethodName)) ∈ lw_tbl := lw_at lw_m5 232 rfl
theorem q1253 : (Jvm.Cond.instanceMethod ({ cls := "LaneCymbalsModel", name := "auntKinds", desc := "(I)I" } : Jvm.MethodName)) ∈ lw_all := lw_g (lw_at lw_m5 233 rfl) rfl
theorem q1254 : (Jvm.Cond.code ({ cls := "LaneCymbalsModel", name := "auntKinds", desc := "(I)I" } : Jvm.MethodName) prog_20_method_71_code (6 : Nat) (Option.some Jvm.ClassFile.FieldType.int)) ∈ lw_all := lw_g (lw_at lw_m5 234 rfl) rfl
theorem q1256 : (Jvm.Cond.instanceMethod ({ cls := "LaneCymbalsModel", name := "ask", desc := "(I)I" } : Jvm.MethodName)) ∈ lw_all := lw_g (lw_at lw_m5 236 rfl) rfl
theorem q1257 : (Jvm.Cond.selects "LaneCymbalsModel" ({ cls := "LaneCymbalsModel", name := "ask", desc := "(I)I" } : Jvm.MethodName) ({ cls := "LaneCymbalsModel", name := "ask", desc := "(I)I" } : Jvm.MethodName)) ∈ lw_all := lw_g (lw_at lw_m5 237 rfl) rfl
theorem q1258 : (Jvm.Cond.code ({ cls := "LaneCymbalsModel", name := "ask", desc := "(I)I" } : Jvm.MethodName) prog_20_method_73_code (9 : Nat) (Option.some Jvm.ClassFile.FieldType.int)) ∈ lw_all := lw_g (lw_at lw_m5 238 rfl) rfl
theorem q1260 : (Jvm.Cond.instanceMethod ({ cls := "LaneCymbalsModel", name := "game", desc := "(IIII)I" } : Jvm.MethodName)) ∈ lw_all := lw_g (lw_at lw_m6 0 rfl) rfl
theorem q1261 : (Jvm.Cond.selects "LaneCymbalsModel" ({ cls := "LaneCymbalsModel", name := "game", desc := "(IIII)I" } : Jvm.MethodName) ({ cls := "LaneCymbalsModel", name := "game", desc := "(IIII)I" } : Jvm.MethodName)) ∈ lw_all := lw_g (lw_at lw_m6 1 rfl) rfl
theorem q1262 : (Jvm.Cond.code ({ cls := "LaneCymbalsModel", name := "game", desc := "(IIII)I" } : Jvm.MethodName) prog_20_method_75_code (8 : Nat) (Option.some Jvm.ClassFile.FieldType.int)) ∈ lw_all := lw_g (lw_at lw_m6 2 rfl) rfl
theorem q1263 : (Jvm.Cond.methodLink "LaneCymbalsModel" (210 : Nat) ({ cls := "LaneCymbalsModel", name := "rests", desc := "(II)Z" } : Jvm.MethodName)) ∈ lw_all := lw_g (lw_at lw_m6 3 rfl) rfl
theorem q1264 : (Jvm.Cond.privateMethod ({ cls := "LaneCymbalsModel", name := "rests", desc := "(II)Z" } : Jvm.MethodName)) ∈ lw_tbl := lw_at lw_m6 4 rfl
theorem q1265 : (Jvm.Cond.instanceMethod ({ cls := "LaneCymbalsModel", name := "rests", desc := "(II)Z" } : Jvm.MethodName)) ∈ lw_all := lw_g (lw_at lw_m6 5 rfl) rfl
theorem q1266 : (Jvm.Cond.code ({ cls := "LaneCymbalsModel", name := "rests", desc := "(II)Z" } : Jvm.MethodName) prog_20_method_74_code (6 : Nat) (Option.some Jvm.ClassFile.FieldType.boolean)) ∈ lw_all := lw_g (lw_at lw_m6 6 rfl) rfl
theorem q1268 : (Jvm.Cond.instanceMethod ({ cls := "LaneCymbalsModel", name := "slips", desc := "(II)I" } : Jvm.MethodName)) ∈ lw_all := lw_g (lw_at lw_m6 8 rfl) rfl
theorem q1269 : (Jvm.Cond.selects "LaneCymbalsModel" ({ cls := "LaneCymbalsModel", name := "slips", desc := "(II)I" } : Jvm.MethodName) ({ cls := "LaneCymbalsModel", name := "slips", desc := "(II)I" } : Jvm.MethodName)) ∈ lw_all := lw_g (lw_at lw_m6 9 rfl) rfl
theorem q1270 : (Jvm.Cond.code ({ cls := "LaneCymbalsModel", name := "slips", desc := "(II)I" } : Jvm.MethodName) prog_20_method_77_code (11 : Nat) (Option.some Jvm.ClassFile.FieldType.int)) ∈ lw_all := lw_g (lw_at lw_m6 10 rfl) rfl
theorem q1271 : (Jvm.Cond.methodLink "LaneCymbalsModel" (216 : Nat) ({ cls := "LaneCymbalsModel", name := "tell", desc := "(JJ)V" } : Jvm.MethodName)) ∈ lw_all := lw_g (lw_at lw_m6 11 rfl) rfl
theorem q1272 : (Jvm.Cond.privateMethod ({ cls := "LaneCymbalsModel", name := "tell", desc := "(JJ)V" } : Jvm.MethodName)) ∈ lw_tbl := lw_at lw_m6 12 rfl
theorem q1273 : (Jvm.Cond.instanceMethod ({ cls := "LaneCymbalsModel", name := "tell", desc := "(JJ)V" } : Jvm.MethodName)) ∈ lw_all := lw_g (lw_at lw_m6 13 rfl) rfl
theorem q1274 : (Jvm.Cond.code ({ cls := "LaneCymbalsModel", name := "tell", desc := "(JJ)V" } : Jvm.MethodName) prog_20_method_76_code (11 : Nat) (Option.none : Option Jvm.ClassFile.FieldType)) ∈ lw_all := lw_g (lw_at lw_m6 14 rfl) rfl
theorem q1276 : (Jvm.Cond.instanceMethod ({ cls := "LaneCymbalsModel", name := "reigns", desc := "(II)I" } : Jvm.MethodName)) ∈ lw_all := lw_g (lw_at lw_m6 16 rfl) rfl
theorem q1277 : (Jvm.Cond.selects "LaneCymbalsModel" ({ cls := "LaneCymbalsModel", name := "reigns", desc := "(II)I" } : Jvm.MethodName) ({ cls := "LaneCymbalsModel", name := "reigns", desc := "(II)I" } : Jvm.MethodName)) ∈ lw_all := lw_g (lw_at lw_m6 17 rfl) rfl
theorem q1278 : (Jvm.Cond.code ({ cls := "LaneCymbalsModel", name := "reigns", desc := "(II)I" } : Jvm.MethodName) prog_20_method_78_code (8 : Nat) (Option.some Jvm.ClassFile.FieldType.int)) ∈ lw_all := lw_g (lw_at lw_m6 18 rfl) rfl
theorem q1279 : (Jvm.Cond.constant "LaneCymbalsModel" (220 : Nat) (999999 : Int32)) ∈ lw_all := lw_g (lw_at lw_m6 19 rfl) rfl
theorem q1280 : (Jvm.Cond.constantLong "LaneCymbalsModel" (221 : Nat) (1103515245 : Int64)) ∈ lw_all := lw_g (lw_at lw_m6 20 rfl) rfl
theorem q1281 : (Jvm.Cond.constantLong "LaneCymbalsModel" (223 : Nat) (12345 : Int64)) ∈ lw_all := lw_g (lw_at lw_m6 21 rfl) rfl
theorem q1282 : (Jvm.Cond.constantLong "LaneCymbalsModel" (225 : Nat) (2147483648 : Int64)) ∈ lw_all := lw_g (lw_at lw_m6 22 rfl) rfl
theorem q1283 : (Jvm.Cond.constantLong "LaneCymbalsModel" (227 : Nat) (65536 : Int64)) ∈ lw_all := lw_g (lw_at lw_m6 23 rfl) rfl
theorem q1284 : (Jvm.Cond.constantLong "LaneCymbalsModel" (229 : Nat) (7 : Int64)) ∈ lw_all := lw_g (lw_at lw_m6 24 rfl) rfl
theorem q1285 : (Jvm.Cond.constantLong "LaneCymbalsModel" (231 : Nat) (1048576 : Int64)) ∈ lw_all := lw_g (lw_at lw_m6 25 rfl) rfl
theorem q1286 : (Jvm.Cond.constantLong "LaneCymbalsModel" (233 : Nat) (10 : Int64)) ∈ lw_all := lw_g (lw_at lw_m6 26 rfl) rfl
theorem q1288 : (Jvm.Cond.instanceMethod ({ cls := "LaneCymbalsModel", name := "part", desc := "(I)J" } : Jvm.MethodName)) ∈ lw_all := lw_g (lw_at lw_m6 28 rfl) rfl
theorem q1289 : (Jvm.Cond.selects "LaneCymbalsModel" ({ cls := "LaneCymbalsModel", name := "part", desc := "(I)J" } : Jvm.MethodName) ({ cls := "LaneCymbalsModel", name := "part", desc := "(I)J" } : Jvm.MethodName)) ∈ lw_all := lw_g (lw_at lw_m6 29 rfl) rfl
theorem q1290 : (Jvm.Cond.code ({ cls := "LaneCymbalsModel", name := "part", desc := "(I)J" } : Jvm.MethodName) prog_20_method_79_code (2 : Nat) (Option.some Jvm.ClassFile.FieldType.long)) ∈ lw_all := lw_g (lw_at lw_m6 30 rfl) rfl
theorem q1292 : (Jvm.Cond.instanceMethod ({ cls := "LaneCymbalsModel", name := "image", desc := "(I)I" } : Jvm.MethodName)) ∈ lw_all := lw_g (lw_at lw_m6 32 rfl) rfl
theorem q1293 : (Jvm.Cond.selects "LaneCymbalsModel" ({ cls := "LaneCymbalsModel", name := "image", desc := "(I)I" } : Jvm.MethodName) ({ cls := "LaneCymbalsModel", name := "image", desc := "(I)I" } : Jvm.MethodName)) ∈ lw_all := lw_g (lw_at lw_m6 33 rfl) rfl
theorem q1294 : (Jvm.Cond.code ({ cls := "LaneCymbalsModel", name := "image", desc := "(I)I" } : Jvm.MethodName) prog_20_method_80_code (3 : Nat) (Option.some Jvm.ClassFile.FieldType.int)) ∈ lw_all := lw_g (lw_at lw_m6 34 rfl) rfl
theorem q1296 : (Jvm.Cond.instanceMethod ({ cls := "LaneCymbalsModel", name := "from", desc := "(I)I" } : Jvm.MethodName)) ∈ lw_all := lw_g (lw_at lw_m6 36 rfl) rfl
theorem q1297 : (Jvm.Cond.selects "LaneCymbalsModel" ({ cls := "LaneCymbalsModel", name := "from", desc := "(I)I" } : Jvm.MethodName) ({ cls := "LaneCymbalsModel", name := "from", desc := "(I)I" } : Jvm.MethodName)) ∈ lw_all := lw_g (lw_at lw_m6 37 rfl) rfl
theorem q1298 : (Jvm.Cond.code ({ cls := "LaneCymbalsModel", name := "from", desc := "(I)I" } : Jvm.MethodName) prog_20_method_81_code (3 : Nat) (Option.some Jvm.ClassFile.FieldType.int)) ∈ lw_all := lw_g (lw_at lw_m6 38 rfl) rfl
theorem q1300 : (Jvm.Cond.instanceMethod ({ cls := "LaneCymbalsModel", name := "status", desc := "(I)I" } : Jvm.MethodName)) ∈ lw_all := lw_g (lw_at lw_m6 40 rfl) rfl
theorem q1301 : (Jvm.Cond.selects "LaneCymbalsModel" ({ cls := "LaneCymbalsModel", name := "status", desc := "(I)I" } : Jvm.MethodName) ({ cls := "LaneCymbalsModel", name := "status", desc := "(I)I" } : Jvm.MethodName)) ∈ lw_all := lw_g (lw_at lw_m6 41 rfl) rfl
theorem q1302 : (Jvm.Cond.code ({ cls := "LaneCymbalsModel", name := "status", desc := "(I)I" } : Jvm.MethodName) prog_20_method_82_code (2 : Nat) (Option.some Jvm.ClassFile.FieldType.int)) ∈ lw_all := lw_g (lw_at lw_m6 42 rfl) rfl
theorem q1304 : (Jvm.Cond.instanceMethod ({ cls := "LaneCymbalsModel", name := "count", desc := "(I)I" } : Jvm.MethodName)) ∈ lw_all := lw_g (lw_at lw_m6 44 rfl) rfl
theorem q1305 : (Jvm.Cond.selects "LaneCymbalsModel" ({ cls := "LaneCymbalsModel", name := "count", desc := "(I)I" } : Jvm.MethodName) ({ cls := "LaneCymbalsModel", name := "count", desc := "(I)I" } : Jvm.MethodName)) ∈ lw_all := lw_g (lw_at lw_m6 45 rfl) rfl
theorem q1306 : (Jvm.Cond.code ({ cls := "LaneCymbalsModel", name := "count", desc := "(I)I" } : Jvm.MethodName) prog_20_method_84_code (2 : Nat) (Option.some Jvm.ClassFile.FieldType.int)) ∈ lw_all := lw_g (lw_at lw_m6 46 rfl) rfl
theorem q1307 : (Jvm.Cond.methodLink "LaneCymbalsModel" (235 : Nat) ({ cls := "LaneCymbalsModel", name := "countOf", desc := "(I)I" } : Jvm.MethodName)) ∈ lw_all := lw_g (lw_at lw_m6 47 rfl) rfl
theorem q1308 : (Jvm.Cond.privateMethod ({ cls := "LaneCymbalsModel", name := "countOf", desc := "(I)I" } : Jvm.MethodName)) ∈ lw_tbl := lw_at lw_m6 48 rfl
theorem q1309 : (Jvm.Cond.instanceMethod ({ cls := "LaneCymbalsModel", name := "countOf", desc := "(I)I" } : Jvm.MethodName)) ∈ lw_all := lw_g (lw_at lw_m6 49 rfl) rfl
theorem q1310 : (Jvm.Cond.code ({ cls := "LaneCymbalsModel", name := "countOf", desc := "(I)I" } : Jvm.MethodName) prog_20_method_83_code (2 : Nat) (Option.some Jvm.ClassFile.FieldType.int)) ∈ lw_all := lw_g (lw_at lw_m6 50 rfl) rfl
theorem q1312 : (Jvm.Cond.instanceMethod ({ cls := "LaneCymbalsModel", name := "digest", desc := "()J" } : Jvm.MethodName)) ∈ lw_all := lw_g (lw_at lw_m6 52 rfl) rfl
theorem q1313 : (Jvm.Cond.selects "LaneCymbalsModel" ({ cls := "LaneCymbalsModel", name := "digest", desc := "()J" } : Jvm.MethodName) ({ cls := "LaneCymbalsModel", name := "digest", desc := "()J" } : Jvm.MethodName)) ∈ lw_all := lw_g (lw_at lw_m6 53 rfl) rfl
theorem q1314 : (Jvm.Cond.code ({ cls := "LaneCymbalsModel", name := "digest", desc := "()J" } : Jvm.MethodName) prog_20_method_86_code (4 : Nat) (Option.some Jvm.ClassFile.FieldType.long)) ∈ lw_all := lw_g (lw_at lw_m6 54 rfl) rfl
theorem q1315 : (Jvm.Cond.constantLong "LaneCymbalsModel" (240 : Nat) (1559 : Int64)) ∈ lw_all := lw_g (lw_at lw_m6 55 rfl) rfl
theorem q1316 : (Jvm.Cond.constantLong "LaneCymbalsModel" (238 : Nat) (31 : Int64)) ∈ lw_all := lw_g (lw_at lw_m6 56 rfl) rfl
theorem q1317 : (Jvm.Cond.methodLink "LaneCymbalsModel" (242 : Nat) ({ cls := "LaneCymbalsModel", name := "join", desc := "(JII)J" } : Jvm.MethodName)) ∈ lw_all := lw_g (lw_at lw_m6 57 rfl) rfl
theorem q1318 : (Jvm.Cond.privateMethod ({ cls := "LaneCymbalsModel", name := "join", desc := "(JII)J" } : Jvm.MethodName)) ∈ lw_tbl := lw_at lw_m6 58 rfl
theorem q1319 : (Jvm.Cond.instanceMethod ({ cls := "LaneCymbalsModel", name := "join", desc := "(JII)J" } : Jvm.MethodName)) ∈ lw_all := lw_g (lw_at lw_m6 59 rfl) rfl
theorem q1320 : (Jvm.Cond.code ({ cls := "LaneCymbalsModel", name := "join", desc := "(JII)J" } : Jvm.MethodName) prog_20_method_85_code (8 : Nat) (Option.some Jvm.ClassFile.FieldType.long)) ∈ lw_all := lw_g (lw_at lw_m6 60 rfl) rfl
theorem in_X5 : ∀ w ∈ wsX50, w ∈ lw_all := lw_in wsX50 [930, 932, 934, 936, 938, 940, 942, 944, 946, 948, 950, 952, 954, 956, 958, 960, 962, 964, 966, 968, 970, 972] (by decide +kernel) (by decide +kernel)
