/-! LaneCymbals$Lane -/
set_option maxRecDepth 100000
def RX1 : String := "LaneCymbals$Lane"
def TX1 : u_T := fun k => match k with
  | 0 => ("LaneCymbals$Lane", "wide", "I", false)
  | 1 => ("LaneCymbals$Lane", "people", "[LLaneCymbals$One;", true)
  | 2 => ("LaneCymbals$Lane", "houses", "[I", true)
  | 3 => ("LaneCymbals$Lane", "many", "I", false)
  | 4 => ("LaneCymbals$Lane", "aunts", "[LLaneCymbals$Aunt;", true)
  | 5 => ("LaneCymbals$Lane", "sides", "[I", true)
  | 6 => ("LaneCymbals$Lane", "dampers", "I", false)
  | 7 => ("LaneCymbals$Lane", "heard", "[I", true)
  | 8 => ("LaneCymbals$Lane", "hears", "I", false)
  | 9 => ("LaneCymbals$Lane", "notes", "[I", true)
  | 10 => ("LaneCymbals$Lane", "noted", "I", false)
  | 11 => ("LaneCymbals$Lane", "marks", "[I", true)
  | 12 => ("LaneCymbals$Lane", "marked", "I", false)
  | 13 => ("LaneCymbals$Lane", "now", "LLaneCymbals$State;", true)
  | 14 => ("LaneCymbals$Lane", "was", "[LLaneCymbals$State;", true)
  | _ => ("LaneCymbals$Lane", "undos", "I", false)
def tyX1 : Nat → FieldType := fun k => match k with
  | 0 => .int
  | 1 => .array (.object "LaneCymbals$One")
  | 2 => .array .int
  | 3 => .int
  | 4 => .array (.object "LaneCymbals$Aunt")
  | 5 => .array .int
  | 6 => .int
  | 7 => .array .int
  | 8 => .int
  | 9 => .array .int
  | 10 => .int
  | 11 => .array .int
  | 12 => .int
  | 13 => .object "LaneCymbals$State"
  | 14 => .array (.object "LaneCymbals$State")
  | _ => .int
abbrev wsX10 : List Cond := u_ws RX1 TX1 16
set_option maxRecDepth 100000 in
theorem nmX1 : ∀ a, a < 16 → ∀ b, b < 16 → a ≠ b → (TX1 a).2.1 ≠ (TX1 b).2.1 := by decide +kernel
set_option maxRecDepth 100000 in
theorem tyX1_ok : ∀ k, k < 16 → parseFieldDescriptor (TX1 k).2.2.1 = some (tyX1 k) := by decide +kernel
abbrev cX1_init : ByteArray := prog_11_method_1_code
def yX1_init : MethodName := ⟨RX1, "<init>", "()V"⟩
def dkwX1_init_6 : List UInt8 := [187, 0, 39, 89, 183, 0, 41, 83, 89, 16, 7, 187, 0, 39, 89, 183, 0, 41, 83, 181, 0, 46, 177]
abbrev dktX1_init_6 : List UInt8 := dkwX1_init_6 ++ []
def dkwX1_init_5 : List UInt8 := [89, 7, 187, 0, 39, 89, 183, 0, 41, 83, 89, 8, 187, 0, 39, 89, 183, 0, 41, 83, 89, 16, 6]
abbrev dktX1_init_5 : List UInt8 := dkwX1_init_5 ++ dktX1_init_6
def dkwX1_init_4 : List UInt8 := [183, 0, 41, 83, 89, 5, 187, 0, 39, 89, 183, 0, 41, 83, 89, 6, 187, 0, 39, 89, 183, 0, 41, 83]
abbrev dktX1_init_4 : List UInt8 := dkwX1_init_4 ++ dktX1_init_5
def dkwX1_init_3 : List UInt8 := [42, 16, 8, 189, 0, 39, 89, 3, 187, 0, 39, 89, 183, 0, 41, 83, 89, 4, 187, 0, 39, 89]
abbrev dktX1_init_3 : List UInt8 := dkwX1_init_3 ++ dktX1_init_4
def dkwX1_init_2 : List UInt8 := [188, 10, 181, 0, 33, 42, 16, 24, 188, 10, 181, 0, 36, 42, 187, 0, 39, 89, 183, 0, 41, 181, 0, 42]
abbrev dktX1_init_2 : List UInt8 := dkwX1_init_2 ++ dktX1_init_3
def dkwX1_init_1 : List UInt8 := [189, 0, 21, 181, 0, 23, 42, 7, 188, 10, 181, 0, 27, 42, 16, 12, 188, 10, 181, 0, 30, 42, 16, 24]
abbrev dktX1_init_1 : List UInt8 := dkwX1_init_1 ++ dktX1_init_2
def dkwX1_init_0 : List UInt8 := [42, 183, 0, 3, 42, 16, 7, 189, 0, 9, 181, 0, 11, 42, 16, 7, 188, 10, 181, 0, 17, 42, 7]
abbrev dktX1_init_0 : List UInt8 := dkwX1_init_0 ++ dktX1_init_1
theorem dksX1_init_0 : cX1_init.data.toList.drop 0 = dktX1_init_0 := by decide +kernel
theorem dksX1_init_1 : cX1_init.data.toList.drop 23 = dktX1_init_1 := dk_seg dksX1_init_0 23 rfl rfl
theorem dksX1_init_2 : cX1_init.data.toList.drop 47 = dktX1_init_2 := dk_seg dksX1_init_1 24 rfl rfl
theorem dksX1_init_3 : cX1_init.data.toList.drop 71 = dktX1_init_3 := dk_seg dksX1_init_2 24 rfl rfl
theorem dksX1_init_4 : cX1_init.data.toList.drop 93 = dktX1_init_4 := dk_seg dksX1_init_3 22 rfl rfl
theorem dksX1_init_5 : cX1_init.data.toList.drop 117 = dktX1_init_5 := dk_seg dksX1_init_4 24 rfl rfl
theorem dksX1_init_6 : cX1_init.data.toList.drop 140 = dktX1_init_6 := dk_seg dksX1_init_5 23 rfl rfl
theorem dX1_init_0 : decode cX1_init 0 = .ok (.aload_n 0, 1) := dk_42 (dk_at dksX1_init_0 0 rfl rfl)
theorem dX1_init_1 : decode cX1_init 1 = .ok (.invokespecial 3, 3) := dk_183 0 3 (dk_at dksX1_init_0 1 rfl rfl)
theorem dX1_init_4 : decode cX1_init 4 = .ok (.aload_n 0, 1) := dk_42 (dk_at dksX1_init_0 4 rfl rfl)
theorem dX1_init_5 : decode cX1_init 5 = .ok (.bipush 7, 2) := dk_16 7 (dk_at dksX1_init_0 5 rfl rfl)
theorem dX1_init_7 : decode cX1_init 7 = .ok (.anewarray 9, 3) := dk_189 0 9 (dk_at dksX1_init_0 7 rfl rfl)
theorem dX1_init_10 : decode cX1_init 10 = .ok (.putfield 11, 3) := dk_181 0 11 (dk_at dksX1_init_0 10 rfl rfl)
theorem dX1_init_13 : decode cX1_init 13 = .ok (.aload_n 0, 1) := dk_42 (dk_at dksX1_init_0 13 rfl rfl)
theorem dX1_init_14 : decode cX1_init 14 = .ok (.bipush 7, 2) := dk_16 7 (dk_at dksX1_init_0 14 rfl rfl)
theorem dX1_init_16 : decode cX1_init 16 = .ok (.newarray .int, 2) := dk_188_10 (dk_at dksX1_init_0 16 rfl rfl)
theorem dX1_init_18 : decode cX1_init 18 = .ok (.putfield 17, 3) := dk_181 0 17 (dk_at dksX1_init_0 18 rfl rfl)
theorem dX1_init_21 : decode cX1_init 21 = .ok (.aload_n 0, 1) := dk_42 (dk_at dksX1_init_0 21 rfl rfl)
theorem dX1_init_22 : decode cX1_init 22 = .ok (.iconst 4, 1) := dk_7 (dk_at dksX1_init_0 22 rfl rfl)
theorem dX1_init_23 : decode cX1_init 23 = .ok (.anewarray 21, 3) := dk_189 0 21 (dk_at dksX1_init_1 0 rfl rfl)
theorem dX1_init_26 : decode cX1_init 26 = .ok (.putfield 23, 3) := dk_181 0 23 (dk_at dksX1_init_1 3 rfl rfl)
theorem dX1_init_29 : decode cX1_init 29 = .ok (.aload_n 0, 1) := dk_42 (dk_at dksX1_init_1 6 rfl rfl)
theorem dX1_init_30 : decode cX1_init 30 = .ok (.iconst 4, 1) := dk_7 (dk_at dksX1_init_1 7 rfl rfl)
theorem dX1_init_31 : decode cX1_init 31 = .ok (.newarray .int, 2) := dk_188_10 (dk_at dksX1_init_1 8 rfl rfl)
theorem dX1_init_33 : decode cX1_init 33 = .ok (.putfield 27, 3) := dk_181 0 27 (dk_at dksX1_init_1 10 rfl rfl)
theorem dX1_init_36 : decode cX1_init 36 = .ok (.aload_n 0, 1) := dk_42 (dk_at dksX1_init_1 13 rfl rfl)
theorem dX1_init_37 : decode cX1_init 37 = .ok (.bipush 12, 2) := dk_16 12 (dk_at dksX1_init_1 14 rfl rfl)
theorem dX1_init_39 : decode cX1_init 39 = .ok (.newarray .int, 2) := dk_188_10 (dk_at dksX1_init_1 16 rfl rfl)
theorem dX1_init_41 : decode cX1_init 41 = .ok (.putfield 30, 3) := dk_181 0 30 (dk_at dksX1_init_1 18 rfl rfl)
theorem dX1_init_44 : decode cX1_init 44 = .ok (.aload_n 0, 1) := dk_42 (dk_at dksX1_init_1 21 rfl rfl)
theorem dX1_init_45 : decode cX1_init 45 = .ok (.bipush 24, 2) := dk_16 24 (dk_at dksX1_init_1 22 rfl rfl)
theorem dX1_init_47 : decode cX1_init 47 = .ok (.newarray .int, 2) := dk_188_10 (dk_at dksX1_init_2 0 rfl rfl)
theorem dX1_init_49 : decode cX1_init 49 = .ok (.putfield 33, 3) := dk_181 0 33 (dk_at dksX1_init_2 2 rfl rfl)
theorem dX1_init_52 : decode cX1_init 52 = .ok (.aload_n 0, 1) := dk_42 (dk_at dksX1_init_2 5 rfl rfl)
theorem dX1_init_53 : decode cX1_init 53 = .ok (.bipush 24, 2) := dk_16 24 (dk_at dksX1_init_2 6 rfl rfl)
theorem dX1_init_55 : decode cX1_init 55 = .ok (.newarray .int, 2) := dk_188_10 (dk_at dksX1_init_2 8 rfl rfl)
theorem dX1_init_57 : decode cX1_init 57 = .ok (.putfield 36, 3) := dk_181 0 36 (dk_at dksX1_init_2 10 rfl rfl)
theorem dX1_init_60 : decode cX1_init 60 = .ok (.aload_n 0, 1) := dk_42 (dk_at dksX1_init_2 13 rfl rfl)
theorem dX1_init_61 : decode cX1_init 61 = .ok (.new 39, 3) := dk_187 0 39 (dk_at dksX1_init_2 14 rfl rfl)
theorem dX1_init_64 : decode cX1_init 64 = .ok (.dup, 1) := dk_89 (dk_at dksX1_init_2 17 rfl rfl)
theorem dX1_init_65 : decode cX1_init 65 = .ok (.invokespecial 41, 3) := dk_183 0 41 (dk_at dksX1_init_2 18 rfl rfl)
theorem dX1_init_68 : decode cX1_init 68 = .ok (.putfield 42, 3) := dk_181 0 42 (dk_at dksX1_init_2 21 rfl rfl)
theorem dX1_init_71 : decode cX1_init 71 = .ok (.aload_n 0, 1) := dk_42 (dk_at dksX1_init_3 0 rfl rfl)
theorem dX1_init_72 : decode cX1_init 72 = .ok (.bipush 8, 2) := dk_16 8 (dk_at dksX1_init_3 1 rfl rfl)
theorem dX1_init_74 : decode cX1_init 74 = .ok (.anewarray 39, 3) := dk_189 0 39 (dk_at dksX1_init_3 3 rfl rfl)
theorem dX1_init_77 : decode cX1_init 77 = .ok (.dup, 1) := dk_89 (dk_at dksX1_init_3 6 rfl rfl)
theorem dX1_init_78 : decode cX1_init 78 = .ok (.iconst 0, 1) := dk_3 (dk_at dksX1_init_3 7 rfl rfl)
theorem dX1_init_79 : decode cX1_init 79 = .ok (.new 39, 3) := dk_187 0 39 (dk_at dksX1_init_3 8 rfl rfl)
theorem dX1_init_82 : decode cX1_init 82 = .ok (.dup, 1) := dk_89 (dk_at dksX1_init_3 11 rfl rfl)
theorem dX1_init_83 : decode cX1_init 83 = .ok (.invokespecial 41, 3) := dk_183 0 41 (dk_at dksX1_init_3 12 rfl rfl)
theorem dX1_init_86 : decode cX1_init 86 = .ok (.aastore, 1) := dk_83 (dk_at dksX1_init_3 15 rfl rfl)
theorem dX1_init_87 : decode cX1_init 87 = .ok (.dup, 1) := dk_89 (dk_at dksX1_init_3 16 rfl rfl)
theorem dX1_init_88 : decode cX1_init 88 = .ok (.iconst 1, 1) := dk_4 (dk_at dksX1_init_3 17 rfl rfl)
theorem dX1_init_89 : decode cX1_init 89 = .ok (.new 39, 3) := dk_187 0 39 (dk_at dksX1_init_3 18 rfl rfl)
theorem dX1_init_92 : decode cX1_init 92 = .ok (.dup, 1) := dk_89 (dk_at dksX1_init_3 21 rfl rfl)
theorem dX1_init_93 : decode cX1_init 93 = .ok (.invokespecial 41, 3) := dk_183 0 41 (dk_at dksX1_init_4 0 rfl rfl)
theorem dX1_init_96 : decode cX1_init 96 = .ok (.aastore, 1) := dk_83 (dk_at dksX1_init_4 3 rfl rfl)
theorem dX1_init_97 : decode cX1_init 97 = .ok (.dup, 1) := dk_89 (dk_at dksX1_init_4 4 rfl rfl)
theorem dX1_init_98 : decode cX1_init 98 = .ok (.iconst 2, 1) := dk_5 (dk_at dksX1_init_4 5 rfl rfl)
theorem dX1_init_99 : decode cX1_init 99 = .ok (.new 39, 3) := dk_187 0 39 (dk_at dksX1_init_4 6 rfl rfl)
theorem dX1_init_102 : decode cX1_init 102 = .ok (.dup, 1) := dk_89 (dk_at dksX1_init_4 9 rfl rfl)
theorem dX1_init_103 : decode cX1_init 103 = .ok (.invokespecial 41, 3) := dk_183 0 41 (dk_at dksX1_init_4 10 rfl rfl)
theorem dX1_init_106 : decode cX1_init 106 = .ok (.aastore, 1) := dk_83 (dk_at dksX1_init_4 13 rfl rfl)
theorem dX1_init_107 : decode cX1_init 107 = .ok (.dup, 1) := dk_89 (dk_at dksX1_init_4 14 rfl rfl)
theorem dX1_init_108 : decode cX1_init 108 = .ok (.iconst 3, 1) := dk_6 (dk_at dksX1_init_4 15 rfl rfl)
theorem dX1_init_109 : decode cX1_init 109 = .ok (.new 39, 3) := dk_187 0 39 (dk_at dksX1_init_4 16 rfl rfl)
theorem dX1_init_112 : decode cX1_init 112 = .ok (.dup, 1) := dk_89 (dk_at dksX1_init_4 19 rfl rfl)
theorem dX1_init_113 : decode cX1_init 113 = .ok (.invokespecial 41, 3) := dk_183 0 41 (dk_at dksX1_init_4 20 rfl rfl)
theorem dX1_init_116 : decode cX1_init 116 = .ok (.aastore, 1) := dk_83 (dk_at dksX1_init_4 23 rfl rfl)
theorem dX1_init_117 : decode cX1_init 117 = .ok (.dup, 1) := dk_89 (dk_at dksX1_init_5 0 rfl rfl)
theorem dX1_init_118 : decode cX1_init 118 = .ok (.iconst 4, 1) := dk_7 (dk_at dksX1_init_5 1 rfl rfl)
theorem dX1_init_119 : decode cX1_init 119 = .ok (.new 39, 3) := dk_187 0 39 (dk_at dksX1_init_5 2 rfl rfl)
theorem dX1_init_122 : decode cX1_init 122 = .ok (.dup, 1) := dk_89 (dk_at dksX1_init_5 5 rfl rfl)
theorem dX1_init_123 : decode cX1_init 123 = .ok (.invokespecial 41, 3) := dk_183 0 41 (dk_at dksX1_init_5 6 rfl rfl)
theorem dX1_init_126 : decode cX1_init 126 = .ok (.aastore, 1) := dk_83 (dk_at dksX1_init_5 9 rfl rfl)
theorem dX1_init_127 : decode cX1_init 127 = .ok (.dup, 1) := dk_89 (dk_at dksX1_init_5 10 rfl rfl)
theorem dX1_init_128 : decode cX1_init 128 = .ok (.iconst 5, 1) := dk_8 (dk_at dksX1_init_5 11 rfl rfl)
theorem dX1_init_129 : decode cX1_init 129 = .ok (.new 39, 3) := dk_187 0 39 (dk_at dksX1_init_5 12 rfl rfl)
theorem dX1_init_132 : decode cX1_init 132 = .ok (.dup, 1) := dk_89 (dk_at dksX1_init_5 15 rfl rfl)
theorem dX1_init_133 : decode cX1_init 133 = .ok (.invokespecial 41, 3) := dk_183 0 41 (dk_at dksX1_init_5 16 rfl rfl)
theorem dX1_init_136 : decode cX1_init 136 = .ok (.aastore, 1) := dk_83 (dk_at dksX1_init_5 19 rfl rfl)
theorem dX1_init_137 : decode cX1_init 137 = .ok (.dup, 1) := dk_89 (dk_at dksX1_init_5 20 rfl rfl)
theorem dX1_init_138 : decode cX1_init 138 = .ok (.bipush 6, 2) := dk_16 6 (dk_at dksX1_init_5 21 rfl rfl)
theorem dX1_init_140 : decode cX1_init 140 = .ok (.new 39, 3) := dk_187 0 39 (dk_at dksX1_init_6 0 rfl rfl)
theorem dX1_init_143 : decode cX1_init 143 = .ok (.dup, 1) := dk_89 (dk_at dksX1_init_6 3 rfl rfl)
theorem dX1_init_144 : decode cX1_init 144 = .ok (.invokespecial 41, 3) := dk_183 0 41 (dk_at dksX1_init_6 4 rfl rfl)
theorem dX1_init_147 : decode cX1_init 147 = .ok (.aastore, 1) := dk_83 (dk_at dksX1_init_6 7 rfl rfl)
theorem dX1_init_148 : decode cX1_init 148 = .ok (.dup, 1) := dk_89 (dk_at dksX1_init_6 8 rfl rfl)
theorem dX1_init_149 : decode cX1_init 149 = .ok (.bipush 7, 2) := dk_16 7 (dk_at dksX1_init_6 9 rfl rfl)
theorem dX1_init_151 : decode cX1_init 151 = .ok (.new 39, 3) := dk_187 0 39 (dk_at dksX1_init_6 11 rfl rfl)
theorem dX1_init_154 : decode cX1_init 154 = .ok (.dup, 1) := dk_89 (dk_at dksX1_init_6 14 rfl rfl)
theorem dX1_init_155 : decode cX1_init 155 = .ok (.invokespecial 41, 3) := dk_183 0 41 (dk_at dksX1_init_6 15 rfl rfl)
theorem dX1_init_158 : decode cX1_init 158 = .ok (.aastore, 1) := dk_83 (dk_at dksX1_init_6 18 rfl rfl)
theorem dX1_init_159 : decode cX1_init 159 = .ok (.putfield 46, 3) := dk_181 0 46 (dk_at dksX1_init_6 19 rfl rfl)
theorem dX1_init_162 : decode cX1_init 162 = .ok (.return_, 1) := dk_177 (dk_at dksX1_init_6 22 rfl rfl)
abbrev cX1_begins : ByteArray := prog_11_method_2_code
def yX1_begins : MethodName := ⟨RX1, "begins", "(I)V"⟩
def dkwX1_begins_2 : List UInt8 := [42, 180, 0, 42, 3, 181, 0, 75, 42, 3, 181, 0, 78, 177]
abbrev dktX1_begins_2 : List UInt8 := dkwX1_begins_2 ++ []
def dkwX1_begins_1 : List UInt8 := [181, 0, 63, 42, 3, 181, 0, 66, 42, 180, 0, 42, 3, 181, 0, 69, 42, 180, 0, 42, 3, 181, 0, 72]
abbrev dktX1_begins_1 : List UInt8 := dkwX1_begins_1 ++ dktX1_begins_2
def dkwX1_begins_0 : List UInt8 := [42, 27, 181, 0, 50, 42, 3, 181, 0, 54, 42, 3, 181, 0, 57, 42, 3, 181, 0, 60, 42, 3]
abbrev dktX1_begins_0 : List UInt8 := dkwX1_begins_0 ++ dktX1_begins_1
theorem dksX1_begins_0 : cX1_begins.data.toList.drop 0 = dktX1_begins_0 := by decide +kernel
theorem dksX1_begins_1 : cX1_begins.data.toList.drop 22 = dktX1_begins_1 := dk_seg dksX1_begins_0 22 rfl rfl
theorem dksX1_begins_2 : cX1_begins.data.toList.drop 46 = dktX1_begins_2 := dk_seg dksX1_begins_1 24 rfl rfl
theorem dX1_begins_0 : decode cX1_begins 0 = .ok (.aload_n 0, 1) := dk_42 (dk_at dksX1_begins_0 0 rfl rfl)
theorem dX1_begins_1 : decode cX1_begins 1 = .ok (.iload_n 1, 1) := dk_27 (dk_at dksX1_begins_0 1 rfl rfl)
theorem dX1_begins_2 : decode cX1_begins 2 = .ok (.putfield 50, 3) := dk_181 0 50 (dk_at dksX1_begins_0 2 rfl rfl)
theorem dX1_begins_5 : decode cX1_begins 5 = .ok (.aload_n 0, 1) := dk_42 (dk_at dksX1_begins_0 5 rfl rfl)
theorem dX1_begins_6 : decode cX1_begins 6 = .ok (.iconst 0, 1) := dk_3 (dk_at dksX1_begins_0 6 rfl rfl)
theorem dX1_begins_7 : decode cX1_begins 7 = .ok (.putfield 54, 3) := dk_181 0 54 (dk_at dksX1_begins_0 7 rfl rfl)
theorem dX1_begins_10 : decode cX1_begins 10 = .ok (.aload_n 0, 1) := dk_42 (dk_at dksX1_begins_0 10 rfl rfl)
theorem dX1_begins_11 : decode cX1_begins 11 = .ok (.iconst 0, 1) := dk_3 (dk_at dksX1_begins_0 11 rfl rfl)
theorem dX1_begins_12 : decode cX1_begins 12 = .ok (.putfield 57, 3) := dk_181 0 57 (dk_at dksX1_begins_0 12 rfl rfl)
theorem dX1_begins_15 : decode cX1_begins 15 = .ok (.aload_n 0, 1) := dk_42 (dk_at dksX1_begins_0 15 rfl rfl)
theorem dX1_begins_16 : decode cX1_begins 16 = .ok (.iconst 0, 1) := dk_3 (dk_at dksX1_begins_0 16 rfl rfl)
theorem dX1_begins_17 : decode cX1_begins 17 = .ok (.putfield 60, 3) := dk_181 0 60 (dk_at dksX1_begins_0 17 rfl rfl)
theorem dX1_begins_20 : decode cX1_begins 20 = .ok (.aload_n 0, 1) := dk_42 (dk_at dksX1_begins_0 20 rfl rfl)
theorem dX1_begins_21 : decode cX1_begins 21 = .ok (.iconst 0, 1) := dk_3 (dk_at dksX1_begins_0 21 rfl rfl)
theorem dX1_begins_22 : decode cX1_begins 22 = .ok (.putfield 63, 3) := dk_181 0 63 (dk_at dksX1_begins_1 0 rfl rfl)
theorem dX1_begins_25 : decode cX1_begins 25 = .ok (.aload_n 0, 1) := dk_42 (dk_at dksX1_begins_1 3 rfl rfl)
theorem dX1_begins_26 : decode cX1_begins 26 = .ok (.iconst 0, 1) := dk_3 (dk_at dksX1_begins_1 4 rfl rfl)
theorem dX1_begins_27 : decode cX1_begins 27 = .ok (.putfield 66, 3) := dk_181 0 66 (dk_at dksX1_begins_1 5 rfl rfl)
theorem dX1_begins_30 : decode cX1_begins 30 = .ok (.aload_n 0, 1) := dk_42 (dk_at dksX1_begins_1 8 rfl rfl)
theorem dX1_begins_31 : decode cX1_begins 31 = .ok (.getfield 42, 3) := dk_180 0 42 (dk_at dksX1_begins_1 9 rfl rfl)
theorem dX1_begins_34 : decode cX1_begins 34 = .ok (.iconst 0, 1) := dk_3 (dk_at dksX1_begins_1 12 rfl rfl)
theorem dX1_begins_35 : decode cX1_begins 35 = .ok (.putfield 69, 3) := dk_181 0 69 (dk_at dksX1_begins_1 13 rfl rfl)
theorem dX1_begins_38 : decode cX1_begins 38 = .ok (.aload_n 0, 1) := dk_42 (dk_at dksX1_begins_1 16 rfl rfl)
theorem dX1_begins_39 : decode cX1_begins 39 = .ok (.getfield 42, 3) := dk_180 0 42 (dk_at dksX1_begins_1 17 rfl rfl)
theorem dX1_begins_42 : decode cX1_begins 42 = .ok (.iconst 0, 1) := dk_3 (dk_at dksX1_begins_1 20 rfl rfl)
theorem dX1_begins_43 : decode cX1_begins 43 = .ok (.putfield 72, 3) := dk_181 0 72 (dk_at dksX1_begins_1 21 rfl rfl)
theorem dX1_begins_46 : decode cX1_begins 46 = .ok (.aload_n 0, 1) := dk_42 (dk_at dksX1_begins_2 0 rfl rfl)
theorem dX1_begins_47 : decode cX1_begins 47 = .ok (.getfield 42, 3) := dk_180 0 42 (dk_at dksX1_begins_2 1 rfl rfl)
theorem dX1_begins_50 : decode cX1_begins 50 = .ok (.iconst 0, 1) := dk_3 (dk_at dksX1_begins_2 4 rfl rfl)
theorem dX1_begins_51 : decode cX1_begins 51 = .ok (.putfield 75, 3) := dk_181 0 75 (dk_at dksX1_begins_2 5 rfl rfl)
theorem dX1_begins_54 : decode cX1_begins 54 = .ok (.aload_n 0, 1) := dk_42 (dk_at dksX1_begins_2 8 rfl rfl)
theorem dX1_begins_55 : decode cX1_begins 55 = .ok (.iconst 0, 1) := dk_3 (dk_at dksX1_begins_2 9 rfl rfl)
theorem dX1_begins_56 : decode cX1_begins 56 = .ok (.putfield 78, 3) := dk_181 0 78 (dk_at dksX1_begins_2 10 rfl rfl)
theorem dX1_begins_59 : decode cX1_begins 59 = .ok (.return_, 1) := dk_177 (dk_at dksX1_begins_2 13 rfl rfl)
abbrev cX1_adds : ByteArray := prog_11_method_3_code
def yX1_adds : MethodName := ⟨RX1, "adds", "(III)V"⟩
def dkwX1_adds_2 : List UInt8 := [3, 181, 0, 78, 177]
abbrev dktX1_adds_2 : List UInt8 := dkwX1_adds_2 ++ []
def dkwX1_adds_1 : List UInt8 := [42, 180, 0, 42, 180, 0, 84, 42, 180, 0, 54, 29, 79, 42, 89, 180, 0, 54, 4, 96, 181, 0, 54, 42]
abbrev dktX1_adds_1 : List UInt8 := dkwX1_adds_1 ++ dktX1_adds_2
def dkwX1_adds_0 : List UInt8 := [42, 180, 0, 11, 42, 180, 0, 54, 178, 0, 81, 27, 50, 83, 42, 180, 0, 17, 42, 180, 0, 54, 28, 79]
abbrev dktX1_adds_0 : List UInt8 := dkwX1_adds_0 ++ dktX1_adds_1
theorem dksX1_adds_0 : cX1_adds.data.toList.drop 0 = dktX1_adds_0 := by decide +kernel
theorem dksX1_adds_1 : cX1_adds.data.toList.drop 24 = dktX1_adds_1 := dk_seg dksX1_adds_0 24 rfl rfl
theorem dksX1_adds_2 : cX1_adds.data.toList.drop 48 = dktX1_adds_2 := dk_seg dksX1_adds_1 24 rfl rfl
theorem dX1_adds_0 : decode cX1_adds 0 = .ok (.aload_n 0, 1) := dk_42 (dk_at dksX1_adds_0 0 rfl rfl)
theorem dX1_adds_1 : decode cX1_adds 1 = .ok (.getfield 11, 3) := dk_180 0 11 (dk_at dksX1_adds_0 1 rfl rfl)
theorem dX1_adds_4 : decode cX1_adds 4 = .ok (.aload_n 0, 1) := dk_42 (dk_at dksX1_adds_0 4 rfl rfl)
theorem dX1_adds_5 : decode cX1_adds 5 = .ok (.getfield 54, 3) := dk_180 0 54 (dk_at dksX1_adds_0 5 rfl rfl)
theorem dX1_adds_8 : decode cX1_adds 8 = .ok (.getstatic 81, 3) := dk_178 0 81 (dk_at dksX1_adds_0 8 rfl rfl)
theorem dX1_adds_11 : decode cX1_adds 11 = .ok (.iload_n 1, 1) := dk_27 (dk_at dksX1_adds_0 11 rfl rfl)
theorem dX1_adds_12 : decode cX1_adds 12 = .ok (.aaload, 1) := dk_50 (dk_at dksX1_adds_0 12 rfl rfl)
theorem dX1_adds_13 : decode cX1_adds 13 = .ok (.aastore, 1) := dk_83 (dk_at dksX1_adds_0 13 rfl rfl)
theorem dX1_adds_14 : decode cX1_adds 14 = .ok (.aload_n 0, 1) := dk_42 (dk_at dksX1_adds_0 14 rfl rfl)
theorem dX1_adds_15 : decode cX1_adds 15 = .ok (.getfield 17, 3) := dk_180 0 17 (dk_at dksX1_adds_0 15 rfl rfl)
theorem dX1_adds_18 : decode cX1_adds 18 = .ok (.aload_n 0, 1) := dk_42 (dk_at dksX1_adds_0 18 rfl rfl)
theorem dX1_adds_19 : decode cX1_adds 19 = .ok (.getfield 54, 3) := dk_180 0 54 (dk_at dksX1_adds_0 19 rfl rfl)
theorem dX1_adds_22 : decode cX1_adds 22 = .ok (.iload_n 2, 1) := dk_28 (dk_at dksX1_adds_0 22 rfl rfl)
theorem dX1_adds_23 : decode cX1_adds 23 = .ok (.iastore, 1) := dk_79 (dk_at dksX1_adds_0 23 rfl rfl)
theorem dX1_adds_24 : decode cX1_adds 24 = .ok (.aload_n 0, 1) := dk_42 (dk_at dksX1_adds_1 0 rfl rfl)
theorem dX1_adds_25 : decode cX1_adds 25 = .ok (.getfield 42, 3) := dk_180 0 42 (dk_at dksX1_adds_1 1 rfl rfl)
theorem dX1_adds_28 : decode cX1_adds 28 = .ok (.getfield 84, 3) := dk_180 0 84 (dk_at dksX1_adds_1 4 rfl rfl)
theorem dX1_adds_31 : decode cX1_adds 31 = .ok (.aload_n 0, 1) := dk_42 (dk_at dksX1_adds_1 7 rfl rfl)
theorem dX1_adds_32 : decode cX1_adds 32 = .ok (.getfield 54, 3) := dk_180 0 54 (dk_at dksX1_adds_1 8 rfl rfl)
theorem dX1_adds_35 : decode cX1_adds 35 = .ok (.iload_n 3, 1) := dk_29 (dk_at dksX1_adds_1 11 rfl rfl)
theorem dX1_adds_36 : decode cX1_adds 36 = .ok (.iastore, 1) := dk_79 (dk_at dksX1_adds_1 12 rfl rfl)
theorem dX1_adds_37 : decode cX1_adds 37 = .ok (.aload_n 0, 1) := dk_42 (dk_at dksX1_adds_1 13 rfl rfl)
theorem dX1_adds_38 : decode cX1_adds 38 = .ok (.dup, 1) := dk_89 (dk_at dksX1_adds_1 14 rfl rfl)
theorem dX1_adds_39 : decode cX1_adds 39 = .ok (.getfield 54, 3) := dk_180 0 54 (dk_at dksX1_adds_1 15 rfl rfl)
theorem dX1_adds_42 : decode cX1_adds 42 = .ok (.iconst 1, 1) := dk_4 (dk_at dksX1_adds_1 18 rfl rfl)
theorem dX1_adds_43 : decode cX1_adds 43 = .ok (.iadd, 1) := dk_96 (dk_at dksX1_adds_1 19 rfl rfl)
theorem dX1_adds_44 : decode cX1_adds 44 = .ok (.putfield 54, 3) := dk_181 0 54 (dk_at dksX1_adds_1 20 rfl rfl)
theorem dX1_adds_47 : decode cX1_adds 47 = .ok (.aload_n 0, 1) := dk_42 (dk_at dksX1_adds_1 23 rfl rfl)
theorem dX1_adds_48 : decode cX1_adds 48 = .ok (.iconst 0, 1) := dk_3 (dk_at dksX1_adds_2 0 rfl rfl)
theorem dX1_adds_49 : decode cX1_adds 49 = .ok (.putfield 78, 3) := dk_181 0 78 (dk_at dksX1_adds_2 1 rfl rfl)
theorem dX1_adds_52 : decode cX1_adds 52 = .ok (.return_, 1) := dk_177 (dk_at dksX1_adds_2 4 rfl rfl)
abbrev cX1_comes : ByteArray := prog_11_method_4_code
def yX1_comes : MethodName := ⟨RX1, "comes", "(II)V"⟩
def dkwX1_comes_2 : List UInt8 := [96, 181, 0, 57, 42, 3, 181, 0, 78, 177]
abbrev dktX1_comes_2 : List UInt8 := dkwX1_comes_2 ++ []
def dkwX1_comes_1 : List UInt8 := [42, 180, 0, 42, 89, 180, 0, 69, 4, 42, 180, 0, 57, 120, 128, 181, 0, 69, 42, 89, 180, 0, 57, 4]
abbrev dktX1_comes_1 : List UInt8 := dkwX1_comes_1 ++ dktX1_comes_2
def dkwX1_comes_0 : List UInt8 := [42, 180, 0, 23, 42, 180, 0, 57, 178, 0, 87, 27, 50, 83, 42, 180, 0, 27, 42, 180, 0, 57, 28, 79]
abbrev dktX1_comes_0 : List UInt8 := dkwX1_comes_0 ++ dktX1_comes_1
theorem dksX1_comes_0 : cX1_comes.data.toList.drop 0 = dktX1_comes_0 := by decide +kernel
theorem dksX1_comes_1 : cX1_comes.data.toList.drop 24 = dktX1_comes_1 := dk_seg dksX1_comes_0 24 rfl rfl
theorem dksX1_comes_2 : cX1_comes.data.toList.drop 48 = dktX1_comes_2 := dk_seg dksX1_comes_1 24 rfl rfl
theorem dX1_comes_0 : decode cX1_comes 0 = .ok (.aload_n 0, 1) := dk_42 (dk_at dksX1_comes_0 0 rfl rfl)
theorem dX1_comes_1 : decode cX1_comes 1 = .ok (.getfield 23, 3) := dk_180 0 23 (dk_at dksX1_comes_0 1 rfl rfl)
theorem dX1_comes_4 : decode cX1_comes 4 = .ok (.aload_n 0, 1) := dk_42 (dk_at dksX1_comes_0 4 rfl rfl)
theorem dX1_comes_5 : decode cX1_comes 5 = .ok (.getfield 57, 3) := dk_180 0 57 (dk_at dksX1_comes_0 5 rfl rfl)
theorem dX1_comes_8 : decode cX1_comes 8 = .ok (.getstatic 87, 3) := dk_178 0 87 (dk_at dksX1_comes_0 8 rfl rfl)
theorem dX1_comes_11 : decode cX1_comes 11 = .ok (.iload_n 1, 1) := dk_27 (dk_at dksX1_comes_0 11 rfl rfl)
theorem dX1_comes_12 : decode cX1_comes 12 = .ok (.aaload, 1) := dk_50 (dk_at dksX1_comes_0 12 rfl rfl)
theorem dX1_comes_13 : decode cX1_comes 13 = .ok (.aastore, 1) := dk_83 (dk_at dksX1_comes_0 13 rfl rfl)
theorem dX1_comes_14 : decode cX1_comes 14 = .ok (.aload_n 0, 1) := dk_42 (dk_at dksX1_comes_0 14 rfl rfl)
theorem dX1_comes_15 : decode cX1_comes 15 = .ok (.getfield 27, 3) := dk_180 0 27 (dk_at dksX1_comes_0 15 rfl rfl)
theorem dX1_comes_18 : decode cX1_comes 18 = .ok (.aload_n 0, 1) := dk_42 (dk_at dksX1_comes_0 18 rfl rfl)
theorem dX1_comes_19 : decode cX1_comes 19 = .ok (.getfield 57, 3) := dk_180 0 57 (dk_at dksX1_comes_0 19 rfl rfl)
theorem dX1_comes_22 : decode cX1_comes 22 = .ok (.iload_n 2, 1) := dk_28 (dk_at dksX1_comes_0 22 rfl rfl)
theorem dX1_comes_23 : decode cX1_comes 23 = .ok (.iastore, 1) := dk_79 (dk_at dksX1_comes_0 23 rfl rfl)
theorem dX1_comes_24 : decode cX1_comes 24 = .ok (.aload_n 0, 1) := dk_42 (dk_at dksX1_comes_1 0 rfl rfl)
theorem dX1_comes_25 : decode cX1_comes 25 = .ok (.getfield 42, 3) := dk_180 0 42 (dk_at dksX1_comes_1 1 rfl rfl)
theorem dX1_comes_28 : decode cX1_comes 28 = .ok (.dup, 1) := dk_89 (dk_at dksX1_comes_1 4 rfl rfl)
theorem dX1_comes_29 : decode cX1_comes 29 = .ok (.getfield 69, 3) := dk_180 0 69 (dk_at dksX1_comes_1 5 rfl rfl)
theorem dX1_comes_32 : decode cX1_comes 32 = .ok (.iconst 1, 1) := dk_4 (dk_at dksX1_comes_1 8 rfl rfl)
theorem dX1_comes_33 : decode cX1_comes 33 = .ok (.aload_n 0, 1) := dk_42 (dk_at dksX1_comes_1 9 rfl rfl)
theorem dX1_comes_34 : decode cX1_comes 34 = .ok (.getfield 57, 3) := dk_180 0 57 (dk_at dksX1_comes_1 10 rfl rfl)
theorem dX1_comes_37 : decode cX1_comes 37 = .ok (.ishl, 1) := dk_120 (dk_at dksX1_comes_1 13 rfl rfl)
theorem dX1_comes_38 : decode cX1_comes 38 = .ok (.ior, 1) := dk_128 (dk_at dksX1_comes_1 14 rfl rfl)
theorem dX1_comes_39 : decode cX1_comes 39 = .ok (.putfield 69, 3) := dk_181 0 69 (dk_at dksX1_comes_1 15 rfl rfl)
theorem dX1_comes_42 : decode cX1_comes 42 = .ok (.aload_n 0, 1) := dk_42 (dk_at dksX1_comes_1 18 rfl rfl)
theorem dX1_comes_43 : decode cX1_comes 43 = .ok (.dup, 1) := dk_89 (dk_at dksX1_comes_1 19 rfl rfl)
theorem dX1_comes_44 : decode cX1_comes 44 = .ok (.getfield 57, 3) := dk_180 0 57 (dk_at dksX1_comes_1 20 rfl rfl)
theorem dX1_comes_47 : decode cX1_comes 47 = .ok (.iconst 1, 1) := dk_4 (dk_at dksX1_comes_1 23 rfl rfl)
theorem dX1_comes_48 : decode cX1_comes 48 = .ok (.iadd, 1) := dk_96 (dk_at dksX1_comes_2 0 rfl rfl)
theorem dX1_comes_49 : decode cX1_comes 49 = .ok (.putfield 57, 3) := dk_181 0 57 (dk_at dksX1_comes_2 1 rfl rfl)
theorem dX1_comes_52 : decode cX1_comes 52 = .ok (.aload_n 0, 1) := dk_42 (dk_at dksX1_comes_2 4 rfl rfl)
theorem dX1_comes_53 : decode cX1_comes 53 = .ok (.iconst 0, 1) := dk_3 (dk_at dksX1_comes_2 5 rfl rfl)
theorem dX1_comes_54 : decode cX1_comes 54 = .ok (.putfield 78, 3) := dk_181 0 78 (dk_at dksX1_comes_2 6 rfl rfl)
theorem dX1_comes_57 : decode cX1_comes 57 = .ok (.return_, 1) := dk_177 (dk_at dksX1_comes_2 9 rfl rfl)
abbrev cX1_passes : ByteArray := prog_11_method_11_code
def yX1_passes : MethodName := ⟨RX1, "passes", "(LLaneCymbals$State;)V"⟩
def dkwX1_passes_1 : List UInt8 := [181, 0, 72, 43, 89, 180, 0, 75, 4, 96, 181, 0, 75, 177]
abbrev dktX1_passes_1 : List UInt8 := dkwX1_passes_1 ++ []
def dkwX1_passes_0 : List UInt8 := [43, 17, 39, 15, 43, 180, 0, 72, 5, 108, 42, 43, 43, 180, 0, 75, 182, 0, 117, 96, 184, 0, 121]
abbrev dktX1_passes_0 : List UInt8 := dkwX1_passes_0 ++ dktX1_passes_1
theorem dksX1_passes_0 : cX1_passes.data.toList.drop 0 = dktX1_passes_0 := by decide +kernel
theorem dksX1_passes_1 : cX1_passes.data.toList.drop 23 = dktX1_passes_1 := dk_seg dksX1_passes_0 23 rfl rfl
theorem dX1_passes_0 : decode cX1_passes 0 = .ok (.aload_n 1, 1) := dk_43 (dk_at dksX1_passes_0 0 rfl rfl)
theorem dX1_passes_1 : decode cX1_passes 1 = .ok (.sipush 9999, 3) := dk_17 39 15 (dk_at dksX1_passes_0 1 rfl rfl)
theorem dX1_passes_4 : decode cX1_passes 4 = .ok (.aload_n 1, 1) := dk_43 (dk_at dksX1_passes_0 4 rfl rfl)
theorem dX1_passes_5 : decode cX1_passes 5 = .ok (.getfield 72, 3) := dk_180 0 72 (dk_at dksX1_passes_0 5 rfl rfl)
theorem dX1_passes_8 : decode cX1_passes 8 = .ok (.iconst 2, 1) := dk_5 (dk_at dksX1_passes_0 8 rfl rfl)
theorem dX1_passes_9 : decode cX1_passes 9 = .ok (.idiv, 1) := dk_108 (dk_at dksX1_passes_0 9 rfl rfl)
theorem dX1_passes_10 : decode cX1_passes 10 = .ok (.aload_n 0, 1) := dk_42 (dk_at dksX1_passes_0 10 rfl rfl)
theorem dX1_passes_11 : decode cX1_passes 11 = .ok (.aload_n 1, 1) := dk_43 (dk_at dksX1_passes_0 11 rfl rfl)
theorem dX1_passes_12 : decode cX1_passes 12 = .ok (.aload_n 1, 1) := dk_43 (dk_at dksX1_passes_0 12 rfl rfl)
theorem dX1_passes_13 : decode cX1_passes 13 = .ok (.getfield 75, 3) := dk_180 0 75 (dk_at dksX1_passes_0 13 rfl rfl)
theorem dX1_passes_16 : decode cX1_passes 16 = .ok (.invokevirtual 117, 3) := dk_182 0 117 (dk_at dksX1_passes_0 16 rfl rfl)
theorem dX1_passes_19 : decode cX1_passes 19 = .ok (.iadd, 1) := dk_96 (dk_at dksX1_passes_0 19 rfl rfl)
theorem dX1_passes_20 : decode cX1_passes 20 = .ok (.invokestatic 121, 3) := dk_184 0 121 (dk_at dksX1_passes_0 20 rfl rfl)
theorem dX1_passes_23 : decode cX1_passes 23 = .ok (.putfield 72, 3) := dk_181 0 72 (dk_at dksX1_passes_1 0 rfl rfl)
theorem dX1_passes_26 : decode cX1_passes 26 = .ok (.aload_n 1, 1) := dk_43 (dk_at dksX1_passes_1 3 rfl rfl)
theorem dX1_passes_27 : decode cX1_passes 27 = .ok (.dup, 1) := dk_89 (dk_at dksX1_passes_1 4 rfl rfl)
theorem dX1_passes_28 : decode cX1_passes 28 = .ok (.getfield 75, 3) := dk_180 0 75 (dk_at dksX1_passes_1 5 rfl rfl)
theorem dX1_passes_31 : decode cX1_passes 31 = .ok (.iconst 1, 1) := dk_4 (dk_at dksX1_passes_1 8 rfl rfl)
theorem dX1_passes_32 : decode cX1_passes 32 = .ok (.iadd, 1) := dk_96 (dk_at dksX1_passes_1 9 rfl rfl)
theorem dX1_passes_33 : decode cX1_passes 33 = .ok (.putfield 75, 3) := dk_181 0 75 (dk_at dksX1_passes_1 10 rfl rfl)
theorem dX1_passes_36 : decode cX1_passes 36 = .ok (.return_, 1) := dk_177 (dk_at dksX1_passes_1 13 rfl rfl)
abbrev cX1_sound : ByteArray := prog_11_method_10_code
def yX1_sound : MethodName := ⟨RX1, "sound", "(LLaneCymbals$State;I)I"⟩
def dkwX1_sound_0 : List UInt8 := [42, 43, 28, 42, 180, 0, 50, 2, 182, 0, 113, 172]
abbrev dktX1_sound_0 : List UInt8 := dkwX1_sound_0 ++ []
theorem dksX1_sound_0 : cX1_sound.data.toList.drop 0 = dktX1_sound_0 := by decide +kernel
theorem dX1_sound_0 : decode cX1_sound 0 = .ok (.aload_n 0, 1) := dk_42 (dk_at dksX1_sound_0 0 rfl rfl)
theorem dX1_sound_1 : decode cX1_sound 1 = .ok (.aload_n 1, 1) := dk_43 (dk_at dksX1_sound_0 1 rfl rfl)
theorem dX1_sound_2 : decode cX1_sound 2 = .ok (.iload_n 2, 1) := dk_28 (dk_at dksX1_sound_0 2 rfl rfl)
theorem dX1_sound_3 : decode cX1_sound 3 = .ok (.aload_n 0, 1) := dk_42 (dk_at dksX1_sound_0 3 rfl rfl)
theorem dX1_sound_4 : decode cX1_sound 4 = .ok (.getfield 50, 3) := dk_180 0 50 (dk_at dksX1_sound_0 4 rfl rfl)
theorem dX1_sound_7 : decode cX1_sound 7 = .ok (.iconst (-1), 1) := dk_2 (dk_at dksX1_sound_0 7 rfl rfl)
theorem dX1_sound_8 : decode cX1_sound 8 = .ok (.invokevirtual 113, 3) := dk_182 0 113 (dk_at dksX1_sound_0 8 rfl rfl)
theorem dX1_sound_11 : decode cX1_sound 11 = .ok (.ireturn, 1) := dk_172 (dk_at dksX1_sound_0 11 rfl rfl)
abbrev cX1_soundBut : ByteArray := prog_11_method_9_code
def yX1_soundBut : MethodName := ⟨RX1, "soundBut", "(LLaneCymbals$State;III)I"⟩
def dkwX1_soundBut_5 : List UInt8 := [54, 5, 132, 7, 1, 167, 255, 150, 132, 6, 1, 167, 255, 132, 21, 5, 172]
abbrev dktX1_soundBut_5 : List UInt8 := dkwX1_soundBut_5 ++ []
def dkwX1_soundBut_4 : List UInt8 := [21, 8, 21, 9, 96, 29, 161, 0, 15, 21, 8, 21, 9, 96, 29, 100, 4, 96, 167, 0, 4, 3, 96]
abbrev dktX1_soundBut_4 : List UInt8 := dkwX1_soundBut_4 ++ dktX1_soundBut_5
def dkwX1_soundBut_3 : List UInt8 := [42, 43, 21, 7, 28, 182, 0, 110, 54, 9, 21, 5, 21, 8, 4, 161, 0, 30, 21, 9, 4, 161, 0, 24]
abbrev dktX1_soundBut_3 : List UInt8 := dkwX1_soundBut_3 ++ dktX1_soundBut_4
def dkwX1_soundBut_2 : List UInt8 := [21, 6, 21, 4, 159, 0, 69, 21, 7, 21, 4, 159, 0, 62, 42, 43, 21, 6, 28, 182, 0, 110, 54, 8]
abbrev dktX1_soundBut_2 : List UInt8 := dkwX1_soundBut_2 ++ dktX1_soundBut_3
def dkwX1_soundBut_1 : List UInt8 := [162, 0, 103, 42, 180, 0, 17, 21, 6, 46, 154, 0, 87, 42, 180, 0, 17, 21, 7, 46, 4, 160, 0, 76]
abbrev dktX1_soundBut_1 : List UInt8 := dkwX1_soundBut_1 ++ dktX1_soundBut_2
def dkwX1_soundBut_0 : List UInt8 := [3, 54, 5, 3, 54, 6, 21, 6, 42, 180, 0, 54, 162, 0, 121, 3, 54, 7, 21, 7, 42, 180, 0, 54]
abbrev dktX1_soundBut_0 : List UInt8 := dkwX1_soundBut_0 ++ dktX1_soundBut_1
theorem dksX1_soundBut_0 : cX1_soundBut.data.toList.drop 0 = dktX1_soundBut_0 := by decide +kernel
theorem dksX1_soundBut_1 : cX1_soundBut.data.toList.drop 24 = dktX1_soundBut_1 := dk_seg dksX1_soundBut_0 24 rfl rfl
theorem dksX1_soundBut_2 : cX1_soundBut.data.toList.drop 48 = dktX1_soundBut_2 := dk_seg dksX1_soundBut_1 24 rfl rfl
theorem dksX1_soundBut_3 : cX1_soundBut.data.toList.drop 72 = dktX1_soundBut_3 := dk_seg dksX1_soundBut_2 24 rfl rfl
theorem dksX1_soundBut_4 : cX1_soundBut.data.toList.drop 96 = dktX1_soundBut_4 := dk_seg dksX1_soundBut_3 24 rfl rfl
theorem dksX1_soundBut_5 : cX1_soundBut.data.toList.drop 119 = dktX1_soundBut_5 := dk_seg dksX1_soundBut_4 23 rfl rfl
theorem dX1_soundBut_0 : decode cX1_soundBut 0 = .ok (.iconst 0, 1) := dk_3 (dk_at dksX1_soundBut_0 0 rfl rfl)
theorem dX1_soundBut_1 : decode cX1_soundBut 1 = .ok (.istore 5, 2) := dk_54 5 (dk_at dksX1_soundBut_0 1 rfl rfl)
theorem dX1_soundBut_3 : decode cX1_soundBut 3 = .ok (.iconst 0, 1) := dk_3 (dk_at dksX1_soundBut_0 3 rfl rfl)
theorem dX1_soundBut_4 : decode cX1_soundBut 4 = .ok (.istore 6, 2) := dk_54 6 (dk_at dksX1_soundBut_0 4 rfl rfl)
theorem dX1_soundBut_6 : decode cX1_soundBut 6 = .ok (.iload 6, 2) := dk_21 6 (dk_at dksX1_soundBut_0 6 rfl rfl)
theorem dX1_soundBut_8 : decode cX1_soundBut 8 = .ok (.aload_n 0, 1) := dk_42 (dk_at dksX1_soundBut_0 8 rfl rfl)
theorem dX1_soundBut_9 : decode cX1_soundBut 9 = .ok (.getfield 54, 3) := dk_180 0 54 (dk_at dksX1_soundBut_0 9 rfl rfl)
theorem dX1_soundBut_12 : decode cX1_soundBut 12 = .ok (.if_icmp .ge 121, 3) := dk_162 0 121 (dk_at dksX1_soundBut_0 12 rfl rfl)
theorem dX1_soundBut_15 : decode cX1_soundBut 15 = .ok (.iconst 0, 1) := dk_3 (dk_at dksX1_soundBut_0 15 rfl rfl)
theorem dX1_soundBut_16 : decode cX1_soundBut 16 = .ok (.istore 7, 2) := dk_54 7 (dk_at dksX1_soundBut_0 16 rfl rfl)
theorem dX1_soundBut_18 : decode cX1_soundBut 18 = .ok (.iload 7, 2) := dk_21 7 (dk_at dksX1_soundBut_0 18 rfl rfl)
theorem dX1_soundBut_20 : decode cX1_soundBut 20 = .ok (.aload_n 0, 1) := dk_42 (dk_at dksX1_soundBut_0 20 rfl rfl)
theorem dX1_soundBut_21 : decode cX1_soundBut 21 = .ok (.getfield 54, 3) := dk_180 0 54 (dk_at dksX1_soundBut_0 21 rfl rfl)
theorem dX1_soundBut_24 : decode cX1_soundBut 24 = .ok (.if_icmp .ge 103, 3) := dk_162 0 103 (dk_at dksX1_soundBut_1 0 rfl rfl)
theorem dX1_soundBut_27 : decode cX1_soundBut 27 = .ok (.aload_n 0, 1) := dk_42 (dk_at dksX1_soundBut_1 3 rfl rfl)
theorem dX1_soundBut_28 : decode cX1_soundBut 28 = .ok (.getfield 17, 3) := dk_180 0 17 (dk_at dksX1_soundBut_1 4 rfl rfl)
theorem dX1_soundBut_31 : decode cX1_soundBut 31 = .ok (.iload 6, 2) := dk_21 6 (dk_at dksX1_soundBut_1 7 rfl rfl)
theorem dX1_soundBut_33 : decode cX1_soundBut 33 = .ok (.iaload, 1) := dk_46 (dk_at dksX1_soundBut_1 9 rfl rfl)
theorem dX1_soundBut_34 : decode cX1_soundBut 34 = .ok (.ifCond .ne 87, 3) := dk_154 0 87 (dk_at dksX1_soundBut_1 10 rfl rfl)
theorem dX1_soundBut_37 : decode cX1_soundBut 37 = .ok (.aload_n 0, 1) := dk_42 (dk_at dksX1_soundBut_1 13 rfl rfl)
theorem dX1_soundBut_38 : decode cX1_soundBut 38 = .ok (.getfield 17, 3) := dk_180 0 17 (dk_at dksX1_soundBut_1 14 rfl rfl)
theorem dX1_soundBut_41 : decode cX1_soundBut 41 = .ok (.iload 7, 2) := dk_21 7 (dk_at dksX1_soundBut_1 17 rfl rfl)
theorem dX1_soundBut_43 : decode cX1_soundBut 43 = .ok (.iaload, 1) := dk_46 (dk_at dksX1_soundBut_1 19 rfl rfl)
theorem dX1_soundBut_44 : decode cX1_soundBut 44 = .ok (.iconst 1, 1) := dk_4 (dk_at dksX1_soundBut_1 20 rfl rfl)
theorem dX1_soundBut_45 : decode cX1_soundBut 45 = .ok (.if_icmp .ne 76, 3) := dk_160 0 76 (dk_at dksX1_soundBut_1 21 rfl rfl)
theorem dX1_soundBut_48 : decode cX1_soundBut 48 = .ok (.iload 6, 2) := dk_21 6 (dk_at dksX1_soundBut_2 0 rfl rfl)
theorem dX1_soundBut_50 : decode cX1_soundBut 50 = .ok (.iload 4, 2) := dk_21 4 (dk_at dksX1_soundBut_2 2 rfl rfl)
theorem dX1_soundBut_52 : decode cX1_soundBut 52 = .ok (.if_icmp .eq 69, 3) := dk_159 0 69 (dk_at dksX1_soundBut_2 4 rfl rfl)
theorem dX1_soundBut_55 : decode cX1_soundBut 55 = .ok (.iload 7, 2) := dk_21 7 (dk_at dksX1_soundBut_2 7 rfl rfl)
theorem dX1_soundBut_57 : decode cX1_soundBut 57 = .ok (.iload 4, 2) := dk_21 4 (dk_at dksX1_soundBut_2 9 rfl rfl)
theorem dX1_soundBut_59 : decode cX1_soundBut 59 = .ok (.if_icmp .eq 62, 3) := dk_159 0 62 (dk_at dksX1_soundBut_2 11 rfl rfl)
theorem dX1_soundBut_62 : decode cX1_soundBut 62 = .ok (.aload_n 0, 1) := dk_42 (dk_at dksX1_soundBut_2 14 rfl rfl)
theorem dX1_soundBut_63 : decode cX1_soundBut 63 = .ok (.aload_n 1, 1) := dk_43 (dk_at dksX1_soundBut_2 15 rfl rfl)
theorem dX1_soundBut_64 : decode cX1_soundBut 64 = .ok (.iload 6, 2) := dk_21 6 (dk_at dksX1_soundBut_2 16 rfl rfl)
theorem dX1_soundBut_66 : decode cX1_soundBut 66 = .ok (.iload_n 2, 1) := dk_28 (dk_at dksX1_soundBut_2 18 rfl rfl)
theorem dX1_soundBut_67 : decode cX1_soundBut 67 = .ok (.invokevirtual 110, 3) := dk_182 0 110 (dk_at dksX1_soundBut_2 19 rfl rfl)
theorem dX1_soundBut_70 : decode cX1_soundBut 70 = .ok (.istore 8, 2) := dk_54 8 (dk_at dksX1_soundBut_2 22 rfl rfl)
theorem dX1_soundBut_72 : decode cX1_soundBut 72 = .ok (.aload_n 0, 1) := dk_42 (dk_at dksX1_soundBut_3 0 rfl rfl)
theorem dX1_soundBut_73 : decode cX1_soundBut 73 = .ok (.aload_n 1, 1) := dk_43 (dk_at dksX1_soundBut_3 1 rfl rfl)
theorem dX1_soundBut_74 : decode cX1_soundBut 74 = .ok (.iload 7, 2) := dk_21 7 (dk_at dksX1_soundBut_3 2 rfl rfl)
theorem dX1_soundBut_76 : decode cX1_soundBut 76 = .ok (.iload_n 2, 1) := dk_28 (dk_at dksX1_soundBut_3 4 rfl rfl)
theorem dX1_soundBut_77 : decode cX1_soundBut 77 = .ok (.invokevirtual 110, 3) := dk_182 0 110 (dk_at dksX1_soundBut_3 5 rfl rfl)
theorem dX1_soundBut_80 : decode cX1_soundBut 80 = .ok (.istore 9, 2) := dk_54 9 (dk_at dksX1_soundBut_3 8 rfl rfl)
theorem dX1_soundBut_82 : decode cX1_soundBut 82 = .ok (.iload 5, 2) := dk_21 5 (dk_at dksX1_soundBut_3 10 rfl rfl)
theorem dX1_soundBut_84 : decode cX1_soundBut 84 = .ok (.iload 8, 2) := dk_21 8 (dk_at dksX1_soundBut_3 12 rfl rfl)
theorem dX1_soundBut_86 : decode cX1_soundBut 86 = .ok (.iconst 1, 1) := dk_4 (dk_at dksX1_soundBut_3 14 rfl rfl)
theorem dX1_soundBut_87 : decode cX1_soundBut 87 = .ok (.if_icmp .lt 30, 3) := dk_161 0 30 (dk_at dksX1_soundBut_3 15 rfl rfl)
theorem dX1_soundBut_90 : decode cX1_soundBut 90 = .ok (.iload 9, 2) := dk_21 9 (dk_at dksX1_soundBut_3 18 rfl rfl)
theorem dX1_soundBut_92 : decode cX1_soundBut 92 = .ok (.iconst 1, 1) := dk_4 (dk_at dksX1_soundBut_3 20 rfl rfl)
theorem dX1_soundBut_93 : decode cX1_soundBut 93 = .ok (.if_icmp .lt 24, 3) := dk_161 0 24 (dk_at dksX1_soundBut_3 21 rfl rfl)
theorem dX1_soundBut_96 : decode cX1_soundBut 96 = .ok (.iload 8, 2) := dk_21 8 (dk_at dksX1_soundBut_4 0 rfl rfl)
theorem dX1_soundBut_98 : decode cX1_soundBut 98 = .ok (.iload 9, 2) := dk_21 9 (dk_at dksX1_soundBut_4 2 rfl rfl)
theorem dX1_soundBut_100 : decode cX1_soundBut 100 = .ok (.iadd, 1) := dk_96 (dk_at dksX1_soundBut_4 4 rfl rfl)
theorem dX1_soundBut_101 : decode cX1_soundBut 101 = .ok (.iload_n 3, 1) := dk_29 (dk_at dksX1_soundBut_4 5 rfl rfl)
theorem dX1_soundBut_102 : decode cX1_soundBut 102 = .ok (.if_icmp .lt 15, 3) := dk_161 0 15 (dk_at dksX1_soundBut_4 6 rfl rfl)
theorem dX1_soundBut_105 : decode cX1_soundBut 105 = .ok (.iload 8, 2) := dk_21 8 (dk_at dksX1_soundBut_4 9 rfl rfl)
theorem dX1_soundBut_107 : decode cX1_soundBut 107 = .ok (.iload 9, 2) := dk_21 9 (dk_at dksX1_soundBut_4 11 rfl rfl)
theorem dX1_soundBut_109 : decode cX1_soundBut 109 = .ok (.iadd, 1) := dk_96 (dk_at dksX1_soundBut_4 13 rfl rfl)
theorem dX1_soundBut_110 : decode cX1_soundBut 110 = .ok (.iload_n 3, 1) := dk_29 (dk_at dksX1_soundBut_4 14 rfl rfl)
theorem dX1_soundBut_111 : decode cX1_soundBut 111 = .ok (.isub, 1) := dk_100 (dk_at dksX1_soundBut_4 15 rfl rfl)
theorem dX1_soundBut_112 : decode cX1_soundBut 112 = .ok (.iconst 1, 1) := dk_4 (dk_at dksX1_soundBut_4 16 rfl rfl)
theorem dX1_soundBut_113 : decode cX1_soundBut 113 = .ok (.iadd, 1) := dk_96 (dk_at dksX1_soundBut_4 17 rfl rfl)
theorem dX1_soundBut_114 : decode cX1_soundBut 114 = .ok (.goto 4, 3) := dk_167 0 4 (dk_at dksX1_soundBut_4 18 rfl rfl)
theorem dX1_soundBut_117 : decode cX1_soundBut 117 = .ok (.iconst 0, 1) := dk_3 (dk_at dksX1_soundBut_4 21 rfl rfl)
theorem dX1_soundBut_118 : decode cX1_soundBut 118 = .ok (.iadd, 1) := dk_96 (dk_at dksX1_soundBut_4 22 rfl rfl)
theorem dX1_soundBut_119 : decode cX1_soundBut 119 = .ok (.istore 5, 2) := dk_54 5 (dk_at dksX1_soundBut_5 0 rfl rfl)
theorem dX1_soundBut_121 : decode cX1_soundBut 121 = .ok (.iinc 7 1, 3) := dk_132 7 1 (dk_at dksX1_soundBut_5 2 rfl rfl)
theorem dX1_soundBut_124 : decode cX1_soundBut 124 = .ok (.goto (-106), 3) := dk_167 255 150 (dk_at dksX1_soundBut_5 5 rfl rfl)
theorem dX1_soundBut_127 : decode cX1_soundBut 127 = .ok (.iinc 6 1, 3) := dk_132 6 1 (dk_at dksX1_soundBut_5 8 rfl rfl)
theorem dX1_soundBut_130 : decode cX1_soundBut 130 = .ok (.goto (-124), 3) := dk_167 255 132 (dk_at dksX1_soundBut_5 11 rfl rfl)
theorem dX1_soundBut_133 : decode cX1_soundBut 133 = .ok (.iload 5, 2) := dk_21 5 (dk_at dksX1_soundBut_5 14 rfl rfl)
theorem dX1_soundBut_135 : decode cX1_soundBut 135 = .ok (.ireturn, 1) := dk_172 (dk_at dksX1_soundBut_5 16 rfl rfl)
abbrev cX1_leaning : ByteArray := prog_11_method_8_code
def yX1_leaning : MethodName := ⟨RX1, "leaning", "(LLaneCymbals$State;II)I"⟩
def dkwX1_leaning_3 : List UInt8 := [132, 5, 1, 167, 255, 195, 21, 4, 172]
abbrev dktX1_leaning_3 : List UInt8 := dkwX1_leaning_3 ++ []
def dkwX1_leaning_2 : List UInt8 := [46, 160, 0, 19, 42, 180, 0, 23, 21, 5, 50, 21, 4, 29, 182, 0, 107, 167, 0, 5, 21, 4, 54, 4]
abbrev dktX1_leaning_2 : List UInt8 := dkwX1_leaning_2 ++ dktX1_leaning_3
def dkwX1_leaning_1 : List UInt8 := [180, 0, 69, 21, 5, 122, 4, 126, 4, 160, 0, 35, 42, 180, 0, 27, 21, 5, 46, 42, 180, 0, 17, 28]
abbrev dktX1_leaning_1 : List UInt8 := dkwX1_leaning_1 ++ dktX1_leaning_2
def dkwX1_leaning_0 : List UInt8 := [42, 43, 28, 29, 182, 0, 104, 54, 4, 3, 54, 5, 21, 5, 42, 180, 0, 57, 162, 0, 58, 43]
abbrev dktX1_leaning_0 : List UInt8 := dkwX1_leaning_0 ++ dktX1_leaning_1
theorem dksX1_leaning_0 : cX1_leaning.data.toList.drop 0 = dktX1_leaning_0 := by decide +kernel
theorem dksX1_leaning_1 : cX1_leaning.data.toList.drop 22 = dktX1_leaning_1 := dk_seg dksX1_leaning_0 22 rfl rfl
theorem dksX1_leaning_2 : cX1_leaning.data.toList.drop 46 = dktX1_leaning_2 := dk_seg dksX1_leaning_1 24 rfl rfl
theorem dksX1_leaning_3 : cX1_leaning.data.toList.drop 70 = dktX1_leaning_3 := dk_seg dksX1_leaning_2 24 rfl rfl
theorem dX1_leaning_0 : decode cX1_leaning 0 = .ok (.aload_n 0, 1) := dk_42 (dk_at dksX1_leaning_0 0 rfl rfl)
theorem dX1_leaning_1 : decode cX1_leaning 1 = .ok (.aload_n 1, 1) := dk_43 (dk_at dksX1_leaning_0 1 rfl rfl)
theorem dX1_leaning_2 : decode cX1_leaning 2 = .ok (.iload_n 2, 1) := dk_28 (dk_at dksX1_leaning_0 2 rfl rfl)
theorem dX1_leaning_3 : decode cX1_leaning 3 = .ok (.iload_n 3, 1) := dk_29 (dk_at dksX1_leaning_0 3 rfl rfl)
theorem dX1_leaning_4 : decode cX1_leaning 4 = .ok (.invokevirtual 104, 3) := dk_182 0 104 (dk_at dksX1_leaning_0 4 rfl rfl)
theorem dX1_leaning_7 : decode cX1_leaning 7 = .ok (.istore 4, 2) := dk_54 4 (dk_at dksX1_leaning_0 7 rfl rfl)
theorem dX1_leaning_9 : decode cX1_leaning 9 = .ok (.iconst 0, 1) := dk_3 (dk_at dksX1_leaning_0 9 rfl rfl)
theorem dX1_leaning_10 : decode cX1_leaning 10 = .ok (.istore 5, 2) := dk_54 5 (dk_at dksX1_leaning_0 10 rfl rfl)
theorem dX1_leaning_12 : decode cX1_leaning 12 = .ok (.iload 5, 2) := dk_21 5 (dk_at dksX1_leaning_0 12 rfl rfl)
theorem dX1_leaning_14 : decode cX1_leaning 14 = .ok (.aload_n 0, 1) := dk_42 (dk_at dksX1_leaning_0 14 rfl rfl)
theorem dX1_leaning_15 : decode cX1_leaning 15 = .ok (.getfield 57, 3) := dk_180 0 57 (dk_at dksX1_leaning_0 15 rfl rfl)
theorem dX1_leaning_18 : decode cX1_leaning 18 = .ok (.if_icmp .ge 58, 3) := dk_162 0 58 (dk_at dksX1_leaning_0 18 rfl rfl)
theorem dX1_leaning_21 : decode cX1_leaning 21 = .ok (.aload_n 1, 1) := dk_43 (dk_at dksX1_leaning_0 21 rfl rfl)
theorem dX1_leaning_22 : decode cX1_leaning 22 = .ok (.getfield 69, 3) := dk_180 0 69 (dk_at dksX1_leaning_1 0 rfl rfl)
theorem dX1_leaning_25 : decode cX1_leaning 25 = .ok (.iload 5, 2) := dk_21 5 (dk_at dksX1_leaning_1 3 rfl rfl)
theorem dX1_leaning_27 : decode cX1_leaning 27 = .ok (.ishr, 1) := dk_122 (dk_at dksX1_leaning_1 5 rfl rfl)
theorem dX1_leaning_28 : decode cX1_leaning 28 = .ok (.iconst 1, 1) := dk_4 (dk_at dksX1_leaning_1 6 rfl rfl)
theorem dX1_leaning_29 : decode cX1_leaning 29 = .ok (.iand, 1) := dk_126 (dk_at dksX1_leaning_1 7 rfl rfl)
theorem dX1_leaning_30 : decode cX1_leaning 30 = .ok (.iconst 1, 1) := dk_4 (dk_at dksX1_leaning_1 8 rfl rfl)
theorem dX1_leaning_31 : decode cX1_leaning 31 = .ok (.if_icmp .ne 35, 3) := dk_160 0 35 (dk_at dksX1_leaning_1 9 rfl rfl)
theorem dX1_leaning_34 : decode cX1_leaning 34 = .ok (.aload_n 0, 1) := dk_42 (dk_at dksX1_leaning_1 12 rfl rfl)
theorem dX1_leaning_35 : decode cX1_leaning 35 = .ok (.getfield 27, 3) := dk_180 0 27 (dk_at dksX1_leaning_1 13 rfl rfl)
theorem dX1_leaning_38 : decode cX1_leaning 38 = .ok (.iload 5, 2) := dk_21 5 (dk_at dksX1_leaning_1 16 rfl rfl)
theorem dX1_leaning_40 : decode cX1_leaning 40 = .ok (.iaload, 1) := dk_46 (dk_at dksX1_leaning_1 18 rfl rfl)
theorem dX1_leaning_41 : decode cX1_leaning 41 = .ok (.aload_n 0, 1) := dk_42 (dk_at dksX1_leaning_1 19 rfl rfl)
theorem dX1_leaning_42 : decode cX1_leaning 42 = .ok (.getfield 17, 3) := dk_180 0 17 (dk_at dksX1_leaning_1 20 rfl rfl)
theorem dX1_leaning_45 : decode cX1_leaning 45 = .ok (.iload_n 2, 1) := dk_28 (dk_at dksX1_leaning_1 23 rfl rfl)
theorem dX1_leaning_46 : decode cX1_leaning 46 = .ok (.iaload, 1) := dk_46 (dk_at dksX1_leaning_2 0 rfl rfl)
theorem dX1_leaning_47 : decode cX1_leaning 47 = .ok (.if_icmp .ne 19, 3) := dk_160 0 19 (dk_at dksX1_leaning_2 1 rfl rfl)
theorem dX1_leaning_50 : decode cX1_leaning 50 = .ok (.aload_n 0, 1) := dk_42 (dk_at dksX1_leaning_2 4 rfl rfl)
theorem dX1_leaning_51 : decode cX1_leaning 51 = .ok (.getfield 23, 3) := dk_180 0 23 (dk_at dksX1_leaning_2 5 rfl rfl)
theorem dX1_leaning_54 : decode cX1_leaning 54 = .ok (.iload 5, 2) := dk_21 5 (dk_at dksX1_leaning_2 8 rfl rfl)
theorem dX1_leaning_56 : decode cX1_leaning 56 = .ok (.aaload, 1) := dk_50 (dk_at dksX1_leaning_2 10 rfl rfl)
theorem dX1_leaning_57 : decode cX1_leaning 57 = .ok (.iload 4, 2) := dk_21 4 (dk_at dksX1_leaning_2 11 rfl rfl)
theorem dX1_leaning_59 : decode cX1_leaning 59 = .ok (.iload_n 3, 1) := dk_29 (dk_at dksX1_leaning_2 13 rfl rfl)
theorem dX1_leaning_60 : decode cX1_leaning 60 = .ok (.invokevirtual 107, 3) := dk_182 0 107 (dk_at dksX1_leaning_2 14 rfl rfl)
theorem dX1_leaning_63 : decode cX1_leaning 63 = .ok (.goto 5, 3) := dk_167 0 5 (dk_at dksX1_leaning_2 17 rfl rfl)
theorem dX1_leaning_66 : decode cX1_leaning 66 = .ok (.iload 4, 2) := dk_21 4 (dk_at dksX1_leaning_2 20 rfl rfl)
theorem dX1_leaning_68 : decode cX1_leaning 68 = .ok (.istore 4, 2) := dk_54 4 (dk_at dksX1_leaning_2 22 rfl rfl)
theorem dX1_leaning_70 : decode cX1_leaning 70 = .ok (.iinc 5 1, 3) := dk_132 5 1 (dk_at dksX1_leaning_3 0 rfl rfl)
theorem dX1_leaning_73 : decode cX1_leaning 73 = .ok (.goto (-61), 3) := dk_167 255 195 (dk_at dksX1_leaning_3 3 rfl rfl)
theorem dX1_leaning_76 : decode cX1_leaning 76 = .ok (.iload 4, 2) := dk_21 4 (dk_at dksX1_leaning_3 6 rfl rfl)
theorem dX1_leaning_78 : decode cX1_leaning 78 = .ok (.ireturn, 1) := dk_172 (dk_at dksX1_leaning_3 8 rfl rfl)
abbrev cX1_leans : ByteArray := prog_11_method_7_code
def yX1_leans : MethodName := ⟨RX1, "leans", "(LLaneCymbals$State;II)I"⟩
def dkwX1_leans_0 : List UInt8 := [42, 180, 0, 11, 28, 50, 43, 180, 0, 84, 28, 46, 29, 182, 0, 100, 172]
abbrev dktX1_leans_0 : List UInt8 := dkwX1_leans_0 ++ []
theorem dksX1_leans_0 : cX1_leans.data.toList.drop 0 = dktX1_leans_0 := by decide +kernel
theorem dX1_leans_0 : decode cX1_leans 0 = .ok (.aload_n 0, 1) := dk_42 (dk_at dksX1_leans_0 0 rfl rfl)
theorem dX1_leans_1 : decode cX1_leans 1 = .ok (.getfield 11, 3) := dk_180 0 11 (dk_at dksX1_leans_0 1 rfl rfl)
theorem dX1_leans_4 : decode cX1_leans 4 = .ok (.iload_n 2, 1) := dk_28 (dk_at dksX1_leans_0 4 rfl rfl)
theorem dX1_leans_5 : decode cX1_leans 5 = .ok (.aaload, 1) := dk_50 (dk_at dksX1_leans_0 5 rfl rfl)
theorem dX1_leans_6 : decode cX1_leans 6 = .ok (.aload_n 1, 1) := dk_43 (dk_at dksX1_leans_0 6 rfl rfl)
theorem dX1_leans_7 : decode cX1_leans 7 = .ok (.getfield 84, 3) := dk_180 0 84 (dk_at dksX1_leans_0 7 rfl rfl)
theorem dX1_leans_10 : decode cX1_leans 10 = .ok (.iload_n 2, 1) := dk_28 (dk_at dksX1_leans_0 10 rfl rfl)
theorem dX1_leans_11 : decode cX1_leans 11 = .ok (.iaload, 1) := dk_46 (dk_at dksX1_leans_0 11 rfl rfl)
theorem dX1_leans_12 : decode cX1_leans 12 = .ok (.iload_n 3, 1) := dk_29 (dk_at dksX1_leans_0 12 rfl rfl)
theorem dX1_leans_13 : decode cX1_leans 13 = .ok (.invokevirtual 100, 3) := dk_182 0 100 (dk_at dksX1_leans_0 13 rfl rfl)
theorem dX1_leans_16 : decode cX1_leans 16 = .ok (.ireturn, 1) := dk_172 (dk_at dksX1_leans_0 16 rfl rfl)
abbrev cX1_takes : ByteArray := prog_11_method_6_code
def yX1_takes : MethodName := ⟨RX1, "takes", "(LLaneCymbals$Lane;)V"⟩
def dkwX1_takes_8 : List UInt8 := [180, 0, 46, 28, 50, 182, 0, 90, 132, 2, 1, 167, 255, 230, 42, 43, 180, 0, 78, 181, 0, 78, 177]
abbrev dktX1_takes_8 : List UInt8 := dkwX1_takes_8 ++ []
def dkwX1_takes_7 : List UInt8 := [43, 180, 0, 42, 182, 0, 90, 3, 61, 28, 43, 180, 0, 78, 162, 0, 24, 42, 180, 0, 46, 28, 50, 43]
abbrev dktX1_takes_7 : List UInt8 := dkwX1_takes_7 ++ dktX1_takes_8
def dkwX1_takes_6 : List UInt8 := [180, 0, 36, 3, 42, 180, 0, 36, 190, 184, 0, 94, 42, 43, 180, 0, 66, 181, 0, 66, 42, 180, 0, 42]
abbrev dktX1_takes_6 : List UInt8 := dkwX1_takes_6 ++ dktX1_takes_7
def dkwX1_takes_5 : List UInt8 := [3, 42, 180, 0, 33, 190, 184, 0, 94, 42, 43, 180, 0, 63, 181, 0, 63, 43, 180, 0, 36, 3, 42]
abbrev dktX1_takes_5 : List UInt8 := dkwX1_takes_5 ++ dktX1_takes_6
def dkwX1_takes_4 : List UInt8 := [180, 0, 30, 190, 184, 0, 94, 42, 43, 180, 0, 60, 181, 0, 60, 43, 180, 0, 33, 3, 42, 180, 0, 33]
abbrev dktX1_takes_4 : List UInt8 := dkwX1_takes_4 ++ dktX1_takes_5
def dkwX1_takes_3 : List UInt8 := [184, 0, 94, 42, 43, 180, 0, 57, 181, 0, 57, 43, 180, 0, 30, 3, 42, 180, 0, 30, 3, 42]
abbrev dktX1_takes_3 : List UInt8 := dkwX1_takes_3 ++ dktX1_takes_4
def dkwX1_takes_2 : List UInt8 := [180, 0, 23, 3, 42, 180, 0, 23, 3, 7, 184, 0, 94, 43, 180, 0, 27, 3, 42, 180, 0, 27, 3, 7]
abbrev dktX1_takes_2 : List UInt8 := dkwX1_takes_2 ++ dktX1_takes_3
def dkwX1_takes_1 : List UInt8 := [180, 0, 17, 3, 42, 180, 0, 17, 3, 16, 7, 184, 0, 94, 42, 43, 180, 0, 54, 181, 0, 54, 43]
abbrev dktX1_takes_1 : List UInt8 := dkwX1_takes_1 ++ dktX1_takes_2
def dkwX1_takes_0 : List UInt8 := [42, 43, 180, 0, 50, 181, 0, 50, 43, 180, 0, 11, 3, 42, 180, 0, 11, 3, 16, 7, 184, 0, 94, 43]
abbrev dktX1_takes_0 : List UInt8 := dkwX1_takes_0 ++ dktX1_takes_1
theorem dksX1_takes_0 : cX1_takes.data.toList.drop 0 = dktX1_takes_0 := by decide +kernel
theorem dksX1_takes_1 : cX1_takes.data.toList.drop 24 = dktX1_takes_1 := dk_seg dksX1_takes_0 24 rfl rfl
theorem dksX1_takes_2 : cX1_takes.data.toList.drop 47 = dktX1_takes_2 := dk_seg dksX1_takes_1 23 rfl rfl
theorem dksX1_takes_3 : cX1_takes.data.toList.drop 71 = dktX1_takes_3 := dk_seg dksX1_takes_2 24 rfl rfl
theorem dksX1_takes_4 : cX1_takes.data.toList.drop 93 = dktX1_takes_4 := dk_seg dksX1_takes_3 22 rfl rfl
theorem dksX1_takes_5 : cX1_takes.data.toList.drop 117 = dktX1_takes_5 := dk_seg dksX1_takes_4 24 rfl rfl
theorem dksX1_takes_6 : cX1_takes.data.toList.drop 140 = dktX1_takes_6 := dk_seg dksX1_takes_5 23 rfl rfl
theorem dksX1_takes_7 : cX1_takes.data.toList.drop 164 = dktX1_takes_7 := dk_seg dksX1_takes_6 24 rfl rfl
theorem dksX1_takes_8 : cX1_takes.data.toList.drop 188 = dktX1_takes_8 := dk_seg dksX1_takes_7 24 rfl rfl
theorem dX1_takes_0 : decode cX1_takes 0 = .ok (.aload_n 0, 1) := dk_42 (dk_at dksX1_takes_0 0 rfl rfl)
theorem dX1_takes_1 : decode cX1_takes 1 = .ok (.aload_n 1, 1) := dk_43 (dk_at dksX1_takes_0 1 rfl rfl)
theorem dX1_takes_2 : decode cX1_takes 2 = .ok (.getfield 50, 3) := dk_180 0 50 (dk_at dksX1_takes_0 2 rfl rfl)
theorem dX1_takes_5 : decode cX1_takes 5 = .ok (.putfield 50, 3) := dk_181 0 50 (dk_at dksX1_takes_0 5 rfl rfl)
theorem dX1_takes_8 : decode cX1_takes 8 = .ok (.aload_n 1, 1) := dk_43 (dk_at dksX1_takes_0 8 rfl rfl)
theorem dX1_takes_9 : decode cX1_takes 9 = .ok (.getfield 11, 3) := dk_180 0 11 (dk_at dksX1_takes_0 9 rfl rfl)
theorem dX1_takes_12 : decode cX1_takes 12 = .ok (.iconst 0, 1) := dk_3 (dk_at dksX1_takes_0 12 rfl rfl)
theorem dX1_takes_13 : decode cX1_takes 13 = .ok (.aload_n 0, 1) := dk_42 (dk_at dksX1_takes_0 13 rfl rfl)
theorem dX1_takes_14 : decode cX1_takes 14 = .ok (.getfield 11, 3) := dk_180 0 11 (dk_at dksX1_takes_0 14 rfl rfl)
theorem dX1_takes_17 : decode cX1_takes 17 = .ok (.iconst 0, 1) := dk_3 (dk_at dksX1_takes_0 17 rfl rfl)
theorem dX1_takes_18 : decode cX1_takes 18 = .ok (.bipush 7, 2) := dk_16 7 (dk_at dksX1_takes_0 18 rfl rfl)
theorem dX1_takes_20 : decode cX1_takes 20 = .ok (.invokestatic 94, 3) := dk_184 0 94 (dk_at dksX1_takes_0 20 rfl rfl)
theorem dX1_takes_23 : decode cX1_takes 23 = .ok (.aload_n 1, 1) := dk_43 (dk_at dksX1_takes_0 23 rfl rfl)
theorem dX1_takes_24 : decode cX1_takes 24 = .ok (.getfield 17, 3) := dk_180 0 17 (dk_at dksX1_takes_1 0 rfl rfl)
theorem dX1_takes_27 : decode cX1_takes 27 = .ok (.iconst 0, 1) := dk_3 (dk_at dksX1_takes_1 3 rfl rfl)
theorem dX1_takes_28 : decode cX1_takes 28 = .ok (.aload_n 0, 1) := dk_42 (dk_at dksX1_takes_1 4 rfl rfl)
theorem dX1_takes_29 : decode cX1_takes 29 = .ok (.getfield 17, 3) := dk_180 0 17 (dk_at dksX1_takes_1 5 rfl rfl)
theorem dX1_takes_32 : decode cX1_takes 32 = .ok (.iconst 0, 1) := dk_3 (dk_at dksX1_takes_1 8 rfl rfl)
theorem dX1_takes_33 : decode cX1_takes 33 = .ok (.bipush 7, 2) := dk_16 7 (dk_at dksX1_takes_1 9 rfl rfl)
theorem dX1_takes_35 : decode cX1_takes 35 = .ok (.invokestatic 94, 3) := dk_184 0 94 (dk_at dksX1_takes_1 11 rfl rfl)
theorem dX1_takes_38 : decode cX1_takes 38 = .ok (.aload_n 0, 1) := dk_42 (dk_at dksX1_takes_1 14 rfl rfl)
theorem dX1_takes_39 : decode cX1_takes 39 = .ok (.aload_n 1, 1) := dk_43 (dk_at dksX1_takes_1 15 rfl rfl)
theorem dX1_takes_40 : decode cX1_takes 40 = .ok (.getfield 54, 3) := dk_180 0 54 (dk_at dksX1_takes_1 16 rfl rfl)
theorem dX1_takes_43 : decode cX1_takes 43 = .ok (.putfield 54, 3) := dk_181 0 54 (dk_at dksX1_takes_1 19 rfl rfl)
theorem dX1_takes_46 : decode cX1_takes 46 = .ok (.aload_n 1, 1) := dk_43 (dk_at dksX1_takes_1 22 rfl rfl)
theorem dX1_takes_47 : decode cX1_takes 47 = .ok (.getfield 23, 3) := dk_180 0 23 (dk_at dksX1_takes_2 0 rfl rfl)
theorem dX1_takes_50 : decode cX1_takes 50 = .ok (.iconst 0, 1) := dk_3 (dk_at dksX1_takes_2 3 rfl rfl)
theorem dX1_takes_51 : decode cX1_takes 51 = .ok (.aload_n 0, 1) := dk_42 (dk_at dksX1_takes_2 4 rfl rfl)
theorem dX1_takes_52 : decode cX1_takes 52 = .ok (.getfield 23, 3) := dk_180 0 23 (dk_at dksX1_takes_2 5 rfl rfl)
theorem dX1_takes_55 : decode cX1_takes 55 = .ok (.iconst 0, 1) := dk_3 (dk_at dksX1_takes_2 8 rfl rfl)
theorem dX1_takes_56 : decode cX1_takes 56 = .ok (.iconst 4, 1) := dk_7 (dk_at dksX1_takes_2 9 rfl rfl)
theorem dX1_takes_57 : decode cX1_takes 57 = .ok (.invokestatic 94, 3) := dk_184 0 94 (dk_at dksX1_takes_2 10 rfl rfl)
theorem dX1_takes_60 : decode cX1_takes 60 = .ok (.aload_n 1, 1) := dk_43 (dk_at dksX1_takes_2 13 rfl rfl)
theorem dX1_takes_61 : decode cX1_takes 61 = .ok (.getfield 27, 3) := dk_180 0 27 (dk_at dksX1_takes_2 14 rfl rfl)
theorem dX1_takes_64 : decode cX1_takes 64 = .ok (.iconst 0, 1) := dk_3 (dk_at dksX1_takes_2 17 rfl rfl)
theorem dX1_takes_65 : decode cX1_takes 65 = .ok (.aload_n 0, 1) := dk_42 (dk_at dksX1_takes_2 18 rfl rfl)
theorem dX1_takes_66 : decode cX1_takes 66 = .ok (.getfield 27, 3) := dk_180 0 27 (dk_at dksX1_takes_2 19 rfl rfl)
theorem dX1_takes_69 : decode cX1_takes 69 = .ok (.iconst 0, 1) := dk_3 (dk_at dksX1_takes_2 22 rfl rfl)
theorem dX1_takes_70 : decode cX1_takes 70 = .ok (.iconst 4, 1) := dk_7 (dk_at dksX1_takes_2 23 rfl rfl)
theorem dX1_takes_71 : decode cX1_takes 71 = .ok (.invokestatic 94, 3) := dk_184 0 94 (dk_at dksX1_takes_3 0 rfl rfl)
theorem dX1_takes_74 : decode cX1_takes 74 = .ok (.aload_n 0, 1) := dk_42 (dk_at dksX1_takes_3 3 rfl rfl)
theorem dX1_takes_75 : decode cX1_takes 75 = .ok (.aload_n 1, 1) := dk_43 (dk_at dksX1_takes_3 4 rfl rfl)
theorem dX1_takes_76 : decode cX1_takes 76 = .ok (.getfield 57, 3) := dk_180 0 57 (dk_at dksX1_takes_3 5 rfl rfl)
theorem dX1_takes_79 : decode cX1_takes 79 = .ok (.putfield 57, 3) := dk_181 0 57 (dk_at dksX1_takes_3 8 rfl rfl)
theorem dX1_takes_82 : decode cX1_takes 82 = .ok (.aload_n 1, 1) := dk_43 (dk_at dksX1_takes_3 11 rfl rfl)
theorem dX1_takes_83 : decode cX1_takes 83 = .ok (.getfield 30, 3) := dk_180 0 30 (dk_at dksX1_takes_3 12 rfl rfl)
theorem dX1_takes_86 : decode cX1_takes 86 = .ok (.iconst 0, 1) := dk_3 (dk_at dksX1_takes_3 15 rfl rfl)
theorem dX1_takes_87 : decode cX1_takes 87 = .ok (.aload_n 0, 1) := dk_42 (dk_at dksX1_takes_3 16 rfl rfl)
theorem dX1_takes_88 : decode cX1_takes 88 = .ok (.getfield 30, 3) := dk_180 0 30 (dk_at dksX1_takes_3 17 rfl rfl)
theorem dX1_takes_91 : decode cX1_takes 91 = .ok (.iconst 0, 1) := dk_3 (dk_at dksX1_takes_3 20 rfl rfl)
theorem dX1_takes_92 : decode cX1_takes 92 = .ok (.aload_n 0, 1) := dk_42 (dk_at dksX1_takes_3 21 rfl rfl)
theorem dX1_takes_93 : decode cX1_takes 93 = .ok (.getfield 30, 3) := dk_180 0 30 (dk_at dksX1_takes_4 0 rfl rfl)
theorem dX1_takes_96 : decode cX1_takes 96 = .ok (.arraylength, 1) := dk_190 (dk_at dksX1_takes_4 3 rfl rfl)
theorem dX1_takes_97 : decode cX1_takes 97 = .ok (.invokestatic 94, 3) := dk_184 0 94 (dk_at dksX1_takes_4 4 rfl rfl)
theorem dX1_takes_100 : decode cX1_takes 100 = .ok (.aload_n 0, 1) := dk_42 (dk_at dksX1_takes_4 7 rfl rfl)
theorem dX1_takes_101 : decode cX1_takes 101 = .ok (.aload_n 1, 1) := dk_43 (dk_at dksX1_takes_4 8 rfl rfl)
theorem dX1_takes_102 : decode cX1_takes 102 = .ok (.getfield 60, 3) := dk_180 0 60 (dk_at dksX1_takes_4 9 rfl rfl)
theorem dX1_takes_105 : decode cX1_takes 105 = .ok (.putfield 60, 3) := dk_181 0 60 (dk_at dksX1_takes_4 12 rfl rfl)
theorem dX1_takes_108 : decode cX1_takes 108 = .ok (.aload_n 1, 1) := dk_43 (dk_at dksX1_takes_4 15 rfl rfl)
theorem dX1_takes_109 : decode cX1_takes 109 = .ok (.getfield 33, 3) := dk_180 0 33 (dk_at dksX1_takes_4 16 rfl rfl)
theorem dX1_takes_112 : decode cX1_takes 112 = .ok (.iconst 0, 1) := dk_3 (dk_at dksX1_takes_4 19 rfl rfl)
theorem dX1_takes_113 : decode cX1_takes 113 = .ok (.aload_n 0, 1) := dk_42 (dk_at dksX1_takes_4 20 rfl rfl)
theorem dX1_takes_114 : decode cX1_takes 114 = .ok (.getfield 33, 3) := dk_180 0 33 (dk_at dksX1_takes_4 21 rfl rfl)
theorem dX1_takes_117 : decode cX1_takes 117 = .ok (.iconst 0, 1) := dk_3 (dk_at dksX1_takes_5 0 rfl rfl)
theorem dX1_takes_118 : decode cX1_takes 118 = .ok (.aload_n 0, 1) := dk_42 (dk_at dksX1_takes_5 1 rfl rfl)
theorem dX1_takes_119 : decode cX1_takes 119 = .ok (.getfield 33, 3) := dk_180 0 33 (dk_at dksX1_takes_5 2 rfl rfl)
theorem dX1_takes_122 : decode cX1_takes 122 = .ok (.arraylength, 1) := dk_190 (dk_at dksX1_takes_5 5 rfl rfl)
theorem dX1_takes_123 : decode cX1_takes 123 = .ok (.invokestatic 94, 3) := dk_184 0 94 (dk_at dksX1_takes_5 6 rfl rfl)
theorem dX1_takes_126 : decode cX1_takes 126 = .ok (.aload_n 0, 1) := dk_42 (dk_at dksX1_takes_5 9 rfl rfl)
theorem dX1_takes_127 : decode cX1_takes 127 = .ok (.aload_n 1, 1) := dk_43 (dk_at dksX1_takes_5 10 rfl rfl)
theorem dX1_takes_128 : decode cX1_takes 128 = .ok (.getfield 63, 3) := dk_180 0 63 (dk_at dksX1_takes_5 11 rfl rfl)
theorem dX1_takes_131 : decode cX1_takes 131 = .ok (.putfield 63, 3) := dk_181 0 63 (dk_at dksX1_takes_5 14 rfl rfl)
theorem dX1_takes_134 : decode cX1_takes 134 = .ok (.aload_n 1, 1) := dk_43 (dk_at dksX1_takes_5 17 rfl rfl)
theorem dX1_takes_135 : decode cX1_takes 135 = .ok (.getfield 36, 3) := dk_180 0 36 (dk_at dksX1_takes_5 18 rfl rfl)
theorem dX1_takes_138 : decode cX1_takes 138 = .ok (.iconst 0, 1) := dk_3 (dk_at dksX1_takes_5 21 rfl rfl)
theorem dX1_takes_139 : decode cX1_takes 139 = .ok (.aload_n 0, 1) := dk_42 (dk_at dksX1_takes_5 22 rfl rfl)
theorem dX1_takes_140 : decode cX1_takes 140 = .ok (.getfield 36, 3) := dk_180 0 36 (dk_at dksX1_takes_6 0 rfl rfl)
theorem dX1_takes_143 : decode cX1_takes 143 = .ok (.iconst 0, 1) := dk_3 (dk_at dksX1_takes_6 3 rfl rfl)
theorem dX1_takes_144 : decode cX1_takes 144 = .ok (.aload_n 0, 1) := dk_42 (dk_at dksX1_takes_6 4 rfl rfl)
theorem dX1_takes_145 : decode cX1_takes 145 = .ok (.getfield 36, 3) := dk_180 0 36 (dk_at dksX1_takes_6 5 rfl rfl)
theorem dX1_takes_148 : decode cX1_takes 148 = .ok (.arraylength, 1) := dk_190 (dk_at dksX1_takes_6 8 rfl rfl)
theorem dX1_takes_149 : decode cX1_takes 149 = .ok (.invokestatic 94, 3) := dk_184 0 94 (dk_at dksX1_takes_6 9 rfl rfl)
theorem dX1_takes_152 : decode cX1_takes 152 = .ok (.aload_n 0, 1) := dk_42 (dk_at dksX1_takes_6 12 rfl rfl)
theorem dX1_takes_153 : decode cX1_takes 153 = .ok (.aload_n 1, 1) := dk_43 (dk_at dksX1_takes_6 13 rfl rfl)
theorem dX1_takes_154 : decode cX1_takes 154 = .ok (.getfield 66, 3) := dk_180 0 66 (dk_at dksX1_takes_6 14 rfl rfl)
theorem dX1_takes_157 : decode cX1_takes 157 = .ok (.putfield 66, 3) := dk_181 0 66 (dk_at dksX1_takes_6 17 rfl rfl)
theorem dX1_takes_160 : decode cX1_takes 160 = .ok (.aload_n 0, 1) := dk_42 (dk_at dksX1_takes_6 20 rfl rfl)
theorem dX1_takes_161 : decode cX1_takes 161 = .ok (.getfield 42, 3) := dk_180 0 42 (dk_at dksX1_takes_6 21 rfl rfl)
theorem dX1_takes_164 : decode cX1_takes 164 = .ok (.aload_n 1, 1) := dk_43 (dk_at dksX1_takes_7 0 rfl rfl)
theorem dX1_takes_165 : decode cX1_takes 165 = .ok (.getfield 42, 3) := dk_180 0 42 (dk_at dksX1_takes_7 1 rfl rfl)
theorem dX1_takes_168 : decode cX1_takes 168 = .ok (.invokevirtual 90, 3) := dk_182 0 90 (dk_at dksX1_takes_7 4 rfl rfl)
theorem dX1_takes_171 : decode cX1_takes 171 = .ok (.iconst 0, 1) := dk_3 (dk_at dksX1_takes_7 7 rfl rfl)
theorem dX1_takes_172 : decode cX1_takes 172 = .ok (.istore_n 2, 1) := dk_61 (dk_at dksX1_takes_7 8 rfl rfl)
theorem dX1_takes_173 : decode cX1_takes 173 = .ok (.iload_n 2, 1) := dk_28 (dk_at dksX1_takes_7 9 rfl rfl)
theorem dX1_takes_174 : decode cX1_takes 174 = .ok (.aload_n 1, 1) := dk_43 (dk_at dksX1_takes_7 10 rfl rfl)
theorem dX1_takes_175 : decode cX1_takes 175 = .ok (.getfield 78, 3) := dk_180 0 78 (dk_at dksX1_takes_7 11 rfl rfl)
theorem dX1_takes_178 : decode cX1_takes 178 = .ok (.if_icmp .ge 24, 3) := dk_162 0 24 (dk_at dksX1_takes_7 14 rfl rfl)
theorem dX1_takes_181 : decode cX1_takes 181 = .ok (.aload_n 0, 1) := dk_42 (dk_at dksX1_takes_7 17 rfl rfl)
theorem dX1_takes_182 : decode cX1_takes 182 = .ok (.getfield 46, 3) := dk_180 0 46 (dk_at dksX1_takes_7 18 rfl rfl)
theorem dX1_takes_185 : decode cX1_takes 185 = .ok (.iload_n 2, 1) := dk_28 (dk_at dksX1_takes_7 21 rfl rfl)
theorem dX1_takes_186 : decode cX1_takes 186 = .ok (.aaload, 1) := dk_50 (dk_at dksX1_takes_7 22 rfl rfl)
theorem dX1_takes_187 : decode cX1_takes 187 = .ok (.aload_n 1, 1) := dk_43 (dk_at dksX1_takes_7 23 rfl rfl)
theorem dX1_takes_188 : decode cX1_takes 188 = .ok (.getfield 46, 3) := dk_180 0 46 (dk_at dksX1_takes_8 0 rfl rfl)
theorem dX1_takes_191 : decode cX1_takes 191 = .ok (.iload_n 2, 1) := dk_28 (dk_at dksX1_takes_8 3 rfl rfl)
theorem dX1_takes_192 : decode cX1_takes 192 = .ok (.aaload, 1) := dk_50 (dk_at dksX1_takes_8 4 rfl rfl)
theorem dX1_takes_193 : decode cX1_takes 193 = .ok (.invokevirtual 90, 3) := dk_182 0 90 (dk_at dksX1_takes_8 5 rfl rfl)
theorem dX1_takes_196 : decode cX1_takes 196 = .ok (.iinc 2 1, 3) := dk_132 2 1 (dk_at dksX1_takes_8 8 rfl rfl)
theorem dX1_takes_199 : decode cX1_takes 199 = .ok (.goto (-26), 3) := dk_167 255 230 (dk_at dksX1_takes_8 11 rfl rfl)
theorem dX1_takes_202 : decode cX1_takes 202 = .ok (.aload_n 0, 1) := dk_42 (dk_at dksX1_takes_8 14 rfl rfl)
theorem dX1_takes_203 : decode cX1_takes 203 = .ok (.aload_n 1, 1) := dk_43 (dk_at dksX1_takes_8 15 rfl rfl)
theorem dX1_takes_204 : decode cX1_takes 204 = .ok (.getfield 78, 3) := dk_180 0 78 (dk_at dksX1_takes_8 16 rfl rfl)
theorem dX1_takes_207 : decode cX1_takes 207 = .ok (.putfield 78, 3) := dk_181 0 78 (dk_at dksX1_takes_8 19 rfl rfl)
theorem dX1_takes_210 : decode cX1_takes 210 = .ok (.return_, 1) := dk_177 (dk_at dksX1_takes_8 22 rfl rfl)
abbrev cX1_remembers : ByteArray := prog_11_method_5_code
def yX1_remembers : MethodName := ⟨RX1, "remembers", "()V"⟩
def dkwX1_remembers_3 : List UInt8 := [4, 96, 181, 0, 78, 177]
abbrev dktX1_remembers_3 : List UInt8 := dkwX1_remembers_3 ++ []
def dkwX1_remembers_2 : List UInt8 := [181, 0, 78, 42, 180, 0, 46, 42, 180, 0, 78, 50, 42, 180, 0, 42, 182, 0, 90, 42, 89, 180, 0, 78]
abbrev dktX1_remembers_2 : List UInt8 := dkwX1_remembers_2 ++ dktX1_remembers_3
def dkwX1_remembers_1 : List UInt8 := [50, 42, 180, 0, 46, 27, 50, 182, 0, 90, 132, 1, 1, 167, 255, 230, 42, 89, 180, 0, 78, 4, 100]
abbrev dktX1_remembers_1 : List UInt8 := dkwX1_remembers_1 ++ dktX1_remembers_2
def dkwX1_remembers_0 : List UInt8 := [42, 180, 0, 78, 16, 8, 160, 0, 44, 4, 60, 27, 16, 8, 162, 0, 26, 42, 180, 0, 46, 27, 4, 100]
abbrev dktX1_remembers_0 : List UInt8 := dkwX1_remembers_0 ++ dktX1_remembers_1
theorem dksX1_remembers_0 : cX1_remembers.data.toList.drop 0 = dktX1_remembers_0 := by decide +kernel
theorem dksX1_remembers_1 : cX1_remembers.data.toList.drop 24 = dktX1_remembers_1 := dk_seg dksX1_remembers_0 24 rfl rfl
theorem dksX1_remembers_2 : cX1_remembers.data.toList.drop 47 = dktX1_remembers_2 := dk_seg dksX1_remembers_1 23 rfl rfl
theorem dksX1_remembers_3 : cX1_remembers.data.toList.drop 71 = dktX1_remembers_3 := dk_seg dksX1_remembers_2 24 rfl rfl
theorem dX1_remembers_0 : decode cX1_remembers 0 = .ok (.aload_n 0, 1) := dk_42 (dk_at dksX1_remembers_0 0 rfl rfl)
theorem dX1_remembers_1 : decode cX1_remembers 1 = .ok (.getfield 78, 3) := dk_180 0 78 (dk_at dksX1_remembers_0 1 rfl rfl)
theorem dX1_remembers_4 : decode cX1_remembers 4 = .ok (.bipush 8, 2) := dk_16 8 (dk_at dksX1_remembers_0 4 rfl rfl)
theorem dX1_remembers_6 : decode cX1_remembers 6 = .ok (.if_icmp .ne 44, 3) := dk_160 0 44 (dk_at dksX1_remembers_0 6 rfl rfl)
theorem dX1_remembers_9 : decode cX1_remembers 9 = .ok (.iconst 1, 1) := dk_4 (dk_at dksX1_remembers_0 9 rfl rfl)
theorem dX1_remembers_10 : decode cX1_remembers 10 = .ok (.istore_n 1, 1) := dk_60 (dk_at dksX1_remembers_0 10 rfl rfl)
theorem dX1_remembers_11 : decode cX1_remembers 11 = .ok (.iload_n 1, 1) := dk_27 (dk_at dksX1_remembers_0 11 rfl rfl)
theorem dX1_remembers_12 : decode cX1_remembers 12 = .ok (.bipush 8, 2) := dk_16 8 (dk_at dksX1_remembers_0 12 rfl rfl)
theorem dX1_remembers_14 : decode cX1_remembers 14 = .ok (.if_icmp .ge 26, 3) := dk_162 0 26 (dk_at dksX1_remembers_0 14 rfl rfl)
theorem dX1_remembers_17 : decode cX1_remembers 17 = .ok (.aload_n 0, 1) := dk_42 (dk_at dksX1_remembers_0 17 rfl rfl)
theorem dX1_remembers_18 : decode cX1_remembers 18 = .ok (.getfield 46, 3) := dk_180 0 46 (dk_at dksX1_remembers_0 18 rfl rfl)
theorem dX1_remembers_21 : decode cX1_remembers 21 = .ok (.iload_n 1, 1) := dk_27 (dk_at dksX1_remembers_0 21 rfl rfl)
theorem dX1_remembers_22 : decode cX1_remembers 22 = .ok (.iconst 1, 1) := dk_4 (dk_at dksX1_remembers_0 22 rfl rfl)
theorem dX1_remembers_23 : decode cX1_remembers 23 = .ok (.isub, 1) := dk_100 (dk_at dksX1_remembers_0 23 rfl rfl)
theorem dX1_remembers_24 : decode cX1_remembers 24 = .ok (.aaload, 1) := dk_50 (dk_at dksX1_remembers_1 0 rfl rfl)
theorem dX1_remembers_25 : decode cX1_remembers 25 = .ok (.aload_n 0, 1) := dk_42 (dk_at dksX1_remembers_1 1 rfl rfl)
theorem dX1_remembers_26 : decode cX1_remembers 26 = .ok (.getfield 46, 3) := dk_180 0 46 (dk_at dksX1_remembers_1 2 rfl rfl)
theorem dX1_remembers_29 : decode cX1_remembers 29 = .ok (.iload_n 1, 1) := dk_27 (dk_at dksX1_remembers_1 5 rfl rfl)
theorem dX1_remembers_30 : decode cX1_remembers 30 = .ok (.aaload, 1) := dk_50 (dk_at dksX1_remembers_1 6 rfl rfl)
theorem dX1_remembers_31 : decode cX1_remembers 31 = .ok (.invokevirtual 90, 3) := dk_182 0 90 (dk_at dksX1_remembers_1 7 rfl rfl)
theorem dX1_remembers_34 : decode cX1_remembers 34 = .ok (.iinc 1 1, 3) := dk_132 1 1 (dk_at dksX1_remembers_1 10 rfl rfl)
theorem dX1_remembers_37 : decode cX1_remembers 37 = .ok (.goto (-26), 3) := dk_167 255 230 (dk_at dksX1_remembers_1 13 rfl rfl)
theorem dX1_remembers_40 : decode cX1_remembers 40 = .ok (.aload_n 0, 1) := dk_42 (dk_at dksX1_remembers_1 16 rfl rfl)
theorem dX1_remembers_41 : decode cX1_remembers 41 = .ok (.dup, 1) := dk_89 (dk_at dksX1_remembers_1 17 rfl rfl)
theorem dX1_remembers_42 : decode cX1_remembers 42 = .ok (.getfield 78, 3) := dk_180 0 78 (dk_at dksX1_remembers_1 18 rfl rfl)
theorem dX1_remembers_45 : decode cX1_remembers 45 = .ok (.iconst 1, 1) := dk_4 (dk_at dksX1_remembers_1 21 rfl rfl)
theorem dX1_remembers_46 : decode cX1_remembers 46 = .ok (.isub, 1) := dk_100 (dk_at dksX1_remembers_1 22 rfl rfl)
theorem dX1_remembers_47 : decode cX1_remembers 47 = .ok (.putfield 78, 3) := dk_181 0 78 (dk_at dksX1_remembers_2 0 rfl rfl)
theorem dX1_remembers_50 : decode cX1_remembers 50 = .ok (.aload_n 0, 1) := dk_42 (dk_at dksX1_remembers_2 3 rfl rfl)
theorem dX1_remembers_51 : decode cX1_remembers 51 = .ok (.getfield 46, 3) := dk_180 0 46 (dk_at dksX1_remembers_2 4 rfl rfl)
theorem dX1_remembers_54 : decode cX1_remembers 54 = .ok (.aload_n 0, 1) := dk_42 (dk_at dksX1_remembers_2 7 rfl rfl)
theorem dX1_remembers_55 : decode cX1_remembers 55 = .ok (.getfield 78, 3) := dk_180 0 78 (dk_at dksX1_remembers_2 8 rfl rfl)
theorem dX1_remembers_58 : decode cX1_remembers 58 = .ok (.aaload, 1) := dk_50 (dk_at dksX1_remembers_2 11 rfl rfl)
theorem dX1_remembers_59 : decode cX1_remembers 59 = .ok (.aload_n 0, 1) := dk_42 (dk_at dksX1_remembers_2 12 rfl rfl)
theorem dX1_remembers_60 : decode cX1_remembers 60 = .ok (.getfield 42, 3) := dk_180 0 42 (dk_at dksX1_remembers_2 13 rfl rfl)
theorem dX1_remembers_63 : decode cX1_remembers 63 = .ok (.invokevirtual 90, 3) := dk_182 0 90 (dk_at dksX1_remembers_2 16 rfl rfl)
theorem dX1_remembers_66 : decode cX1_remembers 66 = .ok (.aload_n 0, 1) := dk_42 (dk_at dksX1_remembers_2 19 rfl rfl)
theorem dX1_remembers_67 : decode cX1_remembers 67 = .ok (.dup, 1) := dk_89 (dk_at dksX1_remembers_2 20 rfl rfl)
theorem dX1_remembers_68 : decode cX1_remembers 68 = .ok (.getfield 78, 3) := dk_180 0 78 (dk_at dksX1_remembers_2 21 rfl rfl)
theorem dX1_remembers_71 : decode cX1_remembers 71 = .ok (.iconst 1, 1) := dk_4 (dk_at dksX1_remembers_3 0 rfl rfl)
theorem dX1_remembers_72 : decode cX1_remembers 72 = .ok (.iadd, 1) := dk_96 (dk_at dksX1_remembers_3 1 rfl rfl)
theorem dX1_remembers_73 : decode cX1_remembers 73 = .ok (.putfield 78, 3) := dk_181 0 78 (dk_at dksX1_remembers_3 2 rfl rfl)
theorem dX1_remembers_76 : decode cX1_remembers 76 = .ok (.return_, 1) := dk_177 (dk_at dksX1_remembers_3 5 rfl rfl)
theorem q62 : (Jvm.Cond.initialized "LaneCymbals$Lane") ∈ lw_all := lw_g (lw_at lw_m1 2 rfl) rfl
theorem q86 : (Jvm.Cond.instantiable "LaneCymbals$Lane" (16 : Nat)) ∈ lw_all := lw_g (lw_at lw_m1 26 rfl) rfl
theorem q88 : (Jvm.Cond.instanceMethod ({ cls := "LaneCymbals$Lane", name := "<init>", desc := "()V" } : Jvm.MethodName)) ∈ lw_all := lw_g (lw_at lw_m1 28 rfl) rfl
theorem q89 : (Jvm.Cond.code ({ cls := "LaneCymbals$Lane", name := "<init>", desc := "()V" } : Jvm.MethodName) prog_11_method_1_code (1 : Nat) (Option.none : Option Jvm.ClassFile.FieldType)) ∈ lw_all := lw_g (lw_at lw_m1 29 rfl) rfl
theorem q90 : (Jvm.Cond.methodLink "LaneCymbals$Lane" (3 : Nat) ({ cls := "java/lang/Object", name := "<init>", desc := "()V" } : Jvm.MethodName)) ∈ lw_all := lw_g (lw_at lw_m1 30 rfl) rfl
theorem q91 : (Jvm.Cond.classLink "LaneCymbals$Lane" (9 : Nat) "LaneCymbals$One") ∈ lw_all := lw_g (lw_at lw_m1 31 rfl) rfl
theorem q93 : (Jvm.Cond.classLink "LaneCymbals$Lane" (21 : Nat) "LaneCymbals$Aunt") ∈ lw_all := lw_g (lw_at lw_m1 33 rfl) rfl
theorem q95 : (Jvm.Cond.classLink "LaneCymbals$Lane" (39 : Nat) "LaneCymbals$State") ∈ lw_all := lw_g (lw_at lw_m1 35 rfl) rfl
theorem q97 : (Jvm.Cond.methodLinkNest "LaneCymbals$Lane" (41 : Nat) ({ cls := "LaneCymbals$State", name := "<init>", desc := "()V" } : Jvm.MethodName) "LaneCymbals") ∈ lw_tbl := lw_at lw_m1 37 rfl
theorem q102 : (Jvm.Cond.fieldLinkNest "LaneCymbals$Lane" (84 : Nat) "LaneCymbals$State" "swings" "[I" "LaneCymbals") ∈ lw_tbl := lw_at lw_m1 42 rfl
theorem q105 : (Jvm.Cond.fieldLinkNest "LaneCymbals$Lane" (69 : Nat) "LaneCymbals$State" "there" "I" "LaneCymbals") ∈ lw_tbl := lw_at lw_m1 45 rfl
theorem q109 : (Jvm.Cond.fieldLinkNest "LaneCymbals$Lane" (72 : Nat) "LaneCymbals$State" "noise" "I" "LaneCymbals") ∈ lw_tbl := lw_at lw_m1 49 rfl
theorem q112 : (Jvm.Cond.fieldLinkNest "LaneCymbals$Lane" (75 : Nat) "LaneCymbals$State" "count" "I" "LaneCymbals") ∈ lw_tbl := lw_at lw_m1 52 rfl
theorem q125 : (Jvm.Cond.fieldLink "LaneCymbals$Lane" (50 : Nat) "LaneCymbals$Lane" "wide" "I") ∈ lw_all := lw_g (lw_at lw_m1 65 rfl) rfl
theorem q127 : (Jvm.Cond.fieldLink "LaneCymbals$Lane" (11 : Nat) "LaneCymbals$Lane" "people" "[LLaneCymbals$One;") ∈ lw_all := lw_g (lw_at lw_m1 67 rfl) rfl
theorem q129 : (Jvm.Cond.fieldLink "LaneCymbals$Lane" (17 : Nat) "LaneCymbals$Lane" "houses" "[I") ∈ lw_all := lw_g (lw_at lw_m1 69 rfl) rfl
theorem q132 : (Jvm.Cond.fieldLink "LaneCymbals$Lane" (54 : Nat) "LaneCymbals$Lane" "many" "I") ∈ lw_all := lw_g (lw_at lw_m1 72 rfl) rfl
theorem q136 : (Jvm.Cond.fieldLink "LaneCymbals$Lane" (23 : Nat) "LaneCymbals$Lane" "aunts" "[LLaneCymbals$Aunt;") ∈ lw_all := lw_g (lw_at lw_m1 76 rfl) rfl
theorem q138 : (Jvm.Cond.fieldLink "LaneCymbals$Lane" (27 : Nat) "LaneCymbals$Lane" "sides" "[I") ∈ lw_all := lw_g (lw_at lw_m1 78 rfl) rfl
theorem q140 : (Jvm.Cond.fieldLink "LaneCymbals$Lane" (57 : Nat) "LaneCymbals$Lane" "dampers" "I") ∈ lw_all := lw_g (lw_at lw_m1 80 rfl) rfl
theorem q143 : (Jvm.Cond.fieldLink "LaneCymbals$Lane" (30 : Nat) "LaneCymbals$Lane" "heard" "[I") ∈ lw_all := lw_g (lw_at lw_m1 83 rfl) rfl
theorem q145 : (Jvm.Cond.fieldLink "LaneCymbals$Lane" (60 : Nat) "LaneCymbals$Lane" "hears" "I") ∈ lw_all := lw_g (lw_at lw_m1 85 rfl) rfl
theorem q147 : (Jvm.Cond.fieldLink "LaneCymbals$Lane" (33 : Nat) "LaneCymbals$Lane" "notes" "[I") ∈ lw_all := lw_g (lw_at lw_m1 87 rfl) rfl
theorem q149 : (Jvm.Cond.fieldLink "LaneCymbals$Lane" (63 : Nat) "LaneCymbals$Lane" "noted" "I") ∈ lw_all := lw_g (lw_at lw_m1 89 rfl) rfl
theorem q151 : (Jvm.Cond.fieldLink "LaneCymbals$Lane" (36 : Nat) "LaneCymbals$Lane" "marks" "[I") ∈ lw_all := lw_g (lw_at lw_m1 91 rfl) rfl
theorem q153 : (Jvm.Cond.fieldLink "LaneCymbals$Lane" (66 : Nat) "LaneCymbals$Lane" "marked" "I") ∈ lw_all := lw_g (lw_at lw_m1 93 rfl) rfl
theorem q155 : (Jvm.Cond.fieldLink "LaneCymbals$Lane" (42 : Nat) "LaneCymbals$Lane" "now" "LLaneCymbals$State;") ∈ lw_all := lw_g (lw_at lw_m1 95 rfl) rfl
theorem q159 : (Jvm.Cond.fieldLink "LaneCymbals$Lane" (46 : Nat) "LaneCymbals$Lane" "was" "[LLaneCymbals$State;") ∈ lw_all := lw_g (lw_at lw_m1 99 rfl) rfl
theorem q161 : (Jvm.Cond.fieldLink "LaneCymbals$Lane" (78 : Nat) "LaneCymbals$Lane" "undos" "I") ∈ lw_all := lw_g (lw_at lw_m1 101 rfl) rfl
theorem q163 : (Jvm.Cond.lays "LaneCymbals$Lane" "LaneCymbals$Lane" "wide" "I") ∈ lw_all := lw_g (lw_at lw_m1 103 rfl) rfl
theorem q164 : (Jvm.Cond.soleField "LaneCymbals$Lane" "wide") ∈ lw_all := lw_g (lw_at lw_m1 104 rfl) rfl
theorem q165 : (Jvm.Cond.laysFinal "LaneCymbals$Lane" "LaneCymbals$Lane" "people" "[LLaneCymbals$One;") ∈ lw_all := lw_g (lw_at lw_m1 105 rfl) rfl
theorem q166 : (Jvm.Cond.soleField "LaneCymbals$Lane" "people") ∈ lw_all := lw_g (lw_at lw_m1 106 rfl) rfl
theorem q167 : (Jvm.Cond.laysFinal "LaneCymbals$Lane" "LaneCymbals$Lane" "houses" "[I") ∈ lw_all := lw_g (lw_at lw_m1 107 rfl) rfl
theorem q168 : (Jvm.Cond.soleField "LaneCymbals$Lane" "houses") ∈ lw_all := lw_g (lw_at lw_m1 108 rfl) rfl
theorem q169 : (Jvm.Cond.lays "LaneCymbals$Lane" "LaneCymbals$Lane" "many" "I") ∈ lw_all := lw_g (lw_at lw_m1 109 rfl) rfl
theorem q170 : (Jvm.Cond.soleField "LaneCymbals$Lane" "many") ∈ lw_all := lw_g (lw_at lw_m1 110 rfl) rfl
theorem q171 : (Jvm.Cond.laysFinal "LaneCymbals$Lane" "LaneCymbals$Lane" "aunts" "[LLaneCymbals$Aunt;") ∈ lw_all := lw_g (lw_at lw_m1 111 rfl) rfl
theorem q172 : (Jvm.Cond.soleField "LaneCymbals$Lane" "aunts") ∈ lw_all := lw_g (lw_at lw_m1 112 rfl) rfl
theorem q173 : (Jvm.Cond.laysFinal "LaneCymbals$Lane" "LaneCymbals$Lane" "sides" "[I") ∈ lw_all := lw_g (lw_at lw_m1 113 rfl) rfl
theorem q174 : (Jvm.Cond.soleField "LaneCymbals$Lane" "sides") ∈ lw_all := lw_g (lw_at lw_m1 114 rfl) rfl
theorem q175 : (Jvm.Cond.lays "LaneCymbals$Lane" "LaneCymbals$Lane" "dampers" "I") ∈ lw_all := lw_g (lw_at lw_m1 115 rfl) rfl
theorem q176 : (Jvm.Cond.soleField "LaneCymbals$Lane" "dampers") ∈ lw_all := lw_g (lw_at lw_m1 116 rfl) rfl
theorem q177 : (Jvm.Cond.laysFinal "LaneCymbals$Lane" "LaneCymbals$Lane" "heard" "[I") ∈ lw_all := lw_g (lw_at lw_m1 117 rfl) rfl
theorem q178 : (Jvm.Cond.soleField "LaneCymbals$Lane" "heard") ∈ lw_all := lw_g (lw_at lw_m1 118 rfl) rfl
theorem q179 : (Jvm.Cond.lays "LaneCymbals$Lane" "LaneCymbals$Lane" "hears" "I") ∈ lw_all := lw_g (lw_at lw_m1 119 rfl) rfl
theorem q180 : (Jvm.Cond.soleField "LaneCymbals$Lane" "hears") ∈ lw_all := lw_g (lw_at lw_m1 120 rfl) rfl
theorem q181 : (Jvm.Cond.laysFinal "LaneCymbals$Lane" "LaneCymbals$Lane" "notes" "[I") ∈ lw_all := lw_g (lw_at lw_m1 121 rfl) rfl
theorem q182 : (Jvm.Cond.soleField "LaneCymbals$Lane" "notes") ∈ lw_all := lw_g (lw_at lw_m1 122 rfl) rfl
theorem q183 : (Jvm.Cond.lays "LaneCymbals$Lane" "LaneCymbals$Lane" "noted" "I") ∈ lw_all := lw_g (lw_at lw_m1 123 rfl) rfl
theorem q184 : (Jvm.Cond.soleField "LaneCymbals$Lane" "noted") ∈ lw_all := lw_g (lw_at lw_m1 124 rfl) rfl
theorem q185 : (Jvm.Cond.laysFinal "LaneCymbals$Lane" "LaneCymbals$Lane" "marks" "[I") ∈ lw_all := lw_g (lw_at lw_m1 125 rfl) rfl
theorem q186 : (Jvm.Cond.soleField "LaneCymbals$Lane" "marks") ∈ lw_all := lw_g (lw_at lw_m1 126 rfl) rfl
theorem q187 : (Jvm.Cond.lays "LaneCymbals$Lane" "LaneCymbals$Lane" "marked" "I") ∈ lw_all := lw_g (lw_at lw_m1 127 rfl) rfl
theorem q188 : (Jvm.Cond.soleField "LaneCymbals$Lane" "marked") ∈ lw_all := lw_g (lw_at lw_m1 128 rfl) rfl
theorem q189 : (Jvm.Cond.laysFinal "LaneCymbals$Lane" "LaneCymbals$Lane" "now" "LLaneCymbals$State;") ∈ lw_all := lw_g (lw_at lw_m1 129 rfl) rfl
theorem q190 : (Jvm.Cond.soleField "LaneCymbals$Lane" "now") ∈ lw_all := lw_g (lw_at lw_m1 130 rfl) rfl
theorem q191 : (Jvm.Cond.laysFinal "LaneCymbals$Lane" "LaneCymbals$Lane" "was" "[LLaneCymbals$State;") ∈ lw_all := lw_g (lw_at lw_m1 131 rfl) rfl
theorem q192 : (Jvm.Cond.soleField "LaneCymbals$Lane" "was") ∈ lw_all := lw_g (lw_at lw_m1 132 rfl) rfl
theorem q193 : (Jvm.Cond.lays "LaneCymbals$Lane" "LaneCymbals$Lane" "undos" "I") ∈ lw_all := lw_g (lw_at lw_m1 133 rfl) rfl
theorem q194 : (Jvm.Cond.soleField "LaneCymbals$Lane" "undos") ∈ lw_all := lw_g (lw_at lw_m1 134 rfl) rfl
theorem q195 : (Jvm.Cond.superclass "LaneCymbals$Lane" "java/lang/Object") ∈ lw_all := lw_g (lw_at lw_m1 135 rfl) rfl
theorem q247 : (Jvm.Cond.instanceMethod ({ cls := "LaneCymbals$Lane", name := "begins", desc := "(I)V" } : Jvm.MethodName)) ∈ lw_all := lw_g (lw_at lw_m1 187 rfl) rfl
theorem q248 : (Jvm.Cond.selects "LaneCymbals$Lane" ({ cls := "LaneCymbals$Lane", name := "begins", desc := "(I)V" } : Jvm.MethodName) ({ cls := "LaneCymbals$Lane", name := "begins", desc := "(I)V" } : Jvm.MethodName)) ∈ lw_all := lw_g (lw_at lw_m1 188 rfl) rfl
theorem q249 : (Jvm.Cond.code ({ cls := "LaneCymbals$Lane", name := "begins", desc := "(I)V" } : Jvm.MethodName) prog_11_method_2_code (2 : Nat) (Option.none : Option Jvm.ClassFile.FieldType)) ∈ lw_all := lw_g (lw_at lw_m1 189 rfl) rfl
theorem q335 : (Jvm.Cond.instanceMethod ({ cls := "LaneCymbals$Lane", name := "adds", desc := "(III)V" } : Jvm.MethodName)) ∈ lw_all := lw_g (lw_at lw_m2 35 rfl) rfl
theorem q336 : (Jvm.Cond.selects "LaneCymbals$Lane" ({ cls := "LaneCymbals$Lane", name := "adds", desc := "(III)V" } : Jvm.MethodName) ({ cls := "LaneCymbals$Lane", name := "adds", desc := "(III)V" } : Jvm.MethodName)) ∈ lw_all := lw_g (lw_at lw_m2 36 rfl) rfl
theorem q337 : (Jvm.Cond.code ({ cls := "LaneCymbals$Lane", name := "adds", desc := "(III)V" } : Jvm.MethodName) prog_11_method_3_code (4 : Nat) (Option.none : Option Jvm.ClassFile.FieldType)) ∈ lw_all := lw_g (lw_at lw_m2 37 rfl) rfl
theorem q338 : (Jvm.Cond.fieldLinkNest "LaneCymbals$Lane" (81 : Nat) "LaneCymbals" "KIN" "[LLaneCymbals$One;" "LaneCymbals") ∈ lw_tbl := lw_at lw_m2 38 rfl
theorem q345 : (Jvm.Cond.instanceMethod ({ cls := "LaneCymbals$Lane", name := "comes", desc := "(II)V" } : Jvm.MethodName)) ∈ lw_all := lw_g (lw_at lw_m2 45 rfl) rfl
theorem q346 : (Jvm.Cond.selects "LaneCymbals$Lane" ({ cls := "LaneCymbals$Lane", name := "comes", desc := "(II)V" } : Jvm.MethodName) ({ cls := "LaneCymbals$Lane", name := "comes", desc := "(II)V" } : Jvm.MethodName)) ∈ lw_all := lw_g (lw_at lw_m2 46 rfl) rfl
theorem q347 : (Jvm.Cond.code ({ cls := "LaneCymbals$Lane", name := "comes", desc := "(II)V" } : Jvm.MethodName) prog_11_method_4_code (3 : Nat) (Option.none : Option Jvm.ClassFile.FieldType)) ∈ lw_all := lw_g (lw_at lw_m2 47 rfl) rfl
theorem q348 : (Jvm.Cond.fieldLinkNest "LaneCymbals$Lane" (87 : Nat) "LaneCymbals" "DAMPERS" "[LLaneCymbals$Aunt;" "LaneCymbals") ∈ lw_tbl := lw_at lw_m2 48 rfl
theorem q517 : (Jvm.Cond.instanceMethod ({ cls := "LaneCymbals$Lane", name := "passes", desc := "(LLaneCymbals$State;)V" } : Jvm.MethodName)) ∈ lw_all := lw_g (lw_at lw_m2 217 rfl) rfl
theorem q518 : (Jvm.Cond.selects "LaneCymbals$Lane" ({ cls := "LaneCymbals$Lane", name := "passes", desc := "(LLaneCymbals$State;)V" } : Jvm.MethodName) ({ cls := "LaneCymbals$Lane", name := "passes", desc := "(LLaneCymbals$State;)V" } : Jvm.MethodName)) ∈ lw_all := lw_g (lw_at lw_m2 218 rfl) rfl
theorem q519 : (Jvm.Cond.code ({ cls := "LaneCymbals$Lane", name := "passes", desc := "(LLaneCymbals$State;)V" } : Jvm.MethodName) prog_11_method_11_code (2 : Nat) (Option.none : Option Jvm.ClassFile.FieldType)) ∈ lw_all := lw_g (lw_at lw_m2 219 rfl) rfl
theorem q520 : (Jvm.Cond.methodLink "LaneCymbals$Lane" (117 : Nat) ({ cls := "LaneCymbals$Lane", name := "sound", desc := "(LLaneCymbals$State;I)I" } : Jvm.MethodName)) ∈ lw_all := lw_g (lw_at lw_m2 220 rfl) rfl
theorem q521 : (Jvm.Cond.instanceMethod ({ cls := "LaneCymbals$Lane", name := "sound", desc := "(LLaneCymbals$State;I)I" } : Jvm.MethodName)) ∈ lw_all := lw_g (lw_at lw_m2 221 rfl) rfl
theorem q522 : (Jvm.Cond.selects "LaneCymbals$Lane" ({ cls := "LaneCymbals$Lane", name := "sound", desc := "(LLaneCymbals$State;I)I" } : Jvm.MethodName) ({ cls := "LaneCymbals$Lane", name := "sound", desc := "(LLaneCymbals$State;I)I" } : Jvm.MethodName)) ∈ lw_all := lw_g (lw_at lw_m2 222 rfl) rfl
theorem q523 : (Jvm.Cond.code ({ cls := "LaneCymbals$Lane", name := "sound", desc := "(LLaneCymbals$State;I)I" } : Jvm.MethodName) prog_11_method_10_code (3 : Nat) (Option.some Jvm.ClassFile.FieldType.int)) ∈ lw_all := lw_g (lw_at lw_m2 223 rfl) rfl
theorem q524 : (Jvm.Cond.methodLink "LaneCymbals$Lane" (113 : Nat) ({ cls := "LaneCymbals$Lane", name := "soundBut", desc := "(LLaneCymbals$State;III)I" } : Jvm.MethodName)) ∈ lw_all := lw_g (lw_at lw_m2 224 rfl) rfl
theorem q525 : (Jvm.Cond.instanceMethod ({ cls := "LaneCymbals$Lane", name := "soundBut", desc := "(LLaneCymbals$State;III)I" } : Jvm.MethodName)) ∈ lw_all := lw_g (lw_at lw_m2 225 rfl) rfl
theorem q526 : (Jvm.Cond.selects "LaneCymbals$Lane" ({ cls := "LaneCymbals$Lane", name := "soundBut", desc := "(LLaneCymbals$State;III)I" } : Jvm.MethodName) ({ cls := "LaneCymbals$Lane", name := "soundBut", desc := "(LLaneCymbals$State;III)I" } : Jvm.MethodName)) ∈ lw_all := lw_g (lw_at lw_m2 226 rfl) rfl
theorem q527 : (Jvm.Cond.code ({ cls := "LaneCymbals$Lane", name := "soundBut", desc := "(LLaneCymbals$State;III)I" } : Jvm.MethodName) prog_11_method_9_code (10 : Nat) (Option.some Jvm.ClassFile.FieldType.int)) ∈ lw_all := lw_g (lw_at lw_m2 227 rfl) rfl
theorem q528 : (Jvm.Cond.methodLink "LaneCymbals$Lane" (110 : Nat) ({ cls := "LaneCymbals$Lane", name := "leaning", desc := "(LLaneCymbals$State;II)I" } : Jvm.MethodName)) ∈ lw_all := lw_g (lw_at lw_m2 228 rfl) rfl
theorem q529 : (Jvm.Cond.instanceMethod ({ cls := "LaneCymbals$Lane", name := "leaning", desc := "(LLaneCymbals$State;II)I" } : Jvm.MethodName)) ∈ lw_all := lw_g (lw_at lw_m2 229 rfl) rfl
theorem q530 : (Jvm.Cond.selects "LaneCymbals$Lane" ({ cls := "LaneCymbals$Lane", name := "leaning", desc := "(LLaneCymbals$State;II)I" } : Jvm.MethodName) ({ cls := "LaneCymbals$Lane", name := "leaning", desc := "(LLaneCymbals$State;II)I" } : Jvm.MethodName)) ∈ lw_all := lw_g (lw_at lw_m2 230 rfl) rfl
theorem q531 : (Jvm.Cond.code ({ cls := "LaneCymbals$Lane", name := "leaning", desc := "(LLaneCymbals$State;II)I" } : Jvm.MethodName) prog_11_method_8_code (6 : Nat) (Option.some Jvm.ClassFile.FieldType.int)) ∈ lw_all := lw_g (lw_at lw_m2 231 rfl) rfl
theorem q532 : (Jvm.Cond.methodLink "LaneCymbals$Lane" (104 : Nat) ({ cls := "LaneCymbals$Lane", name := "leans", desc := "(LLaneCymbals$State;II)I" } : Jvm.MethodName)) ∈ lw_all := lw_g (lw_at lw_m2 232 rfl) rfl
theorem q533 : (Jvm.Cond.instanceMethod ({ cls := "LaneCymbals$Lane", name := "leans", desc := "(LLaneCymbals$State;II)I" } : Jvm.MethodName)) ∈ lw_all := lw_g (lw_at lw_m2 233 rfl) rfl
theorem q534 : (Jvm.Cond.selects "LaneCymbals$Lane" ({ cls := "LaneCymbals$Lane", name := "leans", desc := "(LLaneCymbals$State;II)I" } : Jvm.MethodName) ({ cls := "LaneCymbals$Lane", name := "leans", desc := "(LLaneCymbals$State;II)I" } : Jvm.MethodName)) ∈ lw_all := lw_g (lw_at lw_m2 234 rfl) rfl
theorem q535 : (Jvm.Cond.code ({ cls := "LaneCymbals$Lane", name := "leans", desc := "(LLaneCymbals$State;II)I" } : Jvm.MethodName) prog_11_method_7_code (4 : Nat) (Option.some Jvm.ClassFile.FieldType.int)) ∈ lw_all := lw_g (lw_at lw_m2 235 rfl) rfl
theorem q536 : (Jvm.Cond.methodLink "LaneCymbals$Lane" (100 : Nat) ({ cls := "LaneCymbals$One", name := "leans", desc := "(II)I" } : Jvm.MethodName)) ∈ lw_all := lw_g (lw_at lw_m2 236 rfl) rfl
theorem q566 : (Jvm.Cond.methodLink "LaneCymbals$Lane" (107 : Nat) ({ cls := "LaneCymbals$Aunt", name := "damps", desc := "(II)I" } : Jvm.MethodName)) ∈ lw_all := lw_g (lw_at lw_m3 26 rfl) rfl
theorem q599 : (Jvm.Cond.methodLink "LaneCymbals$Lane" (121 : Nat) ({ cls := "java/lang/Math", name := "min", desc := "(II)I" } : Jvm.MethodName)) ∈ lw_all := lw_g (lw_at lw_m3 59 rfl) rfl
theorem q601 : (Jvm.Cond.instanceMethod ({ cls := "LaneCymbals$Lane", name := "takes", desc := "(LLaneCymbals$Lane;)V" } : Jvm.MethodName)) ∈ lw_all := lw_g (lw_at lw_m3 61 rfl) rfl
theorem q602 : (Jvm.Cond.selects "LaneCymbals$Lane" ({ cls := "LaneCymbals$Lane", name := "takes", desc := "(LLaneCymbals$Lane;)V" } : Jvm.MethodName) ({ cls := "LaneCymbals$Lane", name := "takes", desc := "(LLaneCymbals$Lane;)V" } : Jvm.MethodName)) ∈ lw_all := lw_g (lw_at lw_m3 62 rfl) rfl
theorem q603 : (Jvm.Cond.code ({ cls := "LaneCymbals$Lane", name := "takes", desc := "(LLaneCymbals$Lane;)V" } : Jvm.MethodName) prog_11_method_6_code (3 : Nat) (Option.none : Option Jvm.ClassFile.FieldType)) ∈ lw_all := lw_g (lw_at lw_m3 63 rfl) rfl
theorem q604 : (Jvm.Cond.methodLink "LaneCymbals$Lane" (94 : Nat) ({ cls := "java/lang/System", name := "arraycopy", desc := "(Ljava/lang/Object;ILjava/lang/Object;II)V" } : Jvm.MethodName)) ∈ lw_all := lw_g (lw_at lw_m3 64 rfl) rfl
theorem q607 : (Jvm.Cond.methodLink "LaneCymbals$Lane" (90 : Nat) ({ cls := "LaneCymbals$State", name := "takes", desc := "(LLaneCymbals$State;)V" } : Jvm.MethodName)) ∈ lw_all := lw_g (lw_at lw_m3 67 rfl) rfl
theorem q618 : (Jvm.Cond.instanceMethod ({ cls := "LaneCymbals$Lane", name := "remembers", desc := "()V" } : Jvm.MethodName)) ∈ lw_all := lw_g (lw_at lw_m3 78 rfl) rfl
theorem q619 : (Jvm.Cond.selects "LaneCymbals$Lane" ({ cls := "LaneCymbals$Lane", name := "remembers", desc := "()V" } : Jvm.MethodName) ({ cls := "LaneCymbals$Lane", name := "remembers", desc := "()V" } : Jvm.MethodName)) ∈ lw_all := lw_g (lw_at lw_m3 79 rfl) rfl
theorem q620 : (Jvm.Cond.code ({ cls := "LaneCymbals$Lane", name := "remembers", desc := "()V" } : Jvm.MethodName) prog_11_method_5_code (2 : Nat) (Option.none : Option Jvm.ClassFile.FieldType)) ∈ lw_all := lw_g (lw_at lw_m3 80 rfl) rfl
theorem in_X1 : ∀ w ∈ wsX10, w ∈ lw_all := lw_in wsX10 [163, 165, 167, 169, 171, 173, 175, 177, 179, 181, 183, 185, 187, 189, 191, 193] (by decide +kernel) (by decide +kernel)
/-! LaneCymbals$State -/
set_option maxRecDepth 100000
def RX2 : String := "LaneCymbals$State"
def TX2 : u_T := fun k => match k with
  | 0 => ("LaneCymbals$State", "swings", "[I", true)
  | 1 => ("LaneCymbals$State", "there", "I", false)
  | 2 => ("LaneCymbals$State", "noise", "I", false)
  | _ => ("LaneCymbals$State", "count", "I", false)
def tyX2 : Nat → FieldType := fun k => match k with
  | 0 => .array .int
  | 1 => .int
  | 2 => .int
  | _ => .int
abbrev wsX20 : List Cond := u_ws RX2 TX2 4
theorem nmX2 : ∀ a, a < 4 → ∀ b, b < 4 → a ≠ b → (TX2 a).2.1 ≠ (TX2 b).2.1 := by decide +kernel
theorem tyX2_ok : ∀ k, k < 4 → parseFieldDescriptor (TX2 k).2.2.1 = some (tyX2 k) := by decide +kernel
abbrev cX2_init : ByteArray := prog_15_method_1_code
def yX2_init : MethodName := ⟨RX2, "<init>", "()V"⟩
def dkwX2_init_0 : List UInt8 := [42, 183, 0, 3, 42, 16, 7, 188, 10, 181, 0, 9, 177]
abbrev dktX2_init_0 : List UInt8 := dkwX2_init_0 ++ []
theorem dksX2_init_0 : cX2_init.data.toList.drop 0 = dktX2_init_0 := by decide +kernel
theorem dX2_init_0 : decode cX2_init 0 = .ok (.aload_n 0, 1) := dk_42 (dk_at dksX2_init_0 0 rfl rfl)
theorem dX2_init_1 : decode cX2_init 1 = .ok (.invokespecial 3, 3) := dk_183 0 3 (dk_at dksX2_init_0 1 rfl rfl)
theorem dX2_init_4 : decode cX2_init 4 = .ok (.aload_n 0, 1) := dk_42 (dk_at dksX2_init_0 4 rfl rfl)
theorem dX2_init_5 : decode cX2_init 5 = .ok (.bipush 7, 2) := dk_16 7 (dk_at dksX2_init_0 5 rfl rfl)
theorem dX2_init_7 : decode cX2_init 7 = .ok (.newarray .int, 2) := dk_188_10 (dk_at dksX2_init_0 7 rfl rfl)
theorem dX2_init_9 : decode cX2_init 9 = .ok (.putfield 9, 3) := dk_181 0 9 (dk_at dksX2_init_0 9 rfl rfl)
theorem dX2_init_12 : decode cX2_init 12 = .ok (.return_, 1) := dk_177 (dk_at dksX2_init_0 12 rfl rfl)
abbrev cX2_takes : ByteArray := prog_15_method_2_code
def yX2_takes : MethodName := ⟨RX2, "takes", "(LLaneCymbals$State;)V"⟩
def dkwX2_takes_1 : List UInt8 := [43, 180, 0, 25, 181, 0, 25, 42, 43, 180, 0, 28, 181, 0, 28, 177]
abbrev dktX2_takes_1 : List UInt8 := dkwX2_takes_1 ++ []
def dkwX2_takes_0 : List UInt8 := [43, 180, 0, 9, 3, 42, 180, 0, 9, 3, 16, 7, 184, 0, 15, 42, 43, 180, 0, 21, 181, 0, 21, 42]
abbrev dktX2_takes_0 : List UInt8 := dkwX2_takes_0 ++ dktX2_takes_1
theorem dksX2_takes_0 : cX2_takes.data.toList.drop 0 = dktX2_takes_0 := by decide +kernel
theorem dksX2_takes_1 : cX2_takes.data.toList.drop 24 = dktX2_takes_1 := dk_seg dksX2_takes_0 24 rfl rfl
theorem dX2_takes_0 : decode cX2_takes 0 = .ok (.aload_n 1, 1) := dk_43 (dk_at dksX2_takes_0 0 rfl rfl)
theorem dX2_takes_1 : decode cX2_takes 1 = .ok (.getfield 9, 3) := dk_180 0 9 (dk_at dksX2_takes_0 1 rfl rfl)
theorem dX2_takes_4 : decode cX2_takes 4 = .ok (.iconst 0, 1) := dk_3 (dk_at dksX2_takes_0 4 rfl rfl)
theorem dX2_takes_5 : decode cX2_takes 5 = .ok (.aload_n 0, 1) := dk_42 (dk_at dksX2_takes_0 5 rfl rfl)
theorem dX2_takes_6 : decode cX2_takes 6 = .ok (.getfield 9, 3) := dk_180 0 9 (dk_at dksX2_takes_0 6 rfl rfl)
theorem dX2_takes_9 : decode cX2_takes 9 = .ok (.iconst 0, 1) := dk_3 (dk_at dksX2_takes_0 9 rfl rfl)
theorem dX2_takes_10 : decode cX2_takes 10 = .ok (.bipush 7, 2) := dk_16 7 (dk_at dksX2_takes_0 10 rfl rfl)
theorem dX2_takes_12 : decode cX2_takes 12 = .ok (.invokestatic 15, 3) := dk_184 0 15 (dk_at dksX2_takes_0 12 rfl rfl)
theorem dX2_takes_15 : decode cX2_takes 15 = .ok (.aload_n 0, 1) := dk_42 (dk_at dksX2_takes_0 15 rfl rfl)
theorem dX2_takes_16 : decode cX2_takes 16 = .ok (.aload_n 1, 1) := dk_43 (dk_at dksX2_takes_0 16 rfl rfl)
theorem dX2_takes_17 : decode cX2_takes 17 = .ok (.getfield 21, 3) := dk_180 0 21 (dk_at dksX2_takes_0 17 rfl rfl)
theorem dX2_takes_20 : decode cX2_takes 20 = .ok (.putfield 21, 3) := dk_181 0 21 (dk_at dksX2_takes_0 20 rfl rfl)
theorem dX2_takes_23 : decode cX2_takes 23 = .ok (.aload_n 0, 1) := dk_42 (dk_at dksX2_takes_0 23 rfl rfl)
theorem dX2_takes_24 : decode cX2_takes 24 = .ok (.aload_n 1, 1) := dk_43 (dk_at dksX2_takes_1 0 rfl rfl)
theorem dX2_takes_25 : decode cX2_takes 25 = .ok (.getfield 25, 3) := dk_180 0 25 (dk_at dksX2_takes_1 1 rfl rfl)
theorem dX2_takes_28 : decode cX2_takes 28 = .ok (.putfield 25, 3) := dk_181 0 25 (dk_at dksX2_takes_1 4 rfl rfl)
theorem dX2_takes_31 : decode cX2_takes 31 = .ok (.aload_n 0, 1) := dk_42 (dk_at dksX2_takes_1 7 rfl rfl)
theorem dX2_takes_32 : decode cX2_takes 32 = .ok (.aload_n 1, 1) := dk_43 (dk_at dksX2_takes_1 8 rfl rfl)
theorem dX2_takes_33 : decode cX2_takes 33 = .ok (.getfield 28, 3) := dk_180 0 28 (dk_at dksX2_takes_1 9 rfl rfl)
theorem dX2_takes_36 : decode cX2_takes 36 = .ok (.putfield 28, 3) := dk_181 0 28 (dk_at dksX2_takes_1 12 rfl rfl)
theorem dX2_takes_39 : decode cX2_takes 39 = .ok (.return_, 1) := dk_177 (dk_at dksX2_takes_1 15 rfl rfl)
theorem q63 : (Jvm.Cond.initialized "LaneCymbals$State") ∈ lw_all := lw_g (lw_at lw_m1 3 rfl) rfl
theorem q96 : (Jvm.Cond.instantiable "LaneCymbals$State" (4 : Nat)) ∈ lw_all := lw_g (lw_at lw_m1 36 rfl) rfl
theorem q98 : (Jvm.Cond.instanceMethod ({ cls := "LaneCymbals$State", name := "<init>", desc := "()V" } : Jvm.MethodName)) ∈ lw_all := lw_g (lw_at lw_m1 38 rfl) rfl
theorem q99 : (Jvm.Cond.code ({ cls := "LaneCymbals$State", name := "<init>", desc := "()V" } : Jvm.MethodName) prog_15_method_1_code (1 : Nat) (Option.none : Option Jvm.ClassFile.FieldType)) ∈ lw_all := lw_g (lw_at lw_m1 39 rfl) rfl
theorem q100 : (Jvm.Cond.methodLink "LaneCymbals$State" (3 : Nat) ({ cls := "java/lang/Object", name := "<init>", desc := "()V" } : Jvm.MethodName)) ∈ lw_all := lw_g (lw_at lw_m1 40 rfl) rfl
theorem q101 : (Jvm.Cond.fieldLink "LaneCymbals$State" (9 : Nat) "LaneCymbals$State" "swings" "[I") ∈ lw_all := lw_g (lw_at lw_m1 41 rfl) rfl
theorem q104 : (Jvm.Cond.fieldLink "LaneCymbals$State" (21 : Nat) "LaneCymbals$State" "there" "I") ∈ lw_all := lw_g (lw_at lw_m1 44 rfl) rfl
theorem q108 : (Jvm.Cond.fieldLink "LaneCymbals$State" (25 : Nat) "LaneCymbals$State" "noise" "I") ∈ lw_all := lw_g (lw_at lw_m1 48 rfl) rfl
theorem q111 : (Jvm.Cond.fieldLink "LaneCymbals$State" (28 : Nat) "LaneCymbals$State" "count" "I") ∈ lw_all := lw_g (lw_at lw_m1 51 rfl) rfl
theorem q114 : (Jvm.Cond.laysFinal "LaneCymbals$State" "LaneCymbals$State" "swings" "[I") ∈ lw_all := lw_g (lw_at lw_m1 54 rfl) rfl
theorem q115 : (Jvm.Cond.soleField "LaneCymbals$State" "swings") ∈ lw_all := lw_g (lw_at lw_m1 55 rfl) rfl
theorem q116 : (Jvm.Cond.lays "LaneCymbals$State" "LaneCymbals$State" "there" "I") ∈ lw_all := lw_g (lw_at lw_m1 56 rfl) rfl
theorem q117 : (Jvm.Cond.soleField "LaneCymbals$State" "there") ∈ lw_all := lw_g (lw_at lw_m1 57 rfl) rfl
theorem q118 : (Jvm.Cond.lays "LaneCymbals$State" "LaneCymbals$State" "noise" "I") ∈ lw_all := lw_g (lw_at lw_m1 58 rfl) rfl
theorem q119 : (Jvm.Cond.soleField "LaneCymbals$State" "noise") ∈ lw_all := lw_g (lw_at lw_m1 59 rfl) rfl
theorem q120 : (Jvm.Cond.lays "LaneCymbals$State" "LaneCymbals$State" "count" "I") ∈ lw_all := lw_g (lw_at lw_m1 60 rfl) rfl
theorem q121 : (Jvm.Cond.soleField "LaneCymbals$State" "count") ∈ lw_all := lw_g (lw_at lw_m1 61 rfl) rfl
theorem q122 : (Jvm.Cond.superclass "LaneCymbals$State" "java/lang/Object") ∈ lw_all := lw_g (lw_at lw_m1 62 rfl) rfl
theorem q608 : (Jvm.Cond.instanceMethod ({ cls := "LaneCymbals$State", name := "takes", desc := "(LLaneCymbals$State;)V" } : Jvm.MethodName)) ∈ lw_all := lw_g (lw_at lw_m3 68 rfl) rfl
theorem q609 : (Jvm.Cond.selects "LaneCymbals$State" ({ cls := "LaneCymbals$State", name := "takes", desc := "(LLaneCymbals$State;)V" } : Jvm.MethodName) ({ cls := "LaneCymbals$State", name := "takes", desc := "(LLaneCymbals$State;)V" } : Jvm.MethodName)) ∈ lw_all := lw_g (lw_at lw_m3 69 rfl) rfl
theorem q610 : (Jvm.Cond.code ({ cls := "LaneCymbals$State", name := "takes", desc := "(LLaneCymbals$State;)V" } : Jvm.MethodName) prog_15_method_2_code (2 : Nat) (Option.none : Option Jvm.ClassFile.FieldType)) ∈ lw_all := lw_g (lw_at lw_m3 70 rfl) rfl
theorem q611 : (Jvm.Cond.methodLink "LaneCymbals$State" (15 : Nat) ({ cls := "java/lang/System", name := "arraycopy", desc := "(Ljava/lang/Object;ILjava/lang/Object;II)V" } : Jvm.MethodName)) ∈ lw_all := lw_g (lw_at lw_m3 71 rfl) rfl
theorem in_X2 : ∀ w ∈ wsX20, w ∈ lw_all := lw_in wsX20 [114, 116, 118, 120] (by decide +kernel) (by decide +kernel)
/-! LaneCymbals$Reader -/
set_option maxRecDepth 100000
def RX3 : String := "LaneCymbals$Reader"
def TX3 : u_T := fun k => match k with
  | 0 => ("LaneCymbals$Reader", "at", "I", false)
  | 1 => ("LaneCymbals$Reader", "start", "I", false)
  | 2 => ("LaneCymbals$Reader", "token", "I", false)
  | 3 => ("LaneCymbals$Reader", "value", "I", false)
  | 4 => ("LaneCymbals$Reader", "begun", "Z", false)
  | _ => ("LaneCymbals$Reader", "this$0", "LLaneCymbals;", true)
def tyX3 : Nat → FieldType := fun k => match k with
  | 0 => .int
  | 1 => .int
  | 2 => .int
  | 3 => .int
  | 4 => .boolean
  | _ => .object "LaneCymbals"
abbrev wsX30 : List Cond := u_ws RX3 TX3 6
theorem nmX3 : ∀ a, a < 6 → ∀ b, b < 6 → a ≠ b → (TX3 a).2.1 ≠ (TX3 b).2.1 := by decide +kernel
theorem tyX3_ok : ∀ k, k < 6 → parseFieldDescriptor (TX3 k).2.2.1 = some (tyX3 k) := by decide +kernel
abbrev cX3_init : ByteArray := prog_13_method_1_code
def yX3_init : MethodName := ⟨RX3, "<init>", "(LLaneCymbals;)V"⟩
def dkwX3_init_0 : List UInt8 := [42, 43, 181, 0, 3, 42, 183, 0, 9, 177]
abbrev dktX3_init_0 : List UInt8 := dkwX3_init_0 ++ []
theorem dksX3_init_0 : cX3_init.data.toList.drop 0 = dktX3_init_0 := by decide +kernel
theorem dX3_init_0 : decode cX3_init 0 = .ok (.aload_n 0, 1) := dk_42 (dk_at dksX3_init_0 0 rfl rfl)
theorem dX3_init_1 : decode cX3_init 1 = .ok (.aload_n 1, 1) := dk_43 (dk_at dksX3_init_0 1 rfl rfl)
theorem dX3_init_2 : decode cX3_init 2 = .ok (.putfield 3, 3) := dk_181 0 3 (dk_at dksX3_init_0 2 rfl rfl)
theorem dX3_init_5 : decode cX3_init 5 = .ok (.aload_n 0, 1) := dk_42 (dk_at dksX3_init_0 5 rfl rfl)
theorem dX3_init_6 : decode cX3_init 6 = .ok (.invokespecial 9, 3) := dk_183 0 9 (dk_at dksX3_init_0 6 rfl rfl)
theorem dX3_init_9 : decode cX3_init 9 = .ok (.return_, 1) := dk_177 (dk_at dksX3_init_0 9 rfl rfl)
abbrev cX3_reads : ByteArray := prog_13_method_8_code
def yX3_reads : MethodName := ⟨RX3, "reads", "()I"⟩
def dkwX3_reads_3 : List UInt8 := [42, 182, 0, 65, 132, 1, 1, 167, 255, 221, 27, 172]
abbrev dktX3_reads_3 : List UInt8 := dkwX3_reads_3 ++ []
def dkwX3_reads_2 : List UInt8 := [153, 0, 34, 42, 182, 0, 81, 42, 42, 180, 0, 33, 6, 160, 0, 7, 4, 167, 0, 4, 3, 182, 0, 61]
abbrev dktX3_reads_2 : List UInt8 := dkwX3_reads_2 ++ dktX3_reads_3
def dkwX3_reads_1 : List UInt8 := [182, 0, 65, 42, 42, 180, 0, 33, 153, 0, 7, 4, 167, 0, 4, 3, 182, 0, 61, 42, 180, 0, 33]
abbrev dktX3_reads_1 : List UInt8 := dkwX3_reads_1 ++ dktX3_reads_2
def dkwX3_reads_0 : List UInt8 := [42, 180, 0, 3, 180, 0, 68, 7, 182, 0, 72, 42, 3, 181, 0, 15, 42, 3, 181, 0, 77, 3, 60, 42]
abbrev dktX3_reads_0 : List UInt8 := dkwX3_reads_0 ++ dktX3_reads_1
theorem dksX3_reads_0 : cX3_reads.data.toList.drop 0 = dktX3_reads_0 := by decide +kernel
theorem dksX3_reads_1 : cX3_reads.data.toList.drop 24 = dktX3_reads_1 := dk_seg dksX3_reads_0 24 rfl rfl
theorem dksX3_reads_2 : cX3_reads.data.toList.drop 47 = dktX3_reads_2 := dk_seg dksX3_reads_1 23 rfl rfl
theorem dksX3_reads_3 : cX3_reads.data.toList.drop 71 = dktX3_reads_3 := dk_seg dksX3_reads_2 24 rfl rfl
theorem dX3_reads_0 : decode cX3_reads 0 = .ok (.aload_n 0, 1) := dk_42 (dk_at dksX3_reads_0 0 rfl rfl)
theorem dX3_reads_1 : decode cX3_reads 1 = .ok (.getfield 3, 3) := dk_180 0 3 (dk_at dksX3_reads_0 1 rfl rfl)
theorem dX3_reads_4 : decode cX3_reads 4 = .ok (.getfield 68, 3) := dk_180 0 68 (dk_at dksX3_reads_0 4 rfl rfl)
theorem dX3_reads_7 : decode cX3_reads 7 = .ok (.iconst 4, 1) := dk_7 (dk_at dksX3_reads_0 7 rfl rfl)
theorem dX3_reads_8 : decode cX3_reads 8 = .ok (.invokevirtual 72, 3) := dk_182 0 72 (dk_at dksX3_reads_0 8 rfl rfl)
theorem dX3_reads_11 : decode cX3_reads 11 = .ok (.aload_n 0, 1) := dk_42 (dk_at dksX3_reads_0 11 rfl rfl)
theorem dX3_reads_12 : decode cX3_reads 12 = .ok (.iconst 0, 1) := dk_3 (dk_at dksX3_reads_0 12 rfl rfl)
theorem dX3_reads_13 : decode cX3_reads 13 = .ok (.putfield 15, 3) := dk_181 0 15 (dk_at dksX3_reads_0 13 rfl rfl)
theorem dX3_reads_16 : decode cX3_reads 16 = .ok (.aload_n 0, 1) := dk_42 (dk_at dksX3_reads_0 16 rfl rfl)
theorem dX3_reads_17 : decode cX3_reads 17 = .ok (.iconst 0, 1) := dk_3 (dk_at dksX3_reads_0 17 rfl rfl)
theorem dX3_reads_18 : decode cX3_reads 18 = .ok (.putfield 77, 3) := dk_181 0 77 (dk_at dksX3_reads_0 18 rfl rfl)
theorem dX3_reads_21 : decode cX3_reads 21 = .ok (.iconst 0, 1) := dk_3 (dk_at dksX3_reads_0 21 rfl rfl)
theorem dX3_reads_22 : decode cX3_reads 22 = .ok (.istore_n 1, 1) := dk_60 (dk_at dksX3_reads_0 22 rfl rfl)
theorem dX3_reads_23 : decode cX3_reads 23 = .ok (.aload_n 0, 1) := dk_42 (dk_at dksX3_reads_0 23 rfl rfl)
theorem dX3_reads_24 : decode cX3_reads 24 = .ok (.invokevirtual 65, 3) := dk_182 0 65 (dk_at dksX3_reads_1 0 rfl rfl)
theorem dX3_reads_27 : decode cX3_reads 27 = .ok (.aload_n 0, 1) := dk_42 (dk_at dksX3_reads_1 3 rfl rfl)
theorem dX3_reads_28 : decode cX3_reads 28 = .ok (.aload_n 0, 1) := dk_42 (dk_at dksX3_reads_1 4 rfl rfl)
theorem dX3_reads_29 : decode cX3_reads 29 = .ok (.getfield 33, 3) := dk_180 0 33 (dk_at dksX3_reads_1 5 rfl rfl)
theorem dX3_reads_32 : decode cX3_reads 32 = .ok (.ifCond .eq 7, 3) := dk_153 0 7 (dk_at dksX3_reads_1 8 rfl rfl)
theorem dX3_reads_35 : decode cX3_reads 35 = .ok (.iconst 1, 1) := dk_4 (dk_at dksX3_reads_1 11 rfl rfl)
theorem dX3_reads_36 : decode cX3_reads 36 = .ok (.goto 4, 3) := dk_167 0 4 (dk_at dksX3_reads_1 12 rfl rfl)
theorem dX3_reads_39 : decode cX3_reads 39 = .ok (.iconst 0, 1) := dk_3 (dk_at dksX3_reads_1 15 rfl rfl)
theorem dX3_reads_40 : decode cX3_reads 40 = .ok (.invokevirtual 61, 3) := dk_182 0 61 (dk_at dksX3_reads_1 16 rfl rfl)
theorem dX3_reads_43 : decode cX3_reads 43 = .ok (.aload_n 0, 1) := dk_42 (dk_at dksX3_reads_1 19 rfl rfl)
theorem dX3_reads_44 : decode cX3_reads 44 = .ok (.getfield 33, 3) := dk_180 0 33 (dk_at dksX3_reads_1 20 rfl rfl)
theorem dX3_reads_47 : decode cX3_reads 47 = .ok (.ifCond .eq 34, 3) := dk_153 0 34 (dk_at dksX3_reads_2 0 rfl rfl)
theorem dX3_reads_50 : decode cX3_reads 50 = .ok (.aload_n 0, 1) := dk_42 (dk_at dksX3_reads_2 3 rfl rfl)
theorem dX3_reads_51 : decode cX3_reads 51 = .ok (.invokevirtual 81, 3) := dk_182 0 81 (dk_at dksX3_reads_2 4 rfl rfl)
theorem dX3_reads_54 : decode cX3_reads 54 = .ok (.aload_n 0, 1) := dk_42 (dk_at dksX3_reads_2 7 rfl rfl)
theorem dX3_reads_55 : decode cX3_reads 55 = .ok (.aload_n 0, 1) := dk_42 (dk_at dksX3_reads_2 8 rfl rfl)
theorem dX3_reads_56 : decode cX3_reads 56 = .ok (.getfield 33, 3) := dk_180 0 33 (dk_at dksX3_reads_2 9 rfl rfl)
theorem dX3_reads_59 : decode cX3_reads 59 = .ok (.iconst 3, 1) := dk_6 (dk_at dksX3_reads_2 12 rfl rfl)
theorem dX3_reads_60 : decode cX3_reads 60 = .ok (.if_icmp .ne 7, 3) := dk_160 0 7 (dk_at dksX3_reads_2 13 rfl rfl)
theorem dX3_reads_63 : decode cX3_reads 63 = .ok (.iconst 1, 1) := dk_4 (dk_at dksX3_reads_2 16 rfl rfl)
theorem dX3_reads_64 : decode cX3_reads 64 = .ok (.goto 4, 3) := dk_167 0 4 (dk_at dksX3_reads_2 17 rfl rfl)
theorem dX3_reads_67 : decode cX3_reads 67 = .ok (.iconst 0, 1) := dk_3 (dk_at dksX3_reads_2 20 rfl rfl)
theorem dX3_reads_68 : decode cX3_reads 68 = .ok (.invokevirtual 61, 3) := dk_182 0 61 (dk_at dksX3_reads_2 21 rfl rfl)
theorem dX3_reads_71 : decode cX3_reads 71 = .ok (.aload_n 0, 1) := dk_42 (dk_at dksX3_reads_3 0 rfl rfl)
theorem dX3_reads_72 : decode cX3_reads 72 = .ok (.invokevirtual 65, 3) := dk_182 0 65 (dk_at dksX3_reads_3 1 rfl rfl)
theorem dX3_reads_75 : decode cX3_reads 75 = .ok (.iinc 1 1, 3) := dk_132 1 1 (dk_at dksX3_reads_3 4 rfl rfl)
theorem dX3_reads_78 : decode cX3_reads 78 = .ok (.goto (-35), 3) := dk_167 255 221 (dk_at dksX3_reads_3 7 rfl rfl)
theorem dX3_reads_81 : decode cX3_reads 81 = .ok (.iload_n 1, 1) := dk_27 (dk_at dksX3_reads_3 10 rfl rfl)
theorem dX3_reads_82 : decode cX3_reads 82 = .ok (.ireturn, 1) := dk_172 (dk_at dksX3_reads_3 11 rfl rfl)
abbrev cX3_scans : ByteArray := prog_13_method_3_code
def yX3_scans : MethodName := ⟨RX3, "scans", "()V"⟩
def dkwX3_scans_6 : List UInt8 := [96, 181, 0, 15, 177]
abbrev dktX3_scans_6 : List UInt8 := dkwX3_scans_6 ++ []
def dkwX3_scans_5 : List UInt8 := [16, 59, 16, 59, 182, 0, 26, 153, 0, 7, 6, 167, 0, 4, 4, 181, 0, 33, 42, 89, 180, 0, 15, 4]
abbrev dktX3_scans_5 : List UInt8 := dkwX3_scans_5 ++ dktX3_scans_6
def dkwX3_scans_4 : List UInt8 := [16, 48, 16, 57, 182, 0, 26, 153, 0, 14, 42, 42, 182, 0, 36, 181, 0, 33, 167, 0, 33, 42, 42]
abbrev dktX3_scans_4 : List UInt8 := dkwX3_scans_4 ++ dktX3_scans_5
def dkwX3_scans_3 : List UInt8 := [16, 97, 16, 122, 182, 0, 26, 153, 0, 68, 42, 89, 180, 0, 15, 4, 96, 181, 0, 15, 167, 255, 235, 42]
abbrev dktX3_scans_3 : List UInt8 := dkwX3_scans_3 ++ dktX3_scans_4
def dkwX3_scans_2 : List UInt8 := [181, 0, 33, 167, 0, 95, 42, 16, 97, 16, 122, 182, 0, 26, 153, 0, 32, 42, 7, 181, 0, 33, 42]
abbrev dktX3_scans_2 : List UInt8 := dkwX3_scans_2 ++ dktX3_scans_3
def dkwX3_scans_1 : List UInt8 := [42, 42, 180, 0, 15, 181, 0, 30, 42, 180, 0, 15, 42, 180, 0, 3, 180, 0, 19, 160, 0, 11, 42, 3]
abbrev dktX3_scans_1 : List UInt8 := dkwX3_scans_1 ++ dktX3_scans_2
def dkwX3_scans_0 : List UInt8 := [42, 16, 32, 16, 32, 182, 0, 26, 153, 0, 16, 42, 89, 180, 0, 15, 4, 96, 181, 0, 15, 167, 255, 235]
abbrev dktX3_scans_0 : List UInt8 := dkwX3_scans_0 ++ dktX3_scans_1
theorem dksX3_scans_0 : cX3_scans.data.toList.drop 0 = dktX3_scans_0 := by decide +kernel
theorem dksX3_scans_1 : cX3_scans.data.toList.drop 24 = dktX3_scans_1 := dk_seg dksX3_scans_0 24 rfl rfl
theorem dksX3_scans_2 : cX3_scans.data.toList.drop 48 = dktX3_scans_2 := dk_seg dksX3_scans_1 24 rfl rfl
theorem dksX3_scans_3 : cX3_scans.data.toList.drop 71 = dktX3_scans_3 := dk_seg dksX3_scans_2 23 rfl rfl
theorem dksX3_scans_4 : cX3_scans.data.toList.drop 95 = dktX3_scans_4 := dk_seg dksX3_scans_3 24 rfl rfl
theorem dksX3_scans_5 : cX3_scans.data.toList.drop 118 = dktX3_scans_5 := dk_seg dksX3_scans_4 23 rfl rfl
theorem dksX3_scans_6 : cX3_scans.data.toList.drop 142 = dktX3_scans_6 := dk_seg dksX3_scans_5 24 rfl rfl
theorem dX3_scans_0 : decode cX3_scans 0 = .ok (.aload_n 0, 1) := dk_42 (dk_at dksX3_scans_0 0 rfl rfl)
theorem dX3_scans_1 : decode cX3_scans 1 = .ok (.bipush 32, 2) := dk_16 32 (dk_at dksX3_scans_0 1 rfl rfl)
theorem dX3_scans_3 : decode cX3_scans 3 = .ok (.bipush 32, 2) := dk_16 32 (dk_at dksX3_scans_0 3 rfl rfl)
theorem dX3_scans_5 : decode cX3_scans 5 = .ok (.invokevirtual 26, 3) := dk_182 0 26 (dk_at dksX3_scans_0 5 rfl rfl)
theorem dX3_scans_8 : decode cX3_scans 8 = .ok (.ifCond .eq 16, 3) := dk_153 0 16 (dk_at dksX3_scans_0 8 rfl rfl)
theorem dX3_scans_11 : decode cX3_scans 11 = .ok (.aload_n 0, 1) := dk_42 (dk_at dksX3_scans_0 11 rfl rfl)
theorem dX3_scans_12 : decode cX3_scans 12 = .ok (.dup, 1) := dk_89 (dk_at dksX3_scans_0 12 rfl rfl)
theorem dX3_scans_13 : decode cX3_scans 13 = .ok (.getfield 15, 3) := dk_180 0 15 (dk_at dksX3_scans_0 13 rfl rfl)
theorem dX3_scans_16 : decode cX3_scans 16 = .ok (.iconst 1, 1) := dk_4 (dk_at dksX3_scans_0 16 rfl rfl)
theorem dX3_scans_17 : decode cX3_scans 17 = .ok (.iadd, 1) := dk_96 (dk_at dksX3_scans_0 17 rfl rfl)
theorem dX3_scans_18 : decode cX3_scans 18 = .ok (.putfield 15, 3) := dk_181 0 15 (dk_at dksX3_scans_0 18 rfl rfl)
theorem dX3_scans_21 : decode cX3_scans 21 = .ok (.goto (-21), 3) := dk_167 255 235 (dk_at dksX3_scans_0 21 rfl rfl)
theorem dX3_scans_24 : decode cX3_scans 24 = .ok (.aload_n 0, 1) := dk_42 (dk_at dksX3_scans_1 0 rfl rfl)
theorem dX3_scans_25 : decode cX3_scans 25 = .ok (.aload_n 0, 1) := dk_42 (dk_at dksX3_scans_1 1 rfl rfl)
theorem dX3_scans_26 : decode cX3_scans 26 = .ok (.getfield 15, 3) := dk_180 0 15 (dk_at dksX3_scans_1 2 rfl rfl)
theorem dX3_scans_29 : decode cX3_scans 29 = .ok (.putfield 30, 3) := dk_181 0 30 (dk_at dksX3_scans_1 5 rfl rfl)
theorem dX3_scans_32 : decode cX3_scans 32 = .ok (.aload_n 0, 1) := dk_42 (dk_at dksX3_scans_1 8 rfl rfl)
theorem dX3_scans_33 : decode cX3_scans 33 = .ok (.getfield 15, 3) := dk_180 0 15 (dk_at dksX3_scans_1 9 rfl rfl)
theorem dX3_scans_36 : decode cX3_scans 36 = .ok (.aload_n 0, 1) := dk_42 (dk_at dksX3_scans_1 12 rfl rfl)
theorem dX3_scans_37 : decode cX3_scans 37 = .ok (.getfield 3, 3) := dk_180 0 3 (dk_at dksX3_scans_1 13 rfl rfl)
theorem dX3_scans_40 : decode cX3_scans 40 = .ok (.getfield 19, 3) := dk_180 0 19 (dk_at dksX3_scans_1 16 rfl rfl)
theorem dX3_scans_43 : decode cX3_scans 43 = .ok (.if_icmp .ne 11, 3) := dk_160 0 11 (dk_at dksX3_scans_1 19 rfl rfl)
theorem dX3_scans_46 : decode cX3_scans 46 = .ok (.aload_n 0, 1) := dk_42 (dk_at dksX3_scans_1 22 rfl rfl)
theorem dX3_scans_47 : decode cX3_scans 47 = .ok (.iconst 0, 1) := dk_3 (dk_at dksX3_scans_1 23 rfl rfl)
theorem dX3_scans_48 : decode cX3_scans 48 = .ok (.putfield 33, 3) := dk_181 0 33 (dk_at dksX3_scans_2 0 rfl rfl)
theorem dX3_scans_51 : decode cX3_scans 51 = .ok (.goto 95, 3) := dk_167 0 95 (dk_at dksX3_scans_2 3 rfl rfl)
theorem dX3_scans_54 : decode cX3_scans 54 = .ok (.aload_n 0, 1) := dk_42 (dk_at dksX3_scans_2 6 rfl rfl)
theorem dX3_scans_55 : decode cX3_scans 55 = .ok (.bipush 97, 2) := dk_16 97 (dk_at dksX3_scans_2 7 rfl rfl)
theorem dX3_scans_57 : decode cX3_scans 57 = .ok (.bipush 122, 2) := dk_16 122 (dk_at dksX3_scans_2 9 rfl rfl)
theorem dX3_scans_59 : decode cX3_scans 59 = .ok (.invokevirtual 26, 3) := dk_182 0 26 (dk_at dksX3_scans_2 11 rfl rfl)
theorem dX3_scans_62 : decode cX3_scans 62 = .ok (.ifCond .eq 32, 3) := dk_153 0 32 (dk_at dksX3_scans_2 14 rfl rfl)
theorem dX3_scans_65 : decode cX3_scans 65 = .ok (.aload_n 0, 1) := dk_42 (dk_at dksX3_scans_2 17 rfl rfl)
theorem dX3_scans_66 : decode cX3_scans 66 = .ok (.iconst 4, 1) := dk_7 (dk_at dksX3_scans_2 18 rfl rfl)
theorem dX3_scans_67 : decode cX3_scans 67 = .ok (.putfield 33, 3) := dk_181 0 33 (dk_at dksX3_scans_2 19 rfl rfl)
theorem dX3_scans_70 : decode cX3_scans 70 = .ok (.aload_n 0, 1) := dk_42 (dk_at dksX3_scans_2 22 rfl rfl)
theorem dX3_scans_71 : decode cX3_scans 71 = .ok (.bipush 97, 2) := dk_16 97 (dk_at dksX3_scans_3 0 rfl rfl)
theorem dX3_scans_73 : decode cX3_scans 73 = .ok (.bipush 122, 2) := dk_16 122 (dk_at dksX3_scans_3 2 rfl rfl)
theorem dX3_scans_75 : decode cX3_scans 75 = .ok (.invokevirtual 26, 3) := dk_182 0 26 (dk_at dksX3_scans_3 4 rfl rfl)
theorem dX3_scans_78 : decode cX3_scans 78 = .ok (.ifCond .eq 68, 3) := dk_153 0 68 (dk_at dksX3_scans_3 7 rfl rfl)
theorem dX3_scans_81 : decode cX3_scans 81 = .ok (.aload_n 0, 1) := dk_42 (dk_at dksX3_scans_3 10 rfl rfl)
theorem dX3_scans_82 : decode cX3_scans 82 = .ok (.dup, 1) := dk_89 (dk_at dksX3_scans_3 11 rfl rfl)
theorem dX3_scans_83 : decode cX3_scans 83 = .ok (.getfield 15, 3) := dk_180 0 15 (dk_at dksX3_scans_3 12 rfl rfl)
theorem dX3_scans_86 : decode cX3_scans 86 = .ok (.iconst 1, 1) := dk_4 (dk_at dksX3_scans_3 15 rfl rfl)
theorem dX3_scans_87 : decode cX3_scans 87 = .ok (.iadd, 1) := dk_96 (dk_at dksX3_scans_3 16 rfl rfl)
theorem dX3_scans_88 : decode cX3_scans 88 = .ok (.putfield 15, 3) := dk_181 0 15 (dk_at dksX3_scans_3 17 rfl rfl)
theorem dX3_scans_91 : decode cX3_scans 91 = .ok (.goto (-21), 3) := dk_167 255 235 (dk_at dksX3_scans_3 20 rfl rfl)
theorem dX3_scans_94 : decode cX3_scans 94 = .ok (.aload_n 0, 1) := dk_42 (dk_at dksX3_scans_3 23 rfl rfl)
theorem dX3_scans_95 : decode cX3_scans 95 = .ok (.bipush 48, 2) := dk_16 48 (dk_at dksX3_scans_4 0 rfl rfl)
theorem dX3_scans_97 : decode cX3_scans 97 = .ok (.bipush 57, 2) := dk_16 57 (dk_at dksX3_scans_4 2 rfl rfl)
theorem dX3_scans_99 : decode cX3_scans 99 = .ok (.invokevirtual 26, 3) := dk_182 0 26 (dk_at dksX3_scans_4 4 rfl rfl)
theorem dX3_scans_102 : decode cX3_scans 102 = .ok (.ifCond .eq 14, 3) := dk_153 0 14 (dk_at dksX3_scans_4 7 rfl rfl)
theorem dX3_scans_105 : decode cX3_scans 105 = .ok (.aload_n 0, 1) := dk_42 (dk_at dksX3_scans_4 10 rfl rfl)
theorem dX3_scans_106 : decode cX3_scans 106 = .ok (.aload_n 0, 1) := dk_42 (dk_at dksX3_scans_4 11 rfl rfl)
theorem dX3_scans_107 : decode cX3_scans 107 = .ok (.invokevirtual 36, 3) := dk_182 0 36 (dk_at dksX3_scans_4 12 rfl rfl)
theorem dX3_scans_110 : decode cX3_scans 110 = .ok (.putfield 33, 3) := dk_181 0 33 (dk_at dksX3_scans_4 15 rfl rfl)
theorem dX3_scans_113 : decode cX3_scans 113 = .ok (.goto 33, 3) := dk_167 0 33 (dk_at dksX3_scans_4 18 rfl rfl)
theorem dX3_scans_116 : decode cX3_scans 116 = .ok (.aload_n 0, 1) := dk_42 (dk_at dksX3_scans_4 21 rfl rfl)
theorem dX3_scans_117 : decode cX3_scans 117 = .ok (.aload_n 0, 1) := dk_42 (dk_at dksX3_scans_4 22 rfl rfl)
theorem dX3_scans_118 : decode cX3_scans 118 = .ok (.bipush 59, 2) := dk_16 59 (dk_at dksX3_scans_5 0 rfl rfl)
theorem dX3_scans_120 : decode cX3_scans 120 = .ok (.bipush 59, 2) := dk_16 59 (dk_at dksX3_scans_5 2 rfl rfl)
theorem dX3_scans_122 : decode cX3_scans 122 = .ok (.invokevirtual 26, 3) := dk_182 0 26 (dk_at dksX3_scans_5 4 rfl rfl)
theorem dX3_scans_125 : decode cX3_scans 125 = .ok (.ifCond .eq 7, 3) := dk_153 0 7 (dk_at dksX3_scans_5 7 rfl rfl)
theorem dX3_scans_128 : decode cX3_scans 128 = .ok (.iconst 3, 1) := dk_6 (dk_at dksX3_scans_5 10 rfl rfl)
theorem dX3_scans_129 : decode cX3_scans 129 = .ok (.goto 4, 3) := dk_167 0 4 (dk_at dksX3_scans_5 11 rfl rfl)
theorem dX3_scans_132 : decode cX3_scans 132 = .ok (.iconst 1, 1) := dk_4 (dk_at dksX3_scans_5 14 rfl rfl)
theorem dX3_scans_133 : decode cX3_scans 133 = .ok (.putfield 33, 3) := dk_181 0 33 (dk_at dksX3_scans_5 15 rfl rfl)
theorem dX3_scans_136 : decode cX3_scans 136 = .ok (.aload_n 0, 1) := dk_42 (dk_at dksX3_scans_5 18 rfl rfl)
theorem dX3_scans_137 : decode cX3_scans 137 = .ok (.dup, 1) := dk_89 (dk_at dksX3_scans_5 19 rfl rfl)
theorem dX3_scans_138 : decode cX3_scans 138 = .ok (.getfield 15, 3) := dk_180 0 15 (dk_at dksX3_scans_5 20 rfl rfl)
theorem dX3_scans_141 : decode cX3_scans 141 = .ok (.iconst 1, 1) := dk_4 (dk_at dksX3_scans_5 23 rfl rfl)
theorem dX3_scans_142 : decode cX3_scans 142 = .ok (.iadd, 1) := dk_96 (dk_at dksX3_scans_6 0 rfl rfl)
theorem dX3_scans_143 : decode cX3_scans 143 = .ok (.putfield 15, 3) := dk_181 0 15 (dk_at dksX3_scans_6 1 rfl rfl)
theorem dX3_scans_146 : decode cX3_scans 146 = .ok (.return_, 1) := dk_177 (dk_at dksX3_scans_6 4 rfl rfl)
abbrev cX3_isAt : ByteArray := prog_13_method_2_code
def yX3_isAt : MethodName := ⟨RX3, "isAt", "(II)Z"⟩
def dkwX3_isAt_2 : List UInt8 := [4, 167, 0, 4, 3, 172]
abbrev dktX3_isAt_2 : List UInt8 := dkwX3_isAt_2 ++ []
def dkwX3_isAt_1 : List UInt8 := [180, 0, 15, 51, 27, 161, 0, 23, 42, 180, 0, 3, 180, 0, 22, 42, 180, 0, 15, 51, 28, 163, 0, 7]
abbrev dktX3_isAt_1 : List UInt8 := dkwX3_isAt_1 ++ dktX3_isAt_2
def dkwX3_isAt_0 : List UInt8 := [42, 180, 0, 15, 42, 180, 0, 3, 180, 0, 19, 162, 0, 39, 42, 180, 0, 3, 180, 0, 22, 42]
abbrev dktX3_isAt_0 : List UInt8 := dkwX3_isAt_0 ++ dktX3_isAt_1
theorem dksX3_isAt_0 : cX3_isAt.data.toList.drop 0 = dktX3_isAt_0 := by decide +kernel
theorem dksX3_isAt_1 : cX3_isAt.data.toList.drop 22 = dktX3_isAt_1 := dk_seg dksX3_isAt_0 22 rfl rfl
theorem dksX3_isAt_2 : cX3_isAt.data.toList.drop 46 = dktX3_isAt_2 := dk_seg dksX3_isAt_1 24 rfl rfl
theorem dX3_isAt_0 : decode cX3_isAt 0 = .ok (.aload_n 0, 1) := dk_42 (dk_at dksX3_isAt_0 0 rfl rfl)
theorem dX3_isAt_1 : decode cX3_isAt 1 = .ok (.getfield 15, 3) := dk_180 0 15 (dk_at dksX3_isAt_0 1 rfl rfl)
theorem dX3_isAt_4 : decode cX3_isAt 4 = .ok (.aload_n 0, 1) := dk_42 (dk_at dksX3_isAt_0 4 rfl rfl)
theorem dX3_isAt_5 : decode cX3_isAt 5 = .ok (.getfield 3, 3) := dk_180 0 3 (dk_at dksX3_isAt_0 5 rfl rfl)
theorem dX3_isAt_8 : decode cX3_isAt 8 = .ok (.getfield 19, 3) := dk_180 0 19 (dk_at dksX3_isAt_0 8 rfl rfl)
theorem dX3_isAt_11 : decode cX3_isAt 11 = .ok (.if_icmp .ge 39, 3) := dk_162 0 39 (dk_at dksX3_isAt_0 11 rfl rfl)
theorem dX3_isAt_14 : decode cX3_isAt 14 = .ok (.aload_n 0, 1) := dk_42 (dk_at dksX3_isAt_0 14 rfl rfl)
theorem dX3_isAt_15 : decode cX3_isAt 15 = .ok (.getfield 3, 3) := dk_180 0 3 (dk_at dksX3_isAt_0 15 rfl rfl)
theorem dX3_isAt_18 : decode cX3_isAt 18 = .ok (.getfield 22, 3) := dk_180 0 22 (dk_at dksX3_isAt_0 18 rfl rfl)
theorem dX3_isAt_21 : decode cX3_isAt 21 = .ok (.aload_n 0, 1) := dk_42 (dk_at dksX3_isAt_0 21 rfl rfl)
theorem dX3_isAt_22 : decode cX3_isAt 22 = .ok (.getfield 15, 3) := dk_180 0 15 (dk_at dksX3_isAt_1 0 rfl rfl)
theorem dX3_isAt_25 : decode cX3_isAt 25 = .ok (.baload, 1) := dk_51 (dk_at dksX3_isAt_1 3 rfl rfl)
theorem dX3_isAt_26 : decode cX3_isAt 26 = .ok (.iload_n 1, 1) := dk_27 (dk_at dksX3_isAt_1 4 rfl rfl)
theorem dX3_isAt_27 : decode cX3_isAt 27 = .ok (.if_icmp .lt 23, 3) := dk_161 0 23 (dk_at dksX3_isAt_1 5 rfl rfl)
theorem dX3_isAt_30 : decode cX3_isAt 30 = .ok (.aload_n 0, 1) := dk_42 (dk_at dksX3_isAt_1 8 rfl rfl)
theorem dX3_isAt_31 : decode cX3_isAt 31 = .ok (.getfield 3, 3) := dk_180 0 3 (dk_at dksX3_isAt_1 9 rfl rfl)
theorem dX3_isAt_34 : decode cX3_isAt 34 = .ok (.getfield 22, 3) := dk_180 0 22 (dk_at dksX3_isAt_1 12 rfl rfl)
theorem dX3_isAt_37 : decode cX3_isAt 37 = .ok (.aload_n 0, 1) := dk_42 (dk_at dksX3_isAt_1 15 rfl rfl)
theorem dX3_isAt_38 : decode cX3_isAt 38 = .ok (.getfield 15, 3) := dk_180 0 15 (dk_at dksX3_isAt_1 16 rfl rfl)
theorem dX3_isAt_41 : decode cX3_isAt 41 = .ok (.baload, 1) := dk_51 (dk_at dksX3_isAt_1 19 rfl rfl)
theorem dX3_isAt_42 : decode cX3_isAt 42 = .ok (.iload_n 2, 1) := dk_28 (dk_at dksX3_isAt_1 20 rfl rfl)
theorem dX3_isAt_43 : decode cX3_isAt 43 = .ok (.if_icmp .gt 7, 3) := dk_163 0 7 (dk_at dksX3_isAt_1 21 rfl rfl)
theorem dX3_isAt_46 : decode cX3_isAt 46 = .ok (.iconst 1, 1) := dk_4 (dk_at dksX3_isAt_2 0 rfl rfl)
theorem dX3_isAt_47 : decode cX3_isAt 47 = .ok (.goto 4, 3) := dk_167 0 4 (dk_at dksX3_isAt_2 1 rfl rfl)
theorem dX3_isAt_50 : decode cX3_isAt 50 = .ok (.iconst 0, 1) := dk_3 (dk_at dksX3_isAt_2 4 rfl rfl)
theorem dX3_isAt_51 : decode cX3_isAt 51 = .ok (.ireturn, 1) := dk_172 (dk_at dksX3_isAt_2 5 rfl rfl)
abbrev cX3_number : ByteArray := prog_13_method_4_code
def yX3_number : MethodName := ⟨RX3, "number", "()I"⟩
def dkwX3_number_3 : List UInt8 := [167, 255, 193, 27, 5, 164, 0, 7, 4, 167, 0, 4, 5, 172]
abbrev dktX3_number_3 : List UInt8 := dkwX3_number_3 ++ []
def dkwX3_number_2 : List UInt8 := [167, 0, 7, 42, 180, 0, 40, 181, 0, 40, 42, 89, 180, 0, 15, 4, 96, 181, 0, 15, 132, 1, 1]
abbrev dktX3_number_2 : List UInt8 := dkwX3_number_2 ++ dktX3_number_3
def dkwX3_number_1 : List UInt8 := [16, 10, 42, 180, 0, 40, 104, 42, 180, 0, 3, 180, 0, 22, 42, 180, 0, 15, 51, 96, 16, 48, 100]
abbrev dktX3_number_1 : List UInt8 := dkwX3_number_1 ++ dktX3_number_2
def dkwX3_number_0 : List UInt8 := [3, 60, 42, 3, 181, 0, 40, 42, 16, 48, 16, 57, 182, 0, 26, 153, 0, 58, 42, 27, 5, 162, 0, 29]
abbrev dktX3_number_0 : List UInt8 := dkwX3_number_0 ++ dktX3_number_1
theorem dksX3_number_0 : cX3_number.data.toList.drop 0 = dktX3_number_0 := by decide +kernel
theorem dksX3_number_1 : cX3_number.data.toList.drop 24 = dktX3_number_1 := dk_seg dksX3_number_0 24 rfl rfl
theorem dksX3_number_2 : cX3_number.data.toList.drop 47 = dktX3_number_2 := dk_seg dksX3_number_1 23 rfl rfl
theorem dksX3_number_3 : cX3_number.data.toList.drop 70 = dktX3_number_3 := dk_seg dksX3_number_2 23 rfl rfl
theorem dX3_number_0 : decode cX3_number 0 = .ok (.iconst 0, 1) := dk_3 (dk_at dksX3_number_0 0 rfl rfl)
theorem dX3_number_1 : decode cX3_number 1 = .ok (.istore_n 1, 1) := dk_60 (dk_at dksX3_number_0 1 rfl rfl)
theorem dX3_number_2 : decode cX3_number 2 = .ok (.aload_n 0, 1) := dk_42 (dk_at dksX3_number_0 2 rfl rfl)
theorem dX3_number_3 : decode cX3_number 3 = .ok (.iconst 0, 1) := dk_3 (dk_at dksX3_number_0 3 rfl rfl)
theorem dX3_number_4 : decode cX3_number 4 = .ok (.putfield 40, 3) := dk_181 0 40 (dk_at dksX3_number_0 4 rfl rfl)
theorem dX3_number_7 : decode cX3_number 7 = .ok (.aload_n 0, 1) := dk_42 (dk_at dksX3_number_0 7 rfl rfl)
theorem dX3_number_8 : decode cX3_number 8 = .ok (.bipush 48, 2) := dk_16 48 (dk_at dksX3_number_0 8 rfl rfl)
theorem dX3_number_10 : decode cX3_number 10 = .ok (.bipush 57, 2) := dk_16 57 (dk_at dksX3_number_0 10 rfl rfl)
theorem dX3_number_12 : decode cX3_number 12 = .ok (.invokevirtual 26, 3) := dk_182 0 26 (dk_at dksX3_number_0 12 rfl rfl)
theorem dX3_number_15 : decode cX3_number 15 = .ok (.ifCond .eq 58, 3) := dk_153 0 58 (dk_at dksX3_number_0 15 rfl rfl)
theorem dX3_number_18 : decode cX3_number 18 = .ok (.aload_n 0, 1) := dk_42 (dk_at dksX3_number_0 18 rfl rfl)
theorem dX3_number_19 : decode cX3_number 19 = .ok (.iload_n 1, 1) := dk_27 (dk_at dksX3_number_0 19 rfl rfl)
theorem dX3_number_20 : decode cX3_number 20 = .ok (.iconst 2, 1) := dk_5 (dk_at dksX3_number_0 20 rfl rfl)
theorem dX3_number_21 : decode cX3_number 21 = .ok (.if_icmp .ge 29, 3) := dk_162 0 29 (dk_at dksX3_number_0 21 rfl rfl)
theorem dX3_number_24 : decode cX3_number 24 = .ok (.bipush 10, 2) := dk_16 10 (dk_at dksX3_number_1 0 rfl rfl)
theorem dX3_number_26 : decode cX3_number 26 = .ok (.aload_n 0, 1) := dk_42 (dk_at dksX3_number_1 2 rfl rfl)
theorem dX3_number_27 : decode cX3_number 27 = .ok (.getfield 40, 3) := dk_180 0 40 (dk_at dksX3_number_1 3 rfl rfl)
theorem dX3_number_30 : decode cX3_number 30 = .ok (.imul, 1) := dk_104 (dk_at dksX3_number_1 6 rfl rfl)
theorem dX3_number_31 : decode cX3_number 31 = .ok (.aload_n 0, 1) := dk_42 (dk_at dksX3_number_1 7 rfl rfl)
theorem dX3_number_32 : decode cX3_number 32 = .ok (.getfield 3, 3) := dk_180 0 3 (dk_at dksX3_number_1 8 rfl rfl)
theorem dX3_number_35 : decode cX3_number 35 = .ok (.getfield 22, 3) := dk_180 0 22 (dk_at dksX3_number_1 11 rfl rfl)
theorem dX3_number_38 : decode cX3_number 38 = .ok (.aload_n 0, 1) := dk_42 (dk_at dksX3_number_1 14 rfl rfl)
theorem dX3_number_39 : decode cX3_number 39 = .ok (.getfield 15, 3) := dk_180 0 15 (dk_at dksX3_number_1 15 rfl rfl)
theorem dX3_number_42 : decode cX3_number 42 = .ok (.baload, 1) := dk_51 (dk_at dksX3_number_1 18 rfl rfl)
theorem dX3_number_43 : decode cX3_number 43 = .ok (.iadd, 1) := dk_96 (dk_at dksX3_number_1 19 rfl rfl)
theorem dX3_number_44 : decode cX3_number 44 = .ok (.bipush 48, 2) := dk_16 48 (dk_at dksX3_number_1 20 rfl rfl)
theorem dX3_number_46 : decode cX3_number 46 = .ok (.isub, 1) := dk_100 (dk_at dksX3_number_1 22 rfl rfl)
theorem dX3_number_47 : decode cX3_number 47 = .ok (.goto 7, 3) := dk_167 0 7 (dk_at dksX3_number_2 0 rfl rfl)
theorem dX3_number_50 : decode cX3_number 50 = .ok (.aload_n 0, 1) := dk_42 (dk_at dksX3_number_2 3 rfl rfl)
theorem dX3_number_51 : decode cX3_number 51 = .ok (.getfield 40, 3) := dk_180 0 40 (dk_at dksX3_number_2 4 rfl rfl)
theorem dX3_number_54 : decode cX3_number 54 = .ok (.putfield 40, 3) := dk_181 0 40 (dk_at dksX3_number_2 7 rfl rfl)
theorem dX3_number_57 : decode cX3_number 57 = .ok (.aload_n 0, 1) := dk_42 (dk_at dksX3_number_2 10 rfl rfl)
theorem dX3_number_58 : decode cX3_number 58 = .ok (.dup, 1) := dk_89 (dk_at dksX3_number_2 11 rfl rfl)
theorem dX3_number_59 : decode cX3_number 59 = .ok (.getfield 15, 3) := dk_180 0 15 (dk_at dksX3_number_2 12 rfl rfl)
theorem dX3_number_62 : decode cX3_number 62 = .ok (.iconst 1, 1) := dk_4 (dk_at dksX3_number_2 15 rfl rfl)
theorem dX3_number_63 : decode cX3_number 63 = .ok (.iadd, 1) := dk_96 (dk_at dksX3_number_2 16 rfl rfl)
theorem dX3_number_64 : decode cX3_number 64 = .ok (.putfield 15, 3) := dk_181 0 15 (dk_at dksX3_number_2 17 rfl rfl)
theorem dX3_number_67 : decode cX3_number 67 = .ok (.iinc 1 1, 3) := dk_132 1 1 (dk_at dksX3_number_2 20 rfl rfl)
theorem dX3_number_70 : decode cX3_number 70 = .ok (.goto (-63), 3) := dk_167 255 193 (dk_at dksX3_number_3 0 rfl rfl)
theorem dX3_number_73 : decode cX3_number 73 = .ok (.iload_n 1, 1) := dk_27 (dk_at dksX3_number_3 3 rfl rfl)
theorem dX3_number_74 : decode cX3_number 74 = .ok (.iconst 2, 1) := dk_5 (dk_at dksX3_number_3 4 rfl rfl)
theorem dX3_number_75 : decode cX3_number 75 = .ok (.if_icmp .le 7, 3) := dk_164 0 7 (dk_at dksX3_number_3 5 rfl rfl)
theorem dX3_number_78 : decode cX3_number 78 = .ok (.iconst 1, 1) := dk_4 (dk_at dksX3_number_3 8 rfl rfl)
theorem dX3_number_79 : decode cX3_number 79 = .ok (.goto 4, 3) := dk_167 0 4 (dk_at dksX3_number_3 9 rfl rfl)
theorem dX3_number_82 : decode cX3_number 82 = .ok (.iconst 2, 1) := dk_5 (dk_at dksX3_number_3 12 rfl rfl)
theorem dX3_number_83 : decode cX3_number 83 = .ok (.ireturn, 1) := dk_172 (dk_at dksX3_number_3 13 rfl rfl)
abbrev cX3_wants : ByteArray := prog_13_method_6_code
def yX3_wants : MethodName := ⟨RX3, "wants", "(Z)V"⟩
def dkwX3_wants_0 : List UInt8 := [27, 154, 0, 15, 187, 0, 52, 89, 42, 180, 0, 30, 183, 0, 54, 191, 177]
abbrev dktX3_wants_0 : List UInt8 := dkwX3_wants_0 ++ []
theorem dksX3_wants_0 : cX3_wants.data.toList.drop 0 = dktX3_wants_0 := by decide +kernel
theorem dX3_wants_0 : decode cX3_wants 0 = .ok (.iload_n 1, 1) := dk_27 (dk_at dksX3_wants_0 0 rfl rfl)
theorem dX3_wants_1 : decode cX3_wants 1 = .ok (.ifCond .ne 15, 3) := dk_154 0 15 (dk_at dksX3_wants_0 1 rfl rfl)
theorem dX3_wants_4 : decode cX3_wants 4 = .ok (.new 52, 3) := dk_187 0 52 (dk_at dksX3_wants_0 4 rfl rfl)
theorem dX3_wants_7 : decode cX3_wants 7 = .ok (.dup, 1) := dk_89 (dk_at dksX3_wants_0 7 rfl rfl)
theorem dX3_wants_8 : decode cX3_wants 8 = .ok (.aload_n 0, 1) := dk_42 (dk_at dksX3_wants_0 8 rfl rfl)
theorem dX3_wants_9 : decode cX3_wants 9 = .ok (.getfield 30, 3) := dk_180 0 30 (dk_at dksX3_wants_0 9 rfl rfl)
theorem dX3_wants_12 : decode cX3_wants 12 = .ok (.invokespecial 54, 3) := dk_183 0 54 (dk_at dksX3_wants_0 12 rfl rfl)
theorem dX3_wants_15 : decode cX3_wants 15 = .ok (.athrow, 1) := dk_191 (dk_at dksX3_wants_0 15 rfl rfl)
theorem dX3_wants_16 : decode cX3_wants 16 = .ok (.return_, 1) := dk_177 (dk_at dksX3_wants_0 16 rfl rfl)
abbrev cX3_item : ByteArray := prog_13_method_9_code
def yX3_item : MethodName := ⟨RX3, "item", "()V"⟩
def dkwX3_item_13 : List UInt8 := [132, 2, 1, 167, 255, 228, 177]
abbrev dktX3_item_13 : List UInt8 := dkwX3_item_13 ++ []
def dkwX3_item_12 : List UInt8 := [162, 0, 29, 42, 180, 0, 3, 180, 0, 68, 42, 180, 0, 3, 180, 0, 68, 180, 0, 114, 182, 0, 125]
abbrev dktX3_item_12 : List UInt8 := dkwX3_item_12 ++ dktX3_item_13
def dkwX3_item_11 : List UInt8 := [182, 0, 86, 182, 0, 61, 42, 182, 0, 65, 42, 4, 16, 99, 182, 0, 90, 60, 3, 61, 28, 27]
abbrev dktX3_item_11 : List UInt8 := dkwX3_item_11 ++ dktX3_item_12
def dkwX3_item_10 : List UInt8 := [180, 0, 105, 4, 100, 182, 0, 90, 120, 2, 130, 126, 181, 0, 118, 167, 0, 58, 42, 42, 18, 123]
abbrev dktX3_item_10 : List UInt8 := dkwX3_item_10 ++ dktX3_item_11
def dkwX3_item_9 : List UInt8 := [180, 0, 3, 180, 0, 68, 180, 0, 114, 89, 180, 0, 118, 4, 42, 3, 42, 180, 0, 3, 180, 0, 68]
abbrev dktX3_item_9 : List UInt8 := dkwX3_item_9 ++ dktX3_item_10
def dkwX3_item_8 : List UInt8 := [4, 182, 0, 90, 182, 0, 108, 167, 0, 113, 42, 18, 112, 182, 0, 86, 153, 0, 49, 42, 182, 0, 65, 42]
abbrev dktX3_item_8 : List UInt8 := dkwX3_item_8 ++ dktX3_item_9
def dkwX3_item_7 : List UInt8 := [182, 0, 61, 42, 182, 0, 65, 42, 3, 8, 182, 0, 90, 60, 42, 180, 0, 3, 180, 0, 68, 27, 42, 3]
abbrev dktX3_item_7 : List UInt8 := dkwX3_item_7 ++ dktX3_item_8
def dkwX3_item_6 : List UInt8 := [153, 0, 57, 42, 42, 180, 0, 3, 180, 0, 68, 180, 0, 105, 7, 162, 0, 7, 4, 167, 0, 4, 3]
abbrev dktX3_item_6 : List UInt8 := dkwX3_item_6 ++ dktX3_item_7
def dkwX3_item_5 : List UInt8 := [180, 0, 68, 27, 28, 42, 3, 16, 9, 182, 0, 90, 182, 0, 99, 167, 0, 176, 42, 18, 103, 182, 0, 86]
abbrev dktX3_item_5 : List UInt8 := dkwX3_item_5 ++ dktX3_item_6
def dkwX3_item_4 : List UInt8 := [42, 182, 0, 65, 42, 3, 8, 182, 0, 90, 60, 42, 3, 4, 182, 0, 90, 61, 42, 180, 0, 3]
abbrev dktX3_item_4 : List UInt8 := dkwX3_item_4 ++ dktX3_item_5
def dkwX3_item_3 : List UInt8 := [42, 42, 180, 0, 3, 180, 0, 68, 180, 0, 96, 16, 7, 162, 0, 7, 4, 167, 0, 4, 3, 182, 0, 61]
abbrev dktX3_item_3 : List UInt8 := dkwX3_item_3 ++ dktX3_item_4
def dkwX3_item_2 : List UInt8 := [182, 0, 90, 182, 0, 72, 177, 42, 42, 180, 0, 77, 182, 0, 61, 42, 18, 94, 182, 0, 86, 153, 0, 67]
abbrev dktX3_item_2 : List UInt8 := dkwX3_item_2 ++ dktX3_item_3
def dkwX3_item_1 : List UInt8 := [182, 0, 61, 42, 4, 181, 0, 77, 42, 182, 0, 65, 42, 180, 0, 3, 180, 0, 68, 42, 7, 16, 30]
abbrev dktX3_item_1 : List UInt8 := dkwX3_item_1 ++ dktX3_item_2
def dkwX3_item_0 : List UInt8 := [42, 18, 84, 182, 0, 86, 153, 0, 46, 42, 42, 180, 0, 77, 154, 0, 7, 4, 167, 0, 4, 3]
abbrev dktX3_item_0 : List UInt8 := dkwX3_item_0 ++ dktX3_item_1
theorem dksX3_item_0 : cX3_item.data.toList.drop 0 = dktX3_item_0 := by decide +kernel
theorem dksX3_item_1 : cX3_item.data.toList.drop 22 = dktX3_item_1 := dk_seg dksX3_item_0 22 rfl rfl
theorem dksX3_item_2 : cX3_item.data.toList.drop 45 = dktX3_item_2 := dk_seg dksX3_item_1 23 rfl rfl
theorem dksX3_item_3 : cX3_item.data.toList.drop 69 = dktX3_item_3 := dk_seg dksX3_item_2 24 rfl rfl
theorem dksX3_item_4 : cX3_item.data.toList.drop 93 = dktX3_item_4 := dk_seg dksX3_item_3 24 rfl rfl
theorem dksX3_item_5 : cX3_item.data.toList.drop 115 = dktX3_item_5 := dk_seg dksX3_item_4 22 rfl rfl
theorem dksX3_item_6 : cX3_item.data.toList.drop 139 = dktX3_item_6 := dk_seg dksX3_item_5 24 rfl rfl
theorem dksX3_item_7 : cX3_item.data.toList.drop 162 = dktX3_item_7 := dk_seg dksX3_item_6 23 rfl rfl
theorem dksX3_item_8 : cX3_item.data.toList.drop 186 = dktX3_item_8 := dk_seg dksX3_item_7 24 rfl rfl
theorem dksX3_item_9 : cX3_item.data.toList.drop 210 = dktX3_item_9 := dk_seg dksX3_item_8 24 rfl rfl
theorem dksX3_item_10 : cX3_item.data.toList.drop 233 = dktX3_item_10 := dk_seg dksX3_item_9 23 rfl rfl
theorem dksX3_item_11 : cX3_item.data.toList.drop 255 = dktX3_item_11 := dk_seg dksX3_item_10 22 rfl rfl
theorem dksX3_item_12 : cX3_item.data.toList.drop 277 = dktX3_item_12 := dk_seg dksX3_item_11 22 rfl rfl
theorem dksX3_item_13 : cX3_item.data.toList.drop 300 = dktX3_item_13 := dk_seg dksX3_item_12 23 rfl rfl
theorem dX3_item_0 : decode cX3_item 0 = .ok (.aload_n 0, 1) := dk_42 (dk_at dksX3_item_0 0 rfl rfl)
theorem dX3_item_1 : decode cX3_item 1 = .ok (.ldc 84, 2) := dk_18 84 (dk_at dksX3_item_0 1 rfl rfl)
theorem dX3_item_3 : decode cX3_item 3 = .ok (.invokevirtual 86, 3) := dk_182 0 86 (dk_at dksX3_item_0 3 rfl rfl)
theorem dX3_item_6 : decode cX3_item 6 = .ok (.ifCond .eq 46, 3) := dk_153 0 46 (dk_at dksX3_item_0 6 rfl rfl)
theorem dX3_item_9 : decode cX3_item 9 = .ok (.aload_n 0, 1) := dk_42 (dk_at dksX3_item_0 9 rfl rfl)
theorem dX3_item_10 : decode cX3_item 10 = .ok (.aload_n 0, 1) := dk_42 (dk_at dksX3_item_0 10 rfl rfl)
theorem dX3_item_11 : decode cX3_item 11 = .ok (.getfield 77, 3) := dk_180 0 77 (dk_at dksX3_item_0 11 rfl rfl)
theorem dX3_item_14 : decode cX3_item 14 = .ok (.ifCond .ne 7, 3) := dk_154 0 7 (dk_at dksX3_item_0 14 rfl rfl)
theorem dX3_item_17 : decode cX3_item 17 = .ok (.iconst 1, 1) := dk_4 (dk_at dksX3_item_0 17 rfl rfl)
theorem dX3_item_18 : decode cX3_item 18 = .ok (.goto 4, 3) := dk_167 0 4 (dk_at dksX3_item_0 18 rfl rfl)
theorem dX3_item_21 : decode cX3_item 21 = .ok (.iconst 0, 1) := dk_3 (dk_at dksX3_item_0 21 rfl rfl)
theorem dX3_item_22 : decode cX3_item 22 = .ok (.invokevirtual 61, 3) := dk_182 0 61 (dk_at dksX3_item_1 0 rfl rfl)
theorem dX3_item_25 : decode cX3_item 25 = .ok (.aload_n 0, 1) := dk_42 (dk_at dksX3_item_1 3 rfl rfl)
theorem dX3_item_26 : decode cX3_item 26 = .ok (.iconst 1, 1) := dk_4 (dk_at dksX3_item_1 4 rfl rfl)
theorem dX3_item_27 : decode cX3_item 27 = .ok (.putfield 77, 3) := dk_181 0 77 (dk_at dksX3_item_1 5 rfl rfl)
theorem dX3_item_30 : decode cX3_item 30 = .ok (.aload_n 0, 1) := dk_42 (dk_at dksX3_item_1 8 rfl rfl)
theorem dX3_item_31 : decode cX3_item 31 = .ok (.invokevirtual 65, 3) := dk_182 0 65 (dk_at dksX3_item_1 9 rfl rfl)
theorem dX3_item_34 : decode cX3_item 34 = .ok (.aload_n 0, 1) := dk_42 (dk_at dksX3_item_1 12 rfl rfl)
theorem dX3_item_35 : decode cX3_item 35 = .ok (.getfield 3, 3) := dk_180 0 3 (dk_at dksX3_item_1 13 rfl rfl)
theorem dX3_item_38 : decode cX3_item 38 = .ok (.getfield 68, 3) := dk_180 0 68 (dk_at dksX3_item_1 16 rfl rfl)
theorem dX3_item_41 : decode cX3_item 41 = .ok (.aload_n 0, 1) := dk_42 (dk_at dksX3_item_1 19 rfl rfl)
theorem dX3_item_42 : decode cX3_item 42 = .ok (.iconst 4, 1) := dk_7 (dk_at dksX3_item_1 20 rfl rfl)
theorem dX3_item_43 : decode cX3_item 43 = .ok (.bipush 30, 2) := dk_16 30 (dk_at dksX3_item_1 21 rfl rfl)
theorem dX3_item_45 : decode cX3_item 45 = .ok (.invokevirtual 90, 3) := dk_182 0 90 (dk_at dksX3_item_2 0 rfl rfl)
theorem dX3_item_48 : decode cX3_item 48 = .ok (.invokevirtual 72, 3) := dk_182 0 72 (dk_at dksX3_item_2 3 rfl rfl)
theorem dX3_item_51 : decode cX3_item 51 = .ok (.return_, 1) := dk_177 (dk_at dksX3_item_2 6 rfl rfl)
theorem dX3_item_52 : decode cX3_item 52 = .ok (.aload_n 0, 1) := dk_42 (dk_at dksX3_item_2 7 rfl rfl)
theorem dX3_item_53 : decode cX3_item 53 = .ok (.aload_n 0, 1) := dk_42 (dk_at dksX3_item_2 8 rfl rfl)
theorem dX3_item_54 : decode cX3_item 54 = .ok (.getfield 77, 3) := dk_180 0 77 (dk_at dksX3_item_2 9 rfl rfl)
theorem dX3_item_57 : decode cX3_item 57 = .ok (.invokevirtual 61, 3) := dk_182 0 61 (dk_at dksX3_item_2 12 rfl rfl)
theorem dX3_item_60 : decode cX3_item 60 = .ok (.aload_n 0, 1) := dk_42 (dk_at dksX3_item_2 15 rfl rfl)
theorem dX3_item_61 : decode cX3_item 61 = .ok (.ldc 94, 2) := dk_18 94 (dk_at dksX3_item_2 16 rfl rfl)
theorem dX3_item_63 : decode cX3_item 63 = .ok (.invokevirtual 86, 3) := dk_182 0 86 (dk_at dksX3_item_2 18 rfl rfl)
theorem dX3_item_66 : decode cX3_item 66 = .ok (.ifCond .eq 67, 3) := dk_153 0 67 (dk_at dksX3_item_2 21 rfl rfl)
theorem dX3_item_69 : decode cX3_item 69 = .ok (.aload_n 0, 1) := dk_42 (dk_at dksX3_item_3 0 rfl rfl)
theorem dX3_item_70 : decode cX3_item 70 = .ok (.aload_n 0, 1) := dk_42 (dk_at dksX3_item_3 1 rfl rfl)
theorem dX3_item_71 : decode cX3_item 71 = .ok (.getfield 3, 3) := dk_180 0 3 (dk_at dksX3_item_3 2 rfl rfl)
theorem dX3_item_74 : decode cX3_item 74 = .ok (.getfield 68, 3) := dk_180 0 68 (dk_at dksX3_item_3 5 rfl rfl)
theorem dX3_item_77 : decode cX3_item 77 = .ok (.getfield 96, 3) := dk_180 0 96 (dk_at dksX3_item_3 8 rfl rfl)
theorem dX3_item_80 : decode cX3_item 80 = .ok (.bipush 7, 2) := dk_16 7 (dk_at dksX3_item_3 11 rfl rfl)
theorem dX3_item_82 : decode cX3_item 82 = .ok (.if_icmp .ge 7, 3) := dk_162 0 7 (dk_at dksX3_item_3 13 rfl rfl)
theorem dX3_item_85 : decode cX3_item 85 = .ok (.iconst 1, 1) := dk_4 (dk_at dksX3_item_3 16 rfl rfl)
theorem dX3_item_86 : decode cX3_item 86 = .ok (.goto 4, 3) := dk_167 0 4 (dk_at dksX3_item_3 17 rfl rfl)
theorem dX3_item_89 : decode cX3_item 89 = .ok (.iconst 0, 1) := dk_3 (dk_at dksX3_item_3 20 rfl rfl)
theorem dX3_item_90 : decode cX3_item 90 = .ok (.invokevirtual 61, 3) := dk_182 0 61 (dk_at dksX3_item_3 21 rfl rfl)
theorem dX3_item_93 : decode cX3_item 93 = .ok (.aload_n 0, 1) := dk_42 (dk_at dksX3_item_4 0 rfl rfl)
theorem dX3_item_94 : decode cX3_item 94 = .ok (.invokevirtual 65, 3) := dk_182 0 65 (dk_at dksX3_item_4 1 rfl rfl)
theorem dX3_item_97 : decode cX3_item 97 = .ok (.aload_n 0, 1) := dk_42 (dk_at dksX3_item_4 4 rfl rfl)
theorem dX3_item_98 : decode cX3_item 98 = .ok (.iconst 0, 1) := dk_3 (dk_at dksX3_item_4 5 rfl rfl)
theorem dX3_item_99 : decode cX3_item 99 = .ok (.iconst 5, 1) := dk_8 (dk_at dksX3_item_4 6 rfl rfl)
theorem dX3_item_100 : decode cX3_item 100 = .ok (.invokevirtual 90, 3) := dk_182 0 90 (dk_at dksX3_item_4 7 rfl rfl)
theorem dX3_item_103 : decode cX3_item 103 = .ok (.istore_n 1, 1) := dk_60 (dk_at dksX3_item_4 10 rfl rfl)
theorem dX3_item_104 : decode cX3_item 104 = .ok (.aload_n 0, 1) := dk_42 (dk_at dksX3_item_4 11 rfl rfl)
theorem dX3_item_105 : decode cX3_item 105 = .ok (.iconst 0, 1) := dk_3 (dk_at dksX3_item_4 12 rfl rfl)
theorem dX3_item_106 : decode cX3_item 106 = .ok (.iconst 1, 1) := dk_4 (dk_at dksX3_item_4 13 rfl rfl)
theorem dX3_item_107 : decode cX3_item 107 = .ok (.invokevirtual 90, 3) := dk_182 0 90 (dk_at dksX3_item_4 14 rfl rfl)
theorem dX3_item_110 : decode cX3_item 110 = .ok (.istore_n 2, 1) := dk_61 (dk_at dksX3_item_4 17 rfl rfl)
theorem dX3_item_111 : decode cX3_item 111 = .ok (.aload_n 0, 1) := dk_42 (dk_at dksX3_item_4 18 rfl rfl)
theorem dX3_item_112 : decode cX3_item 112 = .ok (.getfield 3, 3) := dk_180 0 3 (dk_at dksX3_item_4 19 rfl rfl)
theorem dX3_item_115 : decode cX3_item 115 = .ok (.getfield 68, 3) := dk_180 0 68 (dk_at dksX3_item_5 0 rfl rfl)
theorem dX3_item_118 : decode cX3_item 118 = .ok (.iload_n 1, 1) := dk_27 (dk_at dksX3_item_5 3 rfl rfl)
theorem dX3_item_119 : decode cX3_item 119 = .ok (.iload_n 2, 1) := dk_28 (dk_at dksX3_item_5 4 rfl rfl)
theorem dX3_item_120 : decode cX3_item 120 = .ok (.aload_n 0, 1) := dk_42 (dk_at dksX3_item_5 5 rfl rfl)
theorem dX3_item_121 : decode cX3_item 121 = .ok (.iconst 0, 1) := dk_3 (dk_at dksX3_item_5 6 rfl rfl)
theorem dX3_item_122 : decode cX3_item 122 = .ok (.bipush 9, 2) := dk_16 9 (dk_at dksX3_item_5 7 rfl rfl)
theorem dX3_item_124 : decode cX3_item 124 = .ok (.invokevirtual 90, 3) := dk_182 0 90 (dk_at dksX3_item_5 9 rfl rfl)
theorem dX3_item_127 : decode cX3_item 127 = .ok (.invokevirtual 99, 3) := dk_182 0 99 (dk_at dksX3_item_5 12 rfl rfl)
theorem dX3_item_130 : decode cX3_item 130 = .ok (.goto 176, 3) := dk_167 0 176 (dk_at dksX3_item_5 15 rfl rfl)
theorem dX3_item_133 : decode cX3_item 133 = .ok (.aload_n 0, 1) := dk_42 (dk_at dksX3_item_5 18 rfl rfl)
theorem dX3_item_134 : decode cX3_item 134 = .ok (.ldc 103, 2) := dk_18 103 (dk_at dksX3_item_5 19 rfl rfl)
theorem dX3_item_136 : decode cX3_item 136 = .ok (.invokevirtual 86, 3) := dk_182 0 86 (dk_at dksX3_item_5 21 rfl rfl)
theorem dX3_item_139 : decode cX3_item 139 = .ok (.ifCond .eq 57, 3) := dk_153 0 57 (dk_at dksX3_item_6 0 rfl rfl)
theorem dX3_item_142 : decode cX3_item 142 = .ok (.aload_n 0, 1) := dk_42 (dk_at dksX3_item_6 3 rfl rfl)
theorem dX3_item_143 : decode cX3_item 143 = .ok (.aload_n 0, 1) := dk_42 (dk_at dksX3_item_6 4 rfl rfl)
theorem dX3_item_144 : decode cX3_item 144 = .ok (.getfield 3, 3) := dk_180 0 3 (dk_at dksX3_item_6 5 rfl rfl)
theorem dX3_item_147 : decode cX3_item 147 = .ok (.getfield 68, 3) := dk_180 0 68 (dk_at dksX3_item_6 8 rfl rfl)
theorem dX3_item_150 : decode cX3_item 150 = .ok (.getfield 105, 3) := dk_180 0 105 (dk_at dksX3_item_6 11 rfl rfl)
theorem dX3_item_153 : decode cX3_item 153 = .ok (.iconst 4, 1) := dk_7 (dk_at dksX3_item_6 14 rfl rfl)
theorem dX3_item_154 : decode cX3_item 154 = .ok (.if_icmp .ge 7, 3) := dk_162 0 7 (dk_at dksX3_item_6 15 rfl rfl)
theorem dX3_item_157 : decode cX3_item 157 = .ok (.iconst 1, 1) := dk_4 (dk_at dksX3_item_6 18 rfl rfl)
theorem dX3_item_158 : decode cX3_item 158 = .ok (.goto 4, 3) := dk_167 0 4 (dk_at dksX3_item_6 19 rfl rfl)
theorem dX3_item_161 : decode cX3_item 161 = .ok (.iconst 0, 1) := dk_3 (dk_at dksX3_item_6 22 rfl rfl)
theorem dX3_item_162 : decode cX3_item 162 = .ok (.invokevirtual 61, 3) := dk_182 0 61 (dk_at dksX3_item_7 0 rfl rfl)
theorem dX3_item_165 : decode cX3_item 165 = .ok (.aload_n 0, 1) := dk_42 (dk_at dksX3_item_7 3 rfl rfl)
theorem dX3_item_166 : decode cX3_item 166 = .ok (.invokevirtual 65, 3) := dk_182 0 65 (dk_at dksX3_item_7 4 rfl rfl)
theorem dX3_item_169 : decode cX3_item 169 = .ok (.aload_n 0, 1) := dk_42 (dk_at dksX3_item_7 7 rfl rfl)
theorem dX3_item_170 : decode cX3_item 170 = .ok (.iconst 0, 1) := dk_3 (dk_at dksX3_item_7 8 rfl rfl)
theorem dX3_item_171 : decode cX3_item 171 = .ok (.iconst 5, 1) := dk_8 (dk_at dksX3_item_7 9 rfl rfl)
theorem dX3_item_172 : decode cX3_item 172 = .ok (.invokevirtual 90, 3) := dk_182 0 90 (dk_at dksX3_item_7 10 rfl rfl)
theorem dX3_item_175 : decode cX3_item 175 = .ok (.istore_n 1, 1) := dk_60 (dk_at dksX3_item_7 13 rfl rfl)
theorem dX3_item_176 : decode cX3_item 176 = .ok (.aload_n 0, 1) := dk_42 (dk_at dksX3_item_7 14 rfl rfl)
theorem dX3_item_177 : decode cX3_item 177 = .ok (.getfield 3, 3) := dk_180 0 3 (dk_at dksX3_item_7 15 rfl rfl)
theorem dX3_item_180 : decode cX3_item 180 = .ok (.getfield 68, 3) := dk_180 0 68 (dk_at dksX3_item_7 18 rfl rfl)
theorem dX3_item_183 : decode cX3_item 183 = .ok (.iload_n 1, 1) := dk_27 (dk_at dksX3_item_7 21 rfl rfl)
theorem dX3_item_184 : decode cX3_item 184 = .ok (.aload_n 0, 1) := dk_42 (dk_at dksX3_item_7 22 rfl rfl)
theorem dX3_item_185 : decode cX3_item 185 = .ok (.iconst 0, 1) := dk_3 (dk_at dksX3_item_7 23 rfl rfl)
theorem dX3_item_186 : decode cX3_item 186 = .ok (.iconst 1, 1) := dk_4 (dk_at dksX3_item_8 0 rfl rfl)
theorem dX3_item_187 : decode cX3_item 187 = .ok (.invokevirtual 90, 3) := dk_182 0 90 (dk_at dksX3_item_8 1 rfl rfl)
theorem dX3_item_190 : decode cX3_item 190 = .ok (.invokevirtual 108, 3) := dk_182 0 108 (dk_at dksX3_item_8 4 rfl rfl)
theorem dX3_item_193 : decode cX3_item 193 = .ok (.goto 113, 3) := dk_167 0 113 (dk_at dksX3_item_8 7 rfl rfl)
theorem dX3_item_196 : decode cX3_item 196 = .ok (.aload_n 0, 1) := dk_42 (dk_at dksX3_item_8 10 rfl rfl)
theorem dX3_item_197 : decode cX3_item 197 = .ok (.ldc 112, 2) := dk_18 112 (dk_at dksX3_item_8 11 rfl rfl)
theorem dX3_item_199 : decode cX3_item 199 = .ok (.invokevirtual 86, 3) := dk_182 0 86 (dk_at dksX3_item_8 13 rfl rfl)
theorem dX3_item_202 : decode cX3_item 202 = .ok (.ifCond .eq 49, 3) := dk_153 0 49 (dk_at dksX3_item_8 16 rfl rfl)
theorem dX3_item_205 : decode cX3_item 205 = .ok (.aload_n 0, 1) := dk_42 (dk_at dksX3_item_8 19 rfl rfl)
theorem dX3_item_206 : decode cX3_item 206 = .ok (.invokevirtual 65, 3) := dk_182 0 65 (dk_at dksX3_item_8 20 rfl rfl)
theorem dX3_item_209 : decode cX3_item 209 = .ok (.aload_n 0, 1) := dk_42 (dk_at dksX3_item_8 23 rfl rfl)
theorem dX3_item_210 : decode cX3_item 210 = .ok (.getfield 3, 3) := dk_180 0 3 (dk_at dksX3_item_9 0 rfl rfl)
theorem dX3_item_213 : decode cX3_item 213 = .ok (.getfield 68, 3) := dk_180 0 68 (dk_at dksX3_item_9 3 rfl rfl)
theorem dX3_item_216 : decode cX3_item 216 = .ok (.getfield 114, 3) := dk_180 0 114 (dk_at dksX3_item_9 6 rfl rfl)
theorem dX3_item_219 : decode cX3_item 219 = .ok (.dup, 1) := dk_89 (dk_at dksX3_item_9 9 rfl rfl)
theorem dX3_item_220 : decode cX3_item 220 = .ok (.getfield 118, 3) := dk_180 0 118 (dk_at dksX3_item_9 10 rfl rfl)
theorem dX3_item_223 : decode cX3_item 223 = .ok (.iconst 1, 1) := dk_4 (dk_at dksX3_item_9 13 rfl rfl)
theorem dX3_item_224 : decode cX3_item 224 = .ok (.aload_n 0, 1) := dk_42 (dk_at dksX3_item_9 14 rfl rfl)
theorem dX3_item_225 : decode cX3_item 225 = .ok (.iconst 0, 1) := dk_3 (dk_at dksX3_item_9 15 rfl rfl)
theorem dX3_item_226 : decode cX3_item 226 = .ok (.aload_n 0, 1) := dk_42 (dk_at dksX3_item_9 16 rfl rfl)
theorem dX3_item_227 : decode cX3_item 227 = .ok (.getfield 3, 3) := dk_180 0 3 (dk_at dksX3_item_9 17 rfl rfl)
theorem dX3_item_230 : decode cX3_item 230 = .ok (.getfield 68, 3) := dk_180 0 68 (dk_at dksX3_item_9 20 rfl rfl)
theorem dX3_item_233 : decode cX3_item 233 = .ok (.getfield 105, 3) := dk_180 0 105 (dk_at dksX3_item_10 0 rfl rfl)
theorem dX3_item_236 : decode cX3_item 236 = .ok (.iconst 1, 1) := dk_4 (dk_at dksX3_item_10 3 rfl rfl)
theorem dX3_item_237 : decode cX3_item 237 = .ok (.isub, 1) := dk_100 (dk_at dksX3_item_10 4 rfl rfl)
theorem dX3_item_238 : decode cX3_item 238 = .ok (.invokevirtual 90, 3) := dk_182 0 90 (dk_at dksX3_item_10 5 rfl rfl)
theorem dX3_item_241 : decode cX3_item 241 = .ok (.ishl, 1) := dk_120 (dk_at dksX3_item_10 8 rfl rfl)
theorem dX3_item_242 : decode cX3_item 242 = .ok (.iconst (-1), 1) := dk_2 (dk_at dksX3_item_10 9 rfl rfl)
theorem dX3_item_243 : decode cX3_item 243 = .ok (.ixor, 1) := dk_130 (dk_at dksX3_item_10 10 rfl rfl)
theorem dX3_item_244 : decode cX3_item 244 = .ok (.iand, 1) := dk_126 (dk_at dksX3_item_10 11 rfl rfl)
theorem dX3_item_245 : decode cX3_item 245 = .ok (.putfield 118, 3) := dk_181 0 118 (dk_at dksX3_item_10 12 rfl rfl)
theorem dX3_item_248 : decode cX3_item 248 = .ok (.goto 58, 3) := dk_167 0 58 (dk_at dksX3_item_10 15 rfl rfl)
theorem dX3_item_251 : decode cX3_item 251 = .ok (.aload_n 0, 1) := dk_42 (dk_at dksX3_item_10 18 rfl rfl)
theorem dX3_item_252 : decode cX3_item 252 = .ok (.aload_n 0, 1) := dk_42 (dk_at dksX3_item_10 19 rfl rfl)
theorem dX3_item_253 : decode cX3_item 253 = .ok (.ldc 123, 2) := dk_18 123 (dk_at dksX3_item_10 20 rfl rfl)
theorem dX3_item_255 : decode cX3_item 255 = .ok (.invokevirtual 86, 3) := dk_182 0 86 (dk_at dksX3_item_11 0 rfl rfl)
theorem dX3_item_258 : decode cX3_item 258 = .ok (.invokevirtual 61, 3) := dk_182 0 61 (dk_at dksX3_item_11 3 rfl rfl)
theorem dX3_item_261 : decode cX3_item 261 = .ok (.aload_n 0, 1) := dk_42 (dk_at dksX3_item_11 6 rfl rfl)
theorem dX3_item_262 : decode cX3_item 262 = .ok (.invokevirtual 65, 3) := dk_182 0 65 (dk_at dksX3_item_11 7 rfl rfl)
theorem dX3_item_265 : decode cX3_item 265 = .ok (.aload_n 0, 1) := dk_42 (dk_at dksX3_item_11 10 rfl rfl)
theorem dX3_item_266 : decode cX3_item 266 = .ok (.iconst 1, 1) := dk_4 (dk_at dksX3_item_11 11 rfl rfl)
theorem dX3_item_267 : decode cX3_item 267 = .ok (.bipush 99, 2) := dk_16 99 (dk_at dksX3_item_11 12 rfl rfl)
theorem dX3_item_269 : decode cX3_item 269 = .ok (.invokevirtual 90, 3) := dk_182 0 90 (dk_at dksX3_item_11 14 rfl rfl)
theorem dX3_item_272 : decode cX3_item 272 = .ok (.istore_n 1, 1) := dk_60 (dk_at dksX3_item_11 17 rfl rfl)
theorem dX3_item_273 : decode cX3_item 273 = .ok (.iconst 0, 1) := dk_3 (dk_at dksX3_item_11 18 rfl rfl)
theorem dX3_item_274 : decode cX3_item 274 = .ok (.istore_n 2, 1) := dk_61 (dk_at dksX3_item_11 19 rfl rfl)
theorem dX3_item_275 : decode cX3_item 275 = .ok (.iload_n 2, 1) := dk_28 (dk_at dksX3_item_11 20 rfl rfl)
theorem dX3_item_276 : decode cX3_item 276 = .ok (.iload_n 1, 1) := dk_27 (dk_at dksX3_item_11 21 rfl rfl)
theorem dX3_item_277 : decode cX3_item 277 = .ok (.if_icmp .ge 29, 3) := dk_162 0 29 (dk_at dksX3_item_12 0 rfl rfl)
theorem dX3_item_280 : decode cX3_item 280 = .ok (.aload_n 0, 1) := dk_42 (dk_at dksX3_item_12 3 rfl rfl)
theorem dX3_item_281 : decode cX3_item 281 = .ok (.getfield 3, 3) := dk_180 0 3 (dk_at dksX3_item_12 4 rfl rfl)
theorem dX3_item_284 : decode cX3_item 284 = .ok (.getfield 68, 3) := dk_180 0 68 (dk_at dksX3_item_12 7 rfl rfl)
theorem dX3_item_287 : decode cX3_item 287 = .ok (.aload_n 0, 1) := dk_42 (dk_at dksX3_item_12 10 rfl rfl)
theorem dX3_item_288 : decode cX3_item 288 = .ok (.getfield 3, 3) := dk_180 0 3 (dk_at dksX3_item_12 11 rfl rfl)
theorem dX3_item_291 : decode cX3_item 291 = .ok (.getfield 68, 3) := dk_180 0 68 (dk_at dksX3_item_12 14 rfl rfl)
theorem dX3_item_294 : decode cX3_item 294 = .ok (.getfield 114, 3) := dk_180 0 114 (dk_at dksX3_item_12 17 rfl rfl)
theorem dX3_item_297 : decode cX3_item 297 = .ok (.invokevirtual 125, 3) := dk_182 0 125 (dk_at dksX3_item_12 20 rfl rfl)
theorem dX3_item_300 : decode cX3_item 300 = .ok (.iinc 2 1, 3) := dk_132 2 1 (dk_at dksX3_item_13 0 rfl rfl)
theorem dX3_item_303 : decode cX3_item 303 = .ok (.goto (-28), 3) := dk_167 255 228 (dk_at dksX3_item_13 3 rfl rfl)
theorem dX3_item_306 : decode cX3_item 306 = .ok (.return_, 1) := dk_177 (dk_at dksX3_item_13 6 rfl rfl)
abbrev cX3_isWord : ByteArray := prog_13_method_5_code
def yX3_isWord : MethodName := ⟨RX3, "isWord", "(Ljava/lang/String;)Z"⟩
def dkwX3_isWord_3 : List UInt8 := [3, 61, 132, 3, 1, 167, 255, 213, 28, 172]
abbrev dktX3_isWord_3 : List UInt8 := dkwX3_isWord_3 ++ []
def dkwX3_isWord_2 : List UInt8 := [182, 0, 48, 42, 180, 0, 3, 180, 0, 22, 42, 180, 0, 30, 29, 96, 51, 160, 0, 7, 4, 167, 0, 4]
abbrev dktX3_isWord_2 : List UInt8 := dkwX3_isWord_2 ++ dktX3_isWord_3
def dkwX3_isWord_1 : List UInt8 := [4, 167, 0, 4, 3, 61, 3, 62, 29, 43, 182, 0, 43, 162, 0, 41, 28, 153, 0, 37, 43, 29]
abbrev dktX3_isWord_1 : List UInt8 := dkwX3_isWord_1 ++ dktX3_isWord_2
def dkwX3_isWord_0 : List UInt8 := [42, 180, 0, 33, 7, 160, 0, 23, 43, 182, 0, 43, 42, 180, 0, 15, 42, 180, 0, 30, 100, 160, 0, 7]
abbrev dktX3_isWord_0 : List UInt8 := dkwX3_isWord_0 ++ dktX3_isWord_1
theorem dksX3_isWord_0 : cX3_isWord.data.toList.drop 0 = dktX3_isWord_0 := by decide +kernel
theorem dksX3_isWord_1 : cX3_isWord.data.toList.drop 24 = dktX3_isWord_1 := dk_seg dksX3_isWord_0 24 rfl rfl
theorem dksX3_isWord_2 : cX3_isWord.data.toList.drop 46 = dktX3_isWord_2 := dk_seg dksX3_isWord_1 22 rfl rfl
theorem dksX3_isWord_3 : cX3_isWord.data.toList.drop 70 = dktX3_isWord_3 := dk_seg dksX3_isWord_2 24 rfl rfl
theorem dX3_isWord_0 : decode cX3_isWord 0 = .ok (.aload_n 0, 1) := dk_42 (dk_at dksX3_isWord_0 0 rfl rfl)
theorem dX3_isWord_1 : decode cX3_isWord 1 = .ok (.getfield 33, 3) := dk_180 0 33 (dk_at dksX3_isWord_0 1 rfl rfl)
theorem dX3_isWord_4 : decode cX3_isWord 4 = .ok (.iconst 4, 1) := dk_7 (dk_at dksX3_isWord_0 4 rfl rfl)
theorem dX3_isWord_5 : decode cX3_isWord 5 = .ok (.if_icmp .ne 23, 3) := dk_160 0 23 (dk_at dksX3_isWord_0 5 rfl rfl)
theorem dX3_isWord_8 : decode cX3_isWord 8 = .ok (.aload_n 1, 1) := dk_43 (dk_at dksX3_isWord_0 8 rfl rfl)
theorem dX3_isWord_9 : decode cX3_isWord 9 = .ok (.invokevirtual 43, 3) := dk_182 0 43 (dk_at dksX3_isWord_0 9 rfl rfl)
theorem dX3_isWord_12 : decode cX3_isWord 12 = .ok (.aload_n 0, 1) := dk_42 (dk_at dksX3_isWord_0 12 rfl rfl)
theorem dX3_isWord_13 : decode cX3_isWord 13 = .ok (.getfield 15, 3) := dk_180 0 15 (dk_at dksX3_isWord_0 13 rfl rfl)
theorem dX3_isWord_16 : decode cX3_isWord 16 = .ok (.aload_n 0, 1) := dk_42 (dk_at dksX3_isWord_0 16 rfl rfl)
theorem dX3_isWord_17 : decode cX3_isWord 17 = .ok (.getfield 30, 3) := dk_180 0 30 (dk_at dksX3_isWord_0 17 rfl rfl)
theorem dX3_isWord_20 : decode cX3_isWord 20 = .ok (.isub, 1) := dk_100 (dk_at dksX3_isWord_0 20 rfl rfl)
theorem dX3_isWord_21 : decode cX3_isWord 21 = .ok (.if_icmp .ne 7, 3) := dk_160 0 7 (dk_at dksX3_isWord_0 21 rfl rfl)
theorem dX3_isWord_24 : decode cX3_isWord 24 = .ok (.iconst 1, 1) := dk_4 (dk_at dksX3_isWord_1 0 rfl rfl)
theorem dX3_isWord_25 : decode cX3_isWord 25 = .ok (.goto 4, 3) := dk_167 0 4 (dk_at dksX3_isWord_1 1 rfl rfl)
theorem dX3_isWord_28 : decode cX3_isWord 28 = .ok (.iconst 0, 1) := dk_3 (dk_at dksX3_isWord_1 4 rfl rfl)
theorem dX3_isWord_29 : decode cX3_isWord 29 = .ok (.istore_n 2, 1) := dk_61 (dk_at dksX3_isWord_1 5 rfl rfl)
theorem dX3_isWord_30 : decode cX3_isWord 30 = .ok (.iconst 0, 1) := dk_3 (dk_at dksX3_isWord_1 6 rfl rfl)
theorem dX3_isWord_31 : decode cX3_isWord 31 = .ok (.istore_n 3, 1) := dk_62 (dk_at dksX3_isWord_1 7 rfl rfl)
theorem dX3_isWord_32 : decode cX3_isWord 32 = .ok (.iload_n 3, 1) := dk_29 (dk_at dksX3_isWord_1 8 rfl rfl)
theorem dX3_isWord_33 : decode cX3_isWord 33 = .ok (.aload_n 1, 1) := dk_43 (dk_at dksX3_isWord_1 9 rfl rfl)
theorem dX3_isWord_34 : decode cX3_isWord 34 = .ok (.invokevirtual 43, 3) := dk_182 0 43 (dk_at dksX3_isWord_1 10 rfl rfl)
theorem dX3_isWord_37 : decode cX3_isWord 37 = .ok (.if_icmp .ge 41, 3) := dk_162 0 41 (dk_at dksX3_isWord_1 13 rfl rfl)
theorem dX3_isWord_40 : decode cX3_isWord 40 = .ok (.iload_n 2, 1) := dk_28 (dk_at dksX3_isWord_1 16 rfl rfl)
theorem dX3_isWord_41 : decode cX3_isWord 41 = .ok (.ifCond .eq 37, 3) := dk_153 0 37 (dk_at dksX3_isWord_1 17 rfl rfl)
theorem dX3_isWord_44 : decode cX3_isWord 44 = .ok (.aload_n 1, 1) := dk_43 (dk_at dksX3_isWord_1 20 rfl rfl)
theorem dX3_isWord_45 : decode cX3_isWord 45 = .ok (.iload_n 3, 1) := dk_29 (dk_at dksX3_isWord_1 21 rfl rfl)
theorem dX3_isWord_46 : decode cX3_isWord 46 = .ok (.invokevirtual 48, 3) := dk_182 0 48 (dk_at dksX3_isWord_2 0 rfl rfl)
theorem dX3_isWord_49 : decode cX3_isWord 49 = .ok (.aload_n 0, 1) := dk_42 (dk_at dksX3_isWord_2 3 rfl rfl)
theorem dX3_isWord_50 : decode cX3_isWord 50 = .ok (.getfield 3, 3) := dk_180 0 3 (dk_at dksX3_isWord_2 4 rfl rfl)
theorem dX3_isWord_53 : decode cX3_isWord 53 = .ok (.getfield 22, 3) := dk_180 0 22 (dk_at dksX3_isWord_2 7 rfl rfl)
theorem dX3_isWord_56 : decode cX3_isWord 56 = .ok (.aload_n 0, 1) := dk_42 (dk_at dksX3_isWord_2 10 rfl rfl)
theorem dX3_isWord_57 : decode cX3_isWord 57 = .ok (.getfield 30, 3) := dk_180 0 30 (dk_at dksX3_isWord_2 11 rfl rfl)
theorem dX3_isWord_60 : decode cX3_isWord 60 = .ok (.iload_n 3, 1) := dk_29 (dk_at dksX3_isWord_2 14 rfl rfl)
theorem dX3_isWord_61 : decode cX3_isWord 61 = .ok (.iadd, 1) := dk_96 (dk_at dksX3_isWord_2 15 rfl rfl)
theorem dX3_isWord_62 : decode cX3_isWord 62 = .ok (.baload, 1) := dk_51 (dk_at dksX3_isWord_2 16 rfl rfl)
theorem dX3_isWord_63 : decode cX3_isWord 63 = .ok (.if_icmp .ne 7, 3) := dk_160 0 7 (dk_at dksX3_isWord_2 17 rfl rfl)
theorem dX3_isWord_66 : decode cX3_isWord 66 = .ok (.iconst 1, 1) := dk_4 (dk_at dksX3_isWord_2 20 rfl rfl)
theorem dX3_isWord_67 : decode cX3_isWord 67 = .ok (.goto 4, 3) := dk_167 0 4 (dk_at dksX3_isWord_2 21 rfl rfl)
theorem dX3_isWord_70 : decode cX3_isWord 70 = .ok (.iconst 0, 1) := dk_3 (dk_at dksX3_isWord_3 0 rfl rfl)
theorem dX3_isWord_71 : decode cX3_isWord 71 = .ok (.istore_n 2, 1) := dk_61 (dk_at dksX3_isWord_3 1 rfl rfl)
theorem dX3_isWord_72 : decode cX3_isWord 72 = .ok (.iinc 3 1, 3) := dk_132 3 1 (dk_at dksX3_isWord_3 2 rfl rfl)
theorem dX3_isWord_75 : decode cX3_isWord 75 = .ok (.goto (-43), 3) := dk_167 255 213 (dk_at dksX3_isWord_3 5 rfl rfl)
theorem dX3_isWord_78 : decode cX3_isWord 78 = .ok (.iload_n 2, 1) := dk_28 (dk_at dksX3_isWord_3 8 rfl rfl)
theorem dX3_isWord_79 : decode cX3_isWord 79 = .ok (.ireturn, 1) := dk_172 (dk_at dksX3_isWord_3 9 rfl rfl)
abbrev cX3_takes : ByteArray := prog_13_method_7_code
def yX3_takes : MethodName := ⟨RX3, "takes", "(II)I"⟩
def dkwX3_takes_1 : List UInt8 := [4, 167, 0, 4, 3, 182, 0, 61, 42, 180, 0, 40, 62, 42, 182, 0, 65, 29, 172]
abbrev dktX3_takes_1 : List UInt8 := dkwX3_takes_1 ++ []
def dkwX3_takes_0 : List UInt8 := [42, 42, 180, 0, 33, 5, 160, 0, 22, 42, 180, 0, 40, 133, 27, 133, 28, 133, 184, 0, 57, 153, 0, 7]
abbrev dktX3_takes_0 : List UInt8 := dkwX3_takes_0 ++ dktX3_takes_1
theorem dksX3_takes_0 : cX3_takes.data.toList.drop 0 = dktX3_takes_0 := by decide +kernel
theorem dksX3_takes_1 : cX3_takes.data.toList.drop 24 = dktX3_takes_1 := dk_seg dksX3_takes_0 24 rfl rfl
theorem dX3_takes_0 : decode cX3_takes 0 = .ok (.aload_n 0, 1) := dk_42 (dk_at dksX3_takes_0 0 rfl rfl)
theorem dX3_takes_1 : decode cX3_takes 1 = .ok (.aload_n 0, 1) := dk_42 (dk_at dksX3_takes_0 1 rfl rfl)
theorem dX3_takes_2 : decode cX3_takes 2 = .ok (.getfield 33, 3) := dk_180 0 33 (dk_at dksX3_takes_0 2 rfl rfl)
theorem dX3_takes_5 : decode cX3_takes 5 = .ok (.iconst 2, 1) := dk_5 (dk_at dksX3_takes_0 5 rfl rfl)
theorem dX3_takes_6 : decode cX3_takes 6 = .ok (.if_icmp .ne 22, 3) := dk_160 0 22 (dk_at dksX3_takes_0 6 rfl rfl)
theorem dX3_takes_9 : decode cX3_takes 9 = .ok (.aload_n 0, 1) := dk_42 (dk_at dksX3_takes_0 9 rfl rfl)
theorem dX3_takes_10 : decode cX3_takes 10 = .ok (.getfield 40, 3) := dk_180 0 40 (dk_at dksX3_takes_0 10 rfl rfl)
theorem dX3_takes_13 : decode cX3_takes 13 = .ok (.i2l, 1) := dk_133 (dk_at dksX3_takes_0 13 rfl rfl)
theorem dX3_takes_14 : decode cX3_takes 14 = .ok (.iload_n 1, 1) := dk_27 (dk_at dksX3_takes_0 14 rfl rfl)
theorem dX3_takes_15 : decode cX3_takes 15 = .ok (.i2l, 1) := dk_133 (dk_at dksX3_takes_0 15 rfl rfl)
theorem dX3_takes_16 : decode cX3_takes 16 = .ok (.iload_n 2, 1) := dk_28 (dk_at dksX3_takes_0 16 rfl rfl)
theorem dX3_takes_17 : decode cX3_takes 17 = .ok (.i2l, 1) := dk_133 (dk_at dksX3_takes_0 17 rfl rfl)
theorem dX3_takes_18 : decode cX3_takes 18 = .ok (.invokestatic 57, 3) := dk_184 0 57 (dk_at dksX3_takes_0 18 rfl rfl)
theorem dX3_takes_21 : decode cX3_takes 21 = .ok (.ifCond .eq 7, 3) := dk_153 0 7 (dk_at dksX3_takes_0 21 rfl rfl)
theorem dX3_takes_24 : decode cX3_takes 24 = .ok (.iconst 1, 1) := dk_4 (dk_at dksX3_takes_1 0 rfl rfl)
theorem dX3_takes_25 : decode cX3_takes 25 = .ok (.goto 4, 3) := dk_167 0 4 (dk_at dksX3_takes_1 1 rfl rfl)
theorem dX3_takes_28 : decode cX3_takes 28 = .ok (.iconst 0, 1) := dk_3 (dk_at dksX3_takes_1 4 rfl rfl)
theorem dX3_takes_29 : decode cX3_takes 29 = .ok (.invokevirtual 61, 3) := dk_182 0 61 (dk_at dksX3_takes_1 5 rfl rfl)
theorem dX3_takes_32 : decode cX3_takes 32 = .ok (.aload_n 0, 1) := dk_42 (dk_at dksX3_takes_1 8 rfl rfl)
theorem dX3_takes_33 : decode cX3_takes 33 = .ok (.getfield 40, 3) := dk_180 0 40 (dk_at dksX3_takes_1 9 rfl rfl)
theorem dX3_takes_36 : decode cX3_takes 36 = .ok (.istore_n 3, 1) := dk_62 (dk_at dksX3_takes_1 12 rfl rfl)
theorem dX3_takes_37 : decode cX3_takes 37 = .ok (.aload_n 0, 1) := dk_42 (dk_at dksX3_takes_1 13 rfl rfl)
theorem dX3_takes_38 : decode cX3_takes 38 = .ok (.invokevirtual 65, 3) := dk_182 0 65 (dk_at dksX3_takes_1 14 rfl rfl)
theorem dX3_takes_41 : decode cX3_takes 41 = .ok (.iload_n 3, 1) := dk_29 (dk_at dksX3_takes_1 17 rfl rfl)
theorem dX3_takes_42 : decode cX3_takes 42 = .ok (.ireturn, 1) := dk_172 (dk_at dksX3_takes_1 18 rfl rfl)
theorem q64 : (Jvm.Cond.initialized "LaneCymbals$Reader") ∈ lw_all := lw_g (lw_at lw_m1 4 rfl) rfl
theorem q106 : (Jvm.Cond.fieldLinkNest "LaneCymbals$Reader" (118 : Nat) "LaneCymbals$State" "there" "I" "LaneCymbals") ∈ lw_tbl := lw_at lw_m1 46 rfl
theorem q134 : (Jvm.Cond.fieldLinkNest "LaneCymbals$Reader" (96 : Nat) "LaneCymbals$Lane" "many" "I" "LaneCymbals") ∈ lw_tbl := lw_at lw_m1 74 rfl
theorem q141 : (Jvm.Cond.fieldLinkNest "LaneCymbals$Reader" (105 : Nat) "LaneCymbals$Lane" "dampers" "I" "LaneCymbals") ∈ lw_tbl := lw_at lw_m1 81 rfl
theorem q157 : (Jvm.Cond.fieldLinkNest "LaneCymbals$Reader" (114 : Nat) "LaneCymbals$Lane" "now" "LLaneCymbals$State;" "LaneCymbals") ∈ lw_tbl := lw_at lw_m1 97 rfl
theorem q200 : (Jvm.Cond.instantiable "LaneCymbals$Reader" (6 : Nat)) ∈ lw_all := lw_g (lw_at lw_m1 140 rfl) rfl
theorem q202 : (Jvm.Cond.instanceMethod ({ cls := "LaneCymbals$Reader", name := "<init>", desc := "(LLaneCymbals;)V" } : Jvm.MethodName)) ∈ lw_all := lw_g (lw_at lw_m1 142 rfl) rfl
theorem q203 : (Jvm.Cond.code ({ cls := "LaneCymbals$Reader", name := "<init>", desc := "(LLaneCymbals;)V" } : Jvm.MethodName) prog_13_method_1_code (2 : Nat) (Option.none : Option Jvm.ClassFile.FieldType)) ∈ lw_all := lw_g (lw_at lw_m1 143 rfl) rfl
theorem q204 : (Jvm.Cond.methodLink "LaneCymbals$Reader" (9 : Nat) ({ cls := "java/lang/Object", name := "<init>", desc := "()V" } : Jvm.MethodName)) ∈ lw_all := lw_g (lw_at lw_m1 144 rfl) rfl
theorem q205 : (Jvm.Cond.fieldLink "LaneCymbals$Reader" (15 : Nat) "LaneCymbals$Reader" "at" "I") ∈ lw_all := lw_g (lw_at lw_m1 145 rfl) rfl
theorem q206 : (Jvm.Cond.fieldLink "LaneCymbals$Reader" (30 : Nat) "LaneCymbals$Reader" "start" "I") ∈ lw_all := lw_g (lw_at lw_m1 146 rfl) rfl
theorem q207 : (Jvm.Cond.fieldLink "LaneCymbals$Reader" (33 : Nat) "LaneCymbals$Reader" "token" "I") ∈ lw_all := lw_g (lw_at lw_m1 147 rfl) rfl
theorem q208 : (Jvm.Cond.fieldLink "LaneCymbals$Reader" (40 : Nat) "LaneCymbals$Reader" "value" "I") ∈ lw_all := lw_g (lw_at lw_m1 148 rfl) rfl
theorem q209 : (Jvm.Cond.fieldLink "LaneCymbals$Reader" (77 : Nat) "LaneCymbals$Reader" "begun" "Z") ∈ lw_all := lw_g (lw_at lw_m1 149 rfl) rfl
theorem q210 : (Jvm.Cond.fieldLink "LaneCymbals$Reader" (3 : Nat) "LaneCymbals$Reader" "this$0" "LLaneCymbals;") ∈ lw_all := lw_g (lw_at lw_m1 150 rfl) rfl
theorem q211 : (Jvm.Cond.lays "LaneCymbals$Reader" "LaneCymbals$Reader" "at" "I") ∈ lw_all := lw_g (lw_at lw_m1 151 rfl) rfl
theorem q212 : (Jvm.Cond.soleField "LaneCymbals$Reader" "at") ∈ lw_all := lw_g (lw_at lw_m1 152 rfl) rfl
theorem q213 : (Jvm.Cond.lays "LaneCymbals$Reader" "LaneCymbals$Reader" "start" "I") ∈ lw_all := lw_g (lw_at lw_m1 153 rfl) rfl
theorem q214 : (Jvm.Cond.soleField "LaneCymbals$Reader" "start") ∈ lw_all := lw_g (lw_at lw_m1 154 rfl) rfl
theorem q215 : (Jvm.Cond.lays "LaneCymbals$Reader" "LaneCymbals$Reader" "token" "I") ∈ lw_all := lw_g (lw_at lw_m1 155 rfl) rfl
theorem q216 : (Jvm.Cond.soleField "LaneCymbals$Reader" "token") ∈ lw_all := lw_g (lw_at lw_m1 156 rfl) rfl
theorem q217 : (Jvm.Cond.lays "LaneCymbals$Reader" "LaneCymbals$Reader" "value" "I") ∈ lw_all := lw_g (lw_at lw_m1 157 rfl) rfl
theorem q218 : (Jvm.Cond.soleField "LaneCymbals$Reader" "value") ∈ lw_all := lw_g (lw_at lw_m1 158 rfl) rfl
theorem q219 : (Jvm.Cond.lays "LaneCymbals$Reader" "LaneCymbals$Reader" "begun" "Z") ∈ lw_all := lw_g (lw_at lw_m1 159 rfl) rfl
theorem q220 : (Jvm.Cond.soleField "LaneCymbals$Reader" "begun") ∈ lw_all := lw_g (lw_at lw_m1 160 rfl) rfl
theorem q221 : (Jvm.Cond.laysFinal "LaneCymbals$Reader" "LaneCymbals$Reader" "this$0" "LLaneCymbals;") ∈ lw_all := lw_g (lw_at lw_m1 161 rfl) rfl
theorem q222 : (Jvm.Cond.soleField "LaneCymbals$Reader" "this$0") ∈ lw_all := lw_g (lw_at lw_m1 162 rfl) rfl
theorem q223 : (Jvm.Cond.superclass "LaneCymbals$Reader" "java/lang/Object") ∈ lw_all := lw_g (lw_at lw_m1 163 rfl) rfl
theorem q253 : (Jvm.Cond.fieldLinkNest "LaneCymbals$Reader" (68 : Nat) "LaneCymbals" "aside" "LLaneCymbals$Lane;" "LaneCymbals") ∈ lw_tbl := lw_at lw_m1 193 rfl
theorem q256 : (Jvm.Cond.fieldLinkNest "LaneCymbals$Reader" (22 : Nat) "LaneCymbals" "text" "[B" "LaneCymbals") ∈ lw_tbl := lw_at lw_m1 196 rfl
theorem q258 : (Jvm.Cond.fieldLinkNest "LaneCymbals$Reader" (19 : Nat) "LaneCymbals" "typed" "I" "LaneCymbals") ∈ lw_tbl := lw_at lw_m1 198 rfl
theorem q365 : (Jvm.Cond.instanceMethod ({ cls := "LaneCymbals$Reader", name := "reads", desc := "()I" } : Jvm.MethodName)) ∈ lw_all := lw_g (lw_at lw_m2 65 rfl) rfl
theorem q366 : (Jvm.Cond.selects "LaneCymbals$Reader" ({ cls := "LaneCymbals$Reader", name := "reads", desc := "()I" } : Jvm.MethodName) ({ cls := "LaneCymbals$Reader", name := "reads", desc := "()I" } : Jvm.MethodName)) ∈ lw_all := lw_g (lw_at lw_m2 66 rfl) rfl
theorem q367 : (Jvm.Cond.code ({ cls := "LaneCymbals$Reader", name := "reads", desc := "()I" } : Jvm.MethodName) prog_13_method_8_code (2 : Nat) (Option.some Jvm.ClassFile.FieldType.int)) ∈ lw_all := lw_g (lw_at lw_m2 67 rfl) rfl
theorem q368 : (Jvm.Cond.methodLink "LaneCymbals$Reader" (72 : Nat) ({ cls := "LaneCymbals$Lane", name := "begins", desc := "(I)V" } : Jvm.MethodName)) ∈ lw_all := lw_g (lw_at lw_m2 68 rfl) rfl
theorem q369 : (Jvm.Cond.methodLink "LaneCymbals$Reader" (65 : Nat) ({ cls := "LaneCymbals$Reader", name := "scans", desc := "()V" } : Jvm.MethodName)) ∈ lw_all := lw_g (lw_at lw_m2 69 rfl) rfl
theorem q370 : (Jvm.Cond.privateMethod ({ cls := "LaneCymbals$Reader", name := "scans", desc := "()V" } : Jvm.MethodName)) ∈ lw_tbl := lw_at lw_m2 70 rfl
theorem q371 : (Jvm.Cond.instanceMethod ({ cls := "LaneCymbals$Reader", name := "scans", desc := "()V" } : Jvm.MethodName)) ∈ lw_all := lw_g (lw_at lw_m2 71 rfl) rfl
theorem q372 : (Jvm.Cond.code ({ cls := "LaneCymbals$Reader", name := "scans", desc := "()V" } : Jvm.MethodName) prog_13_method_3_code (1 : Nat) (Option.none : Option Jvm.ClassFile.FieldType)) ∈ lw_all := lw_g (lw_at lw_m2 72 rfl) rfl
theorem q373 : (Jvm.Cond.methodLink "LaneCymbals$Reader" (26 : Nat) ({ cls := "LaneCymbals$Reader", name := "isAt", desc := "(II)Z" } : Jvm.MethodName)) ∈ lw_all := lw_g (lw_at lw_m2 73 rfl) rfl
theorem q374 : (Jvm.Cond.privateMethod ({ cls := "LaneCymbals$Reader", name := "isAt", desc := "(II)Z" } : Jvm.MethodName)) ∈ lw_tbl := lw_at lw_m2 74 rfl
theorem q375 : (Jvm.Cond.instanceMethod ({ cls := "LaneCymbals$Reader", name := "isAt", desc := "(II)Z" } : Jvm.MethodName)) ∈ lw_all := lw_g (lw_at lw_m2 75 rfl) rfl
theorem q376 : (Jvm.Cond.code ({ cls := "LaneCymbals$Reader", name := "isAt", desc := "(II)Z" } : Jvm.MethodName) prog_13_method_2_code (3 : Nat) (Option.some Jvm.ClassFile.FieldType.boolean)) ∈ lw_all := lw_g (lw_at lw_m2 76 rfl) rfl
theorem q377 : (Jvm.Cond.methodLink "LaneCymbals$Reader" (36 : Nat) ({ cls := "LaneCymbals$Reader", name := "number", desc := "()I" } : Jvm.MethodName)) ∈ lw_all := lw_g (lw_at lw_m2 77 rfl) rfl
theorem q378 : (Jvm.Cond.privateMethod ({ cls := "LaneCymbals$Reader", name := "number", desc := "()I" } : Jvm.MethodName)) ∈ lw_tbl := lw_at lw_m2 78 rfl
theorem q379 : (Jvm.Cond.instanceMethod ({ cls := "LaneCymbals$Reader", name := "number", desc := "()I" } : Jvm.MethodName)) ∈ lw_all := lw_g (lw_at lw_m2 79 rfl) rfl
theorem q380 : (Jvm.Cond.code ({ cls := "LaneCymbals$Reader", name := "number", desc := "()I" } : Jvm.MethodName) prog_13_method_4_code (2 : Nat) (Option.some Jvm.ClassFile.FieldType.int)) ∈ lw_all := lw_g (lw_at lw_m2 80 rfl) rfl
theorem q381 : (Jvm.Cond.methodLink "LaneCymbals$Reader" (61 : Nat) ({ cls := "LaneCymbals$Reader", name := "wants", desc := "(Z)V" } : Jvm.MethodName)) ∈ lw_all := lw_g (lw_at lw_m2 81 rfl) rfl
theorem q382 : (Jvm.Cond.privateMethod ({ cls := "LaneCymbals$Reader", name := "wants", desc := "(Z)V" } : Jvm.MethodName)) ∈ lw_tbl := lw_at lw_m2 82 rfl
theorem q383 : (Jvm.Cond.instanceMethod ({ cls := "LaneCymbals$Reader", name := "wants", desc := "(Z)V" } : Jvm.MethodName)) ∈ lw_all := lw_g (lw_at lw_m2 83 rfl) rfl
theorem q384 : (Jvm.Cond.code ({ cls := "LaneCymbals$Reader", name := "wants", desc := "(Z)V" } : Jvm.MethodName) prog_13_method_6_code (2 : Nat) (Option.none : Option Jvm.ClassFile.FieldType)) ∈ lw_all := lw_g (lw_at lw_m2 84 rfl) rfl
theorem q385 : (Jvm.Cond.classLink "LaneCymbals$Reader" (52 : Nat) "LaneCymbals$Fault") ∈ lw_all := lw_g (lw_at lw_m2 85 rfl) rfl
theorem q422 : (Jvm.Cond.methodLink "LaneCymbals$Reader" (54 : Nat) ({ cls := "LaneCymbals$Fault", name := "<init>", desc := "(I)V" } : Jvm.MethodName)) ∈ lw_all := lw_g (lw_at lw_m2 122 rfl) rfl
theorem q448 : (Jvm.Cond.methodLink "LaneCymbals$Reader" (81 : Nat) ({ cls := "LaneCymbals$Reader", name := "item", desc := "()V" } : Jvm.MethodName)) ∈ lw_all := lw_g (lw_at lw_m2 148 rfl) rfl
theorem q449 : (Jvm.Cond.privateMethod ({ cls := "LaneCymbals$Reader", name := "item", desc := "()V" } : Jvm.MethodName)) ∈ lw_tbl := lw_at lw_m2 149 rfl
theorem q450 : (Jvm.Cond.instanceMethod ({ cls := "LaneCymbals$Reader", name := "item", desc := "()V" } : Jvm.MethodName)) ∈ lw_all := lw_g (lw_at lw_m2 150 rfl) rfl
theorem q451 : (Jvm.Cond.code ({ cls := "LaneCymbals$Reader", name := "item", desc := "()V" } : Jvm.MethodName) prog_13_method_9_code (3 : Nat) (Option.none : Option Jvm.ClassFile.FieldType)) ∈ lw_all := lw_g (lw_at lw_m2 151 rfl) rfl
theorem q452 : (Jvm.Cond.stringRef "LaneCymbals$Reader" (84 : Nat) "lane") ∈ lw_tbl := lw_at lw_m2 152 rfl
theorem q453 : (Jvm.Cond.methodLink "LaneCymbals$Reader" (86 : Nat) ({ cls := "LaneCymbals$Reader", name := "isWord", desc := "(Ljava/lang/String;)Z" } : Jvm.MethodName)) ∈ lw_all := lw_g (lw_at lw_m2 153 rfl) rfl
theorem q454 : (Jvm.Cond.privateMethod ({ cls := "LaneCymbals$Reader", name := "isWord", desc := "(Ljava/lang/String;)Z" } : Jvm.MethodName)) ∈ lw_tbl := lw_at lw_m2 154 rfl
theorem q455 : (Jvm.Cond.instanceMethod ({ cls := "LaneCymbals$Reader", name := "isWord", desc := "(Ljava/lang/String;)Z" } : Jvm.MethodName)) ∈ lw_all := lw_g (lw_at lw_m2 155 rfl) rfl
theorem q456 : (Jvm.Cond.code ({ cls := "LaneCymbals$Reader", name := "isWord", desc := "(Ljava/lang/String;)Z" } : Jvm.MethodName) prog_13_method_5_code (4 : Nat) (Option.some Jvm.ClassFile.FieldType.boolean)) ∈ lw_all := lw_g (lw_at lw_m2 156 rfl) rfl
theorem q457 : (Jvm.Cond.methodLink "LaneCymbals$Reader" (43 : Nat) ({ cls := "java/lang/String", name := "length", desc := "()I" } : Jvm.MethodName)) ∈ lw_all := lw_g (lw_at lw_m2 157 rfl) rfl
theorem q467 : (Jvm.Cond.methodLink "LaneCymbals$Reader" (48 : Nat) ({ cls := "java/lang/String", name := "charAt", desc := "(I)C" } : Jvm.MethodName)) ∈ lw_all := lw_g (lw_at lw_m2 167 rfl) rfl
theorem q505 : (Jvm.Cond.methodLink "LaneCymbals$Reader" (90 : Nat) ({ cls := "LaneCymbals$Reader", name := "takes", desc := "(II)I" } : Jvm.MethodName)) ∈ lw_all := lw_g (lw_at lw_m2 205 rfl) rfl
theorem q506 : (Jvm.Cond.privateMethod ({ cls := "LaneCymbals$Reader", name := "takes", desc := "(II)I" } : Jvm.MethodName)) ∈ lw_tbl := lw_at lw_m2 206 rfl
theorem q507 : (Jvm.Cond.instanceMethod ({ cls := "LaneCymbals$Reader", name := "takes", desc := "(II)I" } : Jvm.MethodName)) ∈ lw_all := lw_g (lw_at lw_m2 207 rfl) rfl
theorem q508 : (Jvm.Cond.code ({ cls := "LaneCymbals$Reader", name := "takes", desc := "(II)I" } : Jvm.MethodName) prog_13_method_7_code (4 : Nat) (Option.some Jvm.ClassFile.FieldType.int)) ∈ lw_all := lw_g (lw_at lw_m2 208 rfl) rfl
theorem q509 : (Jvm.Cond.methodLinkNest "LaneCymbals$Reader" (57 : Nat) ({ cls := "LaneCymbals", name := "in", desc := "(JJJ)Z" } : Jvm.MethodName) "LaneCymbals") ∈ lw_tbl := lw_at lw_m2 209 rfl
theorem q510 : (Jvm.Cond.stringRef "LaneCymbals$Reader" (94 : Nat) "one") ∈ lw_tbl := lw_at lw_m2 210 rfl
theorem q511 : (Jvm.Cond.methodLink "LaneCymbals$Reader" (99 : Nat) ({ cls := "LaneCymbals$Lane", name := "adds", desc := "(III)V" } : Jvm.MethodName)) ∈ lw_all := lw_g (lw_at lw_m2 211 rfl) rfl
theorem q512 : (Jvm.Cond.stringRef "LaneCymbals$Reader" (103 : Nat) "aunt") ∈ lw_tbl := lw_at lw_m2 212 rfl
theorem q513 : (Jvm.Cond.methodLink "LaneCymbals$Reader" (108 : Nat) ({ cls := "LaneCymbals$Lane", name := "comes", desc := "(II)V" } : Jvm.MethodName)) ∈ lw_all := lw_g (lw_at lw_m2 213 rfl) rfl
theorem q514 : (Jvm.Cond.stringRef "LaneCymbals$Reader" (112 : Nat) "away") ∈ lw_tbl := lw_at lw_m2 214 rfl
theorem q515 : (Jvm.Cond.stringRef "LaneCymbals$Reader" (123 : Nat) "counts") ∈ lw_tbl := lw_at lw_m2 215 rfl
theorem q516 : (Jvm.Cond.methodLink "LaneCymbals$Reader" (125 : Nat) ({ cls := "LaneCymbals$Lane", name := "passes", desc := "(LLaneCymbals$State;)V" } : Jvm.MethodName)) ∈ lw_all := lw_g (lw_at lw_m2 216 rfl) rfl
theorem in_X3 : ∀ w ∈ wsX30, w ∈ lw_all := lw_in wsX30 [211, 213, 215, 217, 219, 221] (by decide +kernel) (by decide +kernel)
/-! LaneCymbals$Weddings -/
set_option maxRecDepth 100000
def RX4 : String := "LaneCymbals$Weddings"
def TX4 : u_T := fun k => match k with
  | 0 => ("LaneCymbals$Weddings", "row", "[I", true)
  | 1 => ("LaneCymbals$Weddings", "found", "[I", true)
  | 2 => ("LaneCymbals$Weddings", "most", "I", false)
  | _ => ("LaneCymbals$Weddings", "this$0", "LLaneCymbals;", true)
def tyX4 : Nat → FieldType := fun k => match k with
  | 0 => .array .int
  | 1 => .array .int
  | 2 => .int
  | _ => .object "LaneCymbals"
abbrev wsX40 : List Cond := u_ws RX4 TX4 4
theorem nmX4 : ∀ a, a < 4 → ∀ b, b < 4 → a ≠ b → (TX4 a).2.1 ≠ (TX4 b).2.1 := by decide +kernel
theorem tyX4_ok : ∀ k, k < 4 → parseFieldDescriptor (TX4 k).2.2.1 = some (tyX4 k) := by decide +kernel
abbrev cX4_init : ByteArray := prog_18_method_1_code
def yX4_init : MethodName := ⟨RX4, "<init>", "(LLaneCymbals;)V"⟩
def dkwX4_init_1 : List UInt8 := [181, 0, 19, 177]
abbrev dktX4_init_1 : List UInt8 := dkwX4_init_1 ++ []
def dkwX4_init_0 : List UInt8 := [42, 43, 181, 0, 3, 42, 183, 0, 9, 42, 16, 7, 188, 10, 181, 0, 15, 42, 16, 7, 188, 10]
abbrev dktX4_init_0 : List UInt8 := dkwX4_init_0 ++ dktX4_init_1
theorem dksX4_init_0 : cX4_init.data.toList.drop 0 = dktX4_init_0 := by decide +kernel
theorem dksX4_init_1 : cX4_init.data.toList.drop 22 = dktX4_init_1 := dk_seg dksX4_init_0 22 rfl rfl
theorem dX4_init_0 : decode cX4_init 0 = .ok (.aload_n 0, 1) := dk_42 (dk_at dksX4_init_0 0 rfl rfl)
theorem dX4_init_1 : decode cX4_init 1 = .ok (.aload_n 1, 1) := dk_43 (dk_at dksX4_init_0 1 rfl rfl)
theorem dX4_init_2 : decode cX4_init 2 = .ok (.putfield 3, 3) := dk_181 0 3 (dk_at dksX4_init_0 2 rfl rfl)
theorem dX4_init_5 : decode cX4_init 5 = .ok (.aload_n 0, 1) := dk_42 (dk_at dksX4_init_0 5 rfl rfl)
theorem dX4_init_6 : decode cX4_init 6 = .ok (.invokespecial 9, 3) := dk_183 0 9 (dk_at dksX4_init_0 6 rfl rfl)
theorem dX4_init_9 : decode cX4_init 9 = .ok (.aload_n 0, 1) := dk_42 (dk_at dksX4_init_0 9 rfl rfl)
theorem dX4_init_10 : decode cX4_init 10 = .ok (.bipush 7, 2) := dk_16 7 (dk_at dksX4_init_0 10 rfl rfl)
theorem dX4_init_12 : decode cX4_init 12 = .ok (.newarray .int, 2) := dk_188_10 (dk_at dksX4_init_0 12 rfl rfl)
theorem dX4_init_14 : decode cX4_init 14 = .ok (.putfield 15, 3) := dk_181 0 15 (dk_at dksX4_init_0 14 rfl rfl)
theorem dX4_init_17 : decode cX4_init 17 = .ok (.aload_n 0, 1) := dk_42 (dk_at dksX4_init_0 17 rfl rfl)
theorem dX4_init_18 : decode cX4_init 18 = .ok (.bipush 7, 2) := dk_16 7 (dk_at dksX4_init_0 18 rfl rfl)
theorem dX4_init_20 : decode cX4_init 20 = .ok (.newarray .int, 2) := dk_188_10 (dk_at dksX4_init_0 20 rfl rfl)
theorem dX4_init_22 : decode cX4_init 22 = .ok (.putfield 19, 3) := dk_181 0 19 (dk_at dksX4_init_1 0 rfl rfl)
theorem dX4_init_25 : decode cX4_init 25 = .ok (.return_, 1) := dk_177 (dk_at dksX4_init_1 3 rfl rfl)
abbrev cX4_goes : ByteArray := prog_18_method_2_code
def yX4_goes : MethodName := ⟨RX4, "goes", "()V"⟩
def dkwX4_goes_1 : List UInt8 := [167, 255, 240, 42, 3, 3, 182, 0, 26, 177]
abbrev dktX4_goes_1 : List UInt8 := dkwX4_goes_1 ++ []
def dkwX4_goes_0 : List UInt8 := [42, 2, 181, 0, 22, 3, 60, 27, 16, 7, 162, 0, 16, 42, 180, 0, 15, 27, 2, 79, 132, 1, 1]
abbrev dktX4_goes_0 : List UInt8 := dkwX4_goes_0 ++ dktX4_goes_1
theorem dksX4_goes_0 : cX4_goes.data.toList.drop 0 = dktX4_goes_0 := by decide +kernel
theorem dksX4_goes_1 : cX4_goes.data.toList.drop 23 = dktX4_goes_1 := dk_seg dksX4_goes_0 23 rfl rfl
theorem dX4_goes_0 : decode cX4_goes 0 = .ok (.aload_n 0, 1) := dk_42 (dk_at dksX4_goes_0 0 rfl rfl)
theorem dX4_goes_1 : decode cX4_goes 1 = .ok (.iconst (-1), 1) := dk_2 (dk_at dksX4_goes_0 1 rfl rfl)
theorem dX4_goes_2 : decode cX4_goes 2 = .ok (.putfield 22, 3) := dk_181 0 22 (dk_at dksX4_goes_0 2 rfl rfl)
theorem dX4_goes_5 : decode cX4_goes 5 = .ok (.iconst 0, 1) := dk_3 (dk_at dksX4_goes_0 5 rfl rfl)
theorem dX4_goes_6 : decode cX4_goes 6 = .ok (.istore_n 1, 1) := dk_60 (dk_at dksX4_goes_0 6 rfl rfl)
theorem dX4_goes_7 : decode cX4_goes 7 = .ok (.iload_n 1, 1) := dk_27 (dk_at dksX4_goes_0 7 rfl rfl)
theorem dX4_goes_8 : decode cX4_goes 8 = .ok (.bipush 7, 2) := dk_16 7 (dk_at dksX4_goes_0 8 rfl rfl)
theorem dX4_goes_10 : decode cX4_goes 10 = .ok (.if_icmp .ge 16, 3) := dk_162 0 16 (dk_at dksX4_goes_0 10 rfl rfl)
theorem dX4_goes_13 : decode cX4_goes 13 = .ok (.aload_n 0, 1) := dk_42 (dk_at dksX4_goes_0 13 rfl rfl)
theorem dX4_goes_14 : decode cX4_goes 14 = .ok (.getfield 15, 3) := dk_180 0 15 (dk_at dksX4_goes_0 14 rfl rfl)
theorem dX4_goes_17 : decode cX4_goes 17 = .ok (.iload_n 1, 1) := dk_27 (dk_at dksX4_goes_0 17 rfl rfl)
theorem dX4_goes_18 : decode cX4_goes 18 = .ok (.iconst (-1), 1) := dk_2 (dk_at dksX4_goes_0 18 rfl rfl)
theorem dX4_goes_19 : decode cX4_goes 19 = .ok (.iastore, 1) := dk_79 (dk_at dksX4_goes_0 19 rfl rfl)
theorem dX4_goes_20 : decode cX4_goes 20 = .ok (.iinc 1 1, 3) := dk_132 1 1 (dk_at dksX4_goes_0 20 rfl rfl)
theorem dX4_goes_23 : decode cX4_goes 23 = .ok (.goto (-16), 3) := dk_167 255 240 (dk_at dksX4_goes_1 0 rfl rfl)
theorem dX4_goes_26 : decode cX4_goes 26 = .ok (.aload_n 0, 1) := dk_42 (dk_at dksX4_goes_1 3 rfl rfl)
theorem dX4_goes_27 : decode cX4_goes 27 = .ok (.iconst 0, 1) := dk_3 (dk_at dksX4_goes_1 4 rfl rfl)
theorem dX4_goes_28 : decode cX4_goes 28 = .ok (.iconst 0, 1) := dk_3 (dk_at dksX4_goes_1 5 rfl rfl)
theorem dX4_goes_29 : decode cX4_goes 29 = .ok (.invokevirtual 26, 3) := dk_182 0 26 (dk_at dksX4_goes_1 6 rfl rfl)
theorem dX4_goes_32 : decode cX4_goes 32 = .ok (.return_, 1) := dk_177 (dk_at dksX4_goes_1 9 rfl rfl)
abbrev cX4_tries : ByteArray := prog_18_method_3_code
def yX4_tries : MethodName := ⟨RX4, "tries", "(II)V"⟩
def dkwX4_tries_6 : List UInt8 := [180, 0, 15, 27, 2, 79, 42, 180, 0, 15, 29, 2, 79, 132, 3, 1, 167, 255, 151, 177]
abbrev dktX4_tries_6 : List UInt8 := dkwX4_tries_6 ++ []
def dkwX4_tries_5 : List UInt8 := [180, 0, 15, 27, 29, 79, 42, 180, 0, 15, 29, 27, 79, 42, 27, 4, 96, 28, 4, 96, 182, 0, 26, 42]
abbrev dktX4_tries_5 : List UInt8 := dkwX4_tries_5 ++ dktX4_tries_6
def dkwX4_tries_4 : List UInt8 := [160, 0, 60, 42, 180, 0, 15, 29, 46, 2, 160, 0, 50, 42, 27, 29, 182, 0, 48, 153, 0, 41, 42]
abbrev dktX4_tries_4 : List UInt8 := dkwX4_tries_4 ++ dktX4_tries_5
def dkwX4_tries_3 : List UInt8 := [180, 0, 30, 180, 0, 45, 27, 46, 154, 0, 82, 42, 180, 0, 3, 180, 0, 30, 180, 0, 45, 29, 46, 4]
abbrev dktX4_tries_3 : List UInt8 := dkwX4_tries_3 ++ dktX4_tries_4
def dkwX4_tries_2 : List UInt8 := [182, 0, 26, 3, 62, 29, 42, 180, 0, 3, 180, 0, 30, 180, 0, 34, 162, 0, 97, 42, 180, 0, 3]
abbrev dktX4_tries_2 : List UInt8 := dkwX4_tries_2 ++ dktX4_tries_3
def dkwX4_tries_1 : List UInt8 := [181, 0, 22, 42, 180, 0, 15, 3, 42, 180, 0, 19, 3, 16, 7, 184, 0, 39, 177, 42, 27, 4, 96, 28]
abbrev dktX4_tries_1 : List UInt8 := dkwX4_tries_1 ++ dktX4_tries_2
def dkwX4_tries_0 : List UInt8 := [27, 42, 180, 0, 3, 180, 0, 30, 180, 0, 34, 160, 0, 32, 28, 42, 180, 0, 22, 164, 0, 23, 42, 28]
abbrev dktX4_tries_0 : List UInt8 := dkwX4_tries_0 ++ dktX4_tries_1
theorem dksX4_tries_0 : cX4_tries.data.toList.drop 0 = dktX4_tries_0 := by decide +kernel
theorem dksX4_tries_1 : cX4_tries.data.toList.drop 24 = dktX4_tries_1 := dk_seg dksX4_tries_0 24 rfl rfl
theorem dksX4_tries_2 : cX4_tries.data.toList.drop 48 = dktX4_tries_2 := dk_seg dksX4_tries_1 24 rfl rfl
theorem dksX4_tries_3 : cX4_tries.data.toList.drop 71 = dktX4_tries_3 := dk_seg dksX4_tries_2 23 rfl rfl
theorem dksX4_tries_4 : cX4_tries.data.toList.drop 95 = dktX4_tries_4 := dk_seg dksX4_tries_3 24 rfl rfl
theorem dksX4_tries_5 : cX4_tries.data.toList.drop 118 = dktX4_tries_5 := dk_seg dksX4_tries_4 23 rfl rfl
theorem dksX4_tries_6 : cX4_tries.data.toList.drop 142 = dktX4_tries_6 := dk_seg dksX4_tries_5 24 rfl rfl
theorem dX4_tries_0 : decode cX4_tries 0 = .ok (.iload_n 1, 1) := dk_27 (dk_at dksX4_tries_0 0 rfl rfl)
theorem dX4_tries_1 : decode cX4_tries 1 = .ok (.aload_n 0, 1) := dk_42 (dk_at dksX4_tries_0 1 rfl rfl)
theorem dX4_tries_2 : decode cX4_tries 2 = .ok (.getfield 3, 3) := dk_180 0 3 (dk_at dksX4_tries_0 2 rfl rfl)
theorem dX4_tries_5 : decode cX4_tries 5 = .ok (.getfield 30, 3) := dk_180 0 30 (dk_at dksX4_tries_0 5 rfl rfl)
theorem dX4_tries_8 : decode cX4_tries 8 = .ok (.getfield 34, 3) := dk_180 0 34 (dk_at dksX4_tries_0 8 rfl rfl)
theorem dX4_tries_11 : decode cX4_tries 11 = .ok (.if_icmp .ne 32, 3) := dk_160 0 32 (dk_at dksX4_tries_0 11 rfl rfl)
theorem dX4_tries_14 : decode cX4_tries 14 = .ok (.iload_n 2, 1) := dk_28 (dk_at dksX4_tries_0 14 rfl rfl)
theorem dX4_tries_15 : decode cX4_tries 15 = .ok (.aload_n 0, 1) := dk_42 (dk_at dksX4_tries_0 15 rfl rfl)
theorem dX4_tries_16 : decode cX4_tries 16 = .ok (.getfield 22, 3) := dk_180 0 22 (dk_at dksX4_tries_0 16 rfl rfl)
theorem dX4_tries_19 : decode cX4_tries 19 = .ok (.if_icmp .le 23, 3) := dk_164 0 23 (dk_at dksX4_tries_0 19 rfl rfl)
theorem dX4_tries_22 : decode cX4_tries 22 = .ok (.aload_n 0, 1) := dk_42 (dk_at dksX4_tries_0 22 rfl rfl)
theorem dX4_tries_23 : decode cX4_tries 23 = .ok (.iload_n 2, 1) := dk_28 (dk_at dksX4_tries_0 23 rfl rfl)
theorem dX4_tries_24 : decode cX4_tries 24 = .ok (.putfield 22, 3) := dk_181 0 22 (dk_at dksX4_tries_1 0 rfl rfl)
theorem dX4_tries_27 : decode cX4_tries 27 = .ok (.aload_n 0, 1) := dk_42 (dk_at dksX4_tries_1 3 rfl rfl)
theorem dX4_tries_28 : decode cX4_tries 28 = .ok (.getfield 15, 3) := dk_180 0 15 (dk_at dksX4_tries_1 4 rfl rfl)
theorem dX4_tries_31 : decode cX4_tries 31 = .ok (.iconst 0, 1) := dk_3 (dk_at dksX4_tries_1 7 rfl rfl)
theorem dX4_tries_32 : decode cX4_tries 32 = .ok (.aload_n 0, 1) := dk_42 (dk_at dksX4_tries_1 8 rfl rfl)
theorem dX4_tries_33 : decode cX4_tries 33 = .ok (.getfield 19, 3) := dk_180 0 19 (dk_at dksX4_tries_1 9 rfl rfl)
theorem dX4_tries_36 : decode cX4_tries 36 = .ok (.iconst 0, 1) := dk_3 (dk_at dksX4_tries_1 12 rfl rfl)
theorem dX4_tries_37 : decode cX4_tries 37 = .ok (.bipush 7, 2) := dk_16 7 (dk_at dksX4_tries_1 13 rfl rfl)
theorem dX4_tries_39 : decode cX4_tries 39 = .ok (.invokestatic 39, 3) := dk_184 0 39 (dk_at dksX4_tries_1 15 rfl rfl)
theorem dX4_tries_42 : decode cX4_tries 42 = .ok (.return_, 1) := dk_177 (dk_at dksX4_tries_1 18 rfl rfl)
theorem dX4_tries_43 : decode cX4_tries 43 = .ok (.aload_n 0, 1) := dk_42 (dk_at dksX4_tries_1 19 rfl rfl)
theorem dX4_tries_44 : decode cX4_tries 44 = .ok (.iload_n 1, 1) := dk_27 (dk_at dksX4_tries_1 20 rfl rfl)
theorem dX4_tries_45 : decode cX4_tries 45 = .ok (.iconst 1, 1) := dk_4 (dk_at dksX4_tries_1 21 rfl rfl)
theorem dX4_tries_46 : decode cX4_tries 46 = .ok (.iadd, 1) := dk_96 (dk_at dksX4_tries_1 22 rfl rfl)
theorem dX4_tries_47 : decode cX4_tries 47 = .ok (.iload_n 2, 1) := dk_28 (dk_at dksX4_tries_1 23 rfl rfl)
theorem dX4_tries_48 : decode cX4_tries 48 = .ok (.invokevirtual 26, 3) := dk_182 0 26 (dk_at dksX4_tries_2 0 rfl rfl)
theorem dX4_tries_51 : decode cX4_tries 51 = .ok (.iconst 0, 1) := dk_3 (dk_at dksX4_tries_2 3 rfl rfl)
theorem dX4_tries_52 : decode cX4_tries 52 = .ok (.istore_n 3, 1) := dk_62 (dk_at dksX4_tries_2 4 rfl rfl)
theorem dX4_tries_53 : decode cX4_tries 53 = .ok (.iload_n 3, 1) := dk_29 (dk_at dksX4_tries_2 5 rfl rfl)
theorem dX4_tries_54 : decode cX4_tries 54 = .ok (.aload_n 0, 1) := dk_42 (dk_at dksX4_tries_2 6 rfl rfl)
theorem dX4_tries_55 : decode cX4_tries 55 = .ok (.getfield 3, 3) := dk_180 0 3 (dk_at dksX4_tries_2 7 rfl rfl)
theorem dX4_tries_58 : decode cX4_tries 58 = .ok (.getfield 30, 3) := dk_180 0 30 (dk_at dksX4_tries_2 10 rfl rfl)
theorem dX4_tries_61 : decode cX4_tries 61 = .ok (.getfield 34, 3) := dk_180 0 34 (dk_at dksX4_tries_2 13 rfl rfl)
theorem dX4_tries_64 : decode cX4_tries 64 = .ok (.if_icmp .ge 97, 3) := dk_162 0 97 (dk_at dksX4_tries_2 16 rfl rfl)
theorem dX4_tries_67 : decode cX4_tries 67 = .ok (.aload_n 0, 1) := dk_42 (dk_at dksX4_tries_2 19 rfl rfl)
theorem dX4_tries_68 : decode cX4_tries 68 = .ok (.getfield 3, 3) := dk_180 0 3 (dk_at dksX4_tries_2 20 rfl rfl)
theorem dX4_tries_71 : decode cX4_tries 71 = .ok (.getfield 30, 3) := dk_180 0 30 (dk_at dksX4_tries_3 0 rfl rfl)
theorem dX4_tries_74 : decode cX4_tries 74 = .ok (.getfield 45, 3) := dk_180 0 45 (dk_at dksX4_tries_3 3 rfl rfl)
theorem dX4_tries_77 : decode cX4_tries 77 = .ok (.iload_n 1, 1) := dk_27 (dk_at dksX4_tries_3 6 rfl rfl)
theorem dX4_tries_78 : decode cX4_tries 78 = .ok (.iaload, 1) := dk_46 (dk_at dksX4_tries_3 7 rfl rfl)
theorem dX4_tries_79 : decode cX4_tries 79 = .ok (.ifCond .ne 82, 3) := dk_154 0 82 (dk_at dksX4_tries_3 8 rfl rfl)
theorem dX4_tries_82 : decode cX4_tries 82 = .ok (.aload_n 0, 1) := dk_42 (dk_at dksX4_tries_3 11 rfl rfl)
theorem dX4_tries_83 : decode cX4_tries 83 = .ok (.getfield 3, 3) := dk_180 0 3 (dk_at dksX4_tries_3 12 rfl rfl)
theorem dX4_tries_86 : decode cX4_tries 86 = .ok (.getfield 30, 3) := dk_180 0 30 (dk_at dksX4_tries_3 15 rfl rfl)
theorem dX4_tries_89 : decode cX4_tries 89 = .ok (.getfield 45, 3) := dk_180 0 45 (dk_at dksX4_tries_3 18 rfl rfl)
theorem dX4_tries_92 : decode cX4_tries 92 = .ok (.iload_n 3, 1) := dk_29 (dk_at dksX4_tries_3 21 rfl rfl)
theorem dX4_tries_93 : decode cX4_tries 93 = .ok (.iaload, 1) := dk_46 (dk_at dksX4_tries_3 22 rfl rfl)
theorem dX4_tries_94 : decode cX4_tries 94 = .ok (.iconst 1, 1) := dk_4 (dk_at dksX4_tries_3 23 rfl rfl)
theorem dX4_tries_95 : decode cX4_tries 95 = .ok (.if_icmp .ne 60, 3) := dk_160 0 60 (dk_at dksX4_tries_4 0 rfl rfl)
theorem dX4_tries_98 : decode cX4_tries 98 = .ok (.aload_n 0, 1) := dk_42 (dk_at dksX4_tries_4 3 rfl rfl)
theorem dX4_tries_99 : decode cX4_tries 99 = .ok (.getfield 15, 3) := dk_180 0 15 (dk_at dksX4_tries_4 4 rfl rfl)
theorem dX4_tries_102 : decode cX4_tries 102 = .ok (.iload_n 3, 1) := dk_29 (dk_at dksX4_tries_4 7 rfl rfl)
theorem dX4_tries_103 : decode cX4_tries 103 = .ok (.iaload, 1) := dk_46 (dk_at dksX4_tries_4 8 rfl rfl)
theorem dX4_tries_104 : decode cX4_tries 104 = .ok (.iconst (-1), 1) := dk_2 (dk_at dksX4_tries_4 9 rfl rfl)
theorem dX4_tries_105 : decode cX4_tries 105 = .ok (.if_icmp .ne 50, 3) := dk_160 0 50 (dk_at dksX4_tries_4 10 rfl rfl)
theorem dX4_tries_108 : decode cX4_tries 108 = .ok (.aload_n 0, 1) := dk_42 (dk_at dksX4_tries_4 13 rfl rfl)
theorem dX4_tries_109 : decode cX4_tries 109 = .ok (.iload_n 1, 1) := dk_27 (dk_at dksX4_tries_4 14 rfl rfl)
theorem dX4_tries_110 : decode cX4_tries 110 = .ok (.iload_n 3, 1) := dk_29 (dk_at dksX4_tries_4 15 rfl rfl)
theorem dX4_tries_111 : decode cX4_tries 111 = .ok (.invokevirtual 48, 3) := dk_182 0 48 (dk_at dksX4_tries_4 16 rfl rfl)
theorem dX4_tries_114 : decode cX4_tries 114 = .ok (.ifCond .eq 41, 3) := dk_153 0 41 (dk_at dksX4_tries_4 19 rfl rfl)
theorem dX4_tries_117 : decode cX4_tries 117 = .ok (.aload_n 0, 1) := dk_42 (dk_at dksX4_tries_4 22 rfl rfl)
theorem dX4_tries_118 : decode cX4_tries 118 = .ok (.getfield 15, 3) := dk_180 0 15 (dk_at dksX4_tries_5 0 rfl rfl)
theorem dX4_tries_121 : decode cX4_tries 121 = .ok (.iload_n 1, 1) := dk_27 (dk_at dksX4_tries_5 3 rfl rfl)
theorem dX4_tries_122 : decode cX4_tries 122 = .ok (.iload_n 3, 1) := dk_29 (dk_at dksX4_tries_5 4 rfl rfl)
theorem dX4_tries_123 : decode cX4_tries 123 = .ok (.iastore, 1) := dk_79 (dk_at dksX4_tries_5 5 rfl rfl)
theorem dX4_tries_124 : decode cX4_tries 124 = .ok (.aload_n 0, 1) := dk_42 (dk_at dksX4_tries_5 6 rfl rfl)
theorem dX4_tries_125 : decode cX4_tries 125 = .ok (.getfield 15, 3) := dk_180 0 15 (dk_at dksX4_tries_5 7 rfl rfl)
theorem dX4_tries_128 : decode cX4_tries 128 = .ok (.iload_n 3, 1) := dk_29 (dk_at dksX4_tries_5 10 rfl rfl)
theorem dX4_tries_129 : decode cX4_tries 129 = .ok (.iload_n 1, 1) := dk_27 (dk_at dksX4_tries_5 11 rfl rfl)
theorem dX4_tries_130 : decode cX4_tries 130 = .ok (.iastore, 1) := dk_79 (dk_at dksX4_tries_5 12 rfl rfl)
theorem dX4_tries_131 : decode cX4_tries 131 = .ok (.aload_n 0, 1) := dk_42 (dk_at dksX4_tries_5 13 rfl rfl)
theorem dX4_tries_132 : decode cX4_tries 132 = .ok (.iload_n 1, 1) := dk_27 (dk_at dksX4_tries_5 14 rfl rfl)
theorem dX4_tries_133 : decode cX4_tries 133 = .ok (.iconst 1, 1) := dk_4 (dk_at dksX4_tries_5 15 rfl rfl)
theorem dX4_tries_134 : decode cX4_tries 134 = .ok (.iadd, 1) := dk_96 (dk_at dksX4_tries_5 16 rfl rfl)
theorem dX4_tries_135 : decode cX4_tries 135 = .ok (.iload_n 2, 1) := dk_28 (dk_at dksX4_tries_5 17 rfl rfl)
theorem dX4_tries_136 : decode cX4_tries 136 = .ok (.iconst 1, 1) := dk_4 (dk_at dksX4_tries_5 18 rfl rfl)
theorem dX4_tries_137 : decode cX4_tries 137 = .ok (.iadd, 1) := dk_96 (dk_at dksX4_tries_5 19 rfl rfl)
theorem dX4_tries_138 : decode cX4_tries 138 = .ok (.invokevirtual 26, 3) := dk_182 0 26 (dk_at dksX4_tries_5 20 rfl rfl)
theorem dX4_tries_141 : decode cX4_tries 141 = .ok (.aload_n 0, 1) := dk_42 (dk_at dksX4_tries_5 23 rfl rfl)
theorem dX4_tries_142 : decode cX4_tries 142 = .ok (.getfield 15, 3) := dk_180 0 15 (dk_at dksX4_tries_6 0 rfl rfl)
theorem dX4_tries_145 : decode cX4_tries 145 = .ok (.iload_n 1, 1) := dk_27 (dk_at dksX4_tries_6 3 rfl rfl)
theorem dX4_tries_146 : decode cX4_tries 146 = .ok (.iconst (-1), 1) := dk_2 (dk_at dksX4_tries_6 4 rfl rfl)
theorem dX4_tries_147 : decode cX4_tries 147 = .ok (.iastore, 1) := dk_79 (dk_at dksX4_tries_6 5 rfl rfl)
theorem dX4_tries_148 : decode cX4_tries 148 = .ok (.aload_n 0, 1) := dk_42 (dk_at dksX4_tries_6 6 rfl rfl)
theorem dX4_tries_149 : decode cX4_tries 149 = .ok (.getfield 15, 3) := dk_180 0 15 (dk_at dksX4_tries_6 7 rfl rfl)
theorem dX4_tries_152 : decode cX4_tries 152 = .ok (.iload_n 3, 1) := dk_29 (dk_at dksX4_tries_6 10 rfl rfl)
theorem dX4_tries_153 : decode cX4_tries 153 = .ok (.iconst (-1), 1) := dk_2 (dk_at dksX4_tries_6 11 rfl rfl)
theorem dX4_tries_154 : decode cX4_tries 154 = .ok (.iastore, 1) := dk_79 (dk_at dksX4_tries_6 12 rfl rfl)
theorem dX4_tries_155 : decode cX4_tries 155 = .ok (.iinc 3 1, 3) := dk_132 3 1 (dk_at dksX4_tries_6 13 rfl rfl)
theorem dX4_tries_158 : decode cX4_tries 158 = .ok (.goto (-105), 3) := dk_167 255 151 (dk_at dksX4_tries_6 16 rfl rfl)
theorem dX4_tries_161 : decode cX4_tries 161 = .ok (.return_, 1) := dk_177 (dk_at dksX4_tries_6 19 rfl rfl)
abbrev cX4_areAlike : ByteArray := prog_18_method_4_code
def yX4_areAlike : MethodName := ⟨RX4, "areAlike", "(II)Z"⟩
def dkwX4_areAlike_3 : List UInt8 := [167, 0, 4, 3, 62, 132, 4, 1, 167, 255, 183, 29, 172]
abbrev dktX4_areAlike_3 : List UInt8 := dkwX4_areAlike_3 ++ []
def dkwX4_areAlike_2 : List UInt8 := [180, 0, 3, 180, 0, 30, 180, 0, 52, 28, 21, 4, 182, 0, 56, 100, 184, 0, 60, 5, 163, 0, 7, 4]
abbrev dktX4_areAlike_2 : List UInt8 := dkwX4_areAlike_2 ++ dktX4_areAlike_3
def dkwX4_areAlike_1 : List UInt8 := [180, 0, 3, 180, 0, 30, 180, 0, 52, 27, 21, 4, 182, 0, 56, 42, 180, 0, 3, 180, 0, 30, 42]
abbrev dktX4_areAlike_1 : List UInt8 := dkwX4_areAlike_1 ++ dktX4_areAlike_2
def dkwX4_areAlike_0 : List UInt8 := [4, 62, 3, 54, 4, 21, 4, 7, 162, 0, 73, 29, 153, 0, 69, 42, 180, 0, 3, 180, 0, 30, 42]
abbrev dktX4_areAlike_0 : List UInt8 := dkwX4_areAlike_0 ++ dktX4_areAlike_1
theorem dksX4_areAlike_0 : cX4_areAlike.data.toList.drop 0 = dktX4_areAlike_0 := by decide +kernel
theorem dksX4_areAlike_1 : cX4_areAlike.data.toList.drop 23 = dktX4_areAlike_1 := dk_seg dksX4_areAlike_0 23 rfl rfl
theorem dksX4_areAlike_2 : cX4_areAlike.data.toList.drop 46 = dktX4_areAlike_2 := dk_seg dksX4_areAlike_1 23 rfl rfl
theorem dksX4_areAlike_3 : cX4_areAlike.data.toList.drop 70 = dktX4_areAlike_3 := dk_seg dksX4_areAlike_2 24 rfl rfl
theorem dX4_areAlike_0 : decode cX4_areAlike 0 = .ok (.iconst 1, 1) := dk_4 (dk_at dksX4_areAlike_0 0 rfl rfl)
theorem dX4_areAlike_1 : decode cX4_areAlike 1 = .ok (.istore_n 3, 1) := dk_62 (dk_at dksX4_areAlike_0 1 rfl rfl)
theorem dX4_areAlike_2 : decode cX4_areAlike 2 = .ok (.iconst 0, 1) := dk_3 (dk_at dksX4_areAlike_0 2 rfl rfl)
theorem dX4_areAlike_3 : decode cX4_areAlike 3 = .ok (.istore 4, 2) := dk_54 4 (dk_at dksX4_areAlike_0 3 rfl rfl)
theorem dX4_areAlike_5 : decode cX4_areAlike 5 = .ok (.iload 4, 2) := dk_21 4 (dk_at dksX4_areAlike_0 5 rfl rfl)
theorem dX4_areAlike_7 : decode cX4_areAlike 7 = .ok (.iconst 4, 1) := dk_7 (dk_at dksX4_areAlike_0 7 rfl rfl)
theorem dX4_areAlike_8 : decode cX4_areAlike 8 = .ok (.if_icmp .ge 73, 3) := dk_162 0 73 (dk_at dksX4_areAlike_0 8 rfl rfl)
theorem dX4_areAlike_11 : decode cX4_areAlike 11 = .ok (.iload_n 3, 1) := dk_29 (dk_at dksX4_areAlike_0 11 rfl rfl)
theorem dX4_areAlike_12 : decode cX4_areAlike 12 = .ok (.ifCond .eq 69, 3) := dk_153 0 69 (dk_at dksX4_areAlike_0 12 rfl rfl)
theorem dX4_areAlike_15 : decode cX4_areAlike 15 = .ok (.aload_n 0, 1) := dk_42 (dk_at dksX4_areAlike_0 15 rfl rfl)
theorem dX4_areAlike_16 : decode cX4_areAlike 16 = .ok (.getfield 3, 3) := dk_180 0 3 (dk_at dksX4_areAlike_0 16 rfl rfl)
theorem dX4_areAlike_19 : decode cX4_areAlike 19 = .ok (.getfield 30, 3) := dk_180 0 30 (dk_at dksX4_areAlike_0 19 rfl rfl)
theorem dX4_areAlike_22 : decode cX4_areAlike 22 = .ok (.aload_n 0, 1) := dk_42 (dk_at dksX4_areAlike_0 22 rfl rfl)
theorem dX4_areAlike_23 : decode cX4_areAlike 23 = .ok (.getfield 3, 3) := dk_180 0 3 (dk_at dksX4_areAlike_1 0 rfl rfl)
theorem dX4_areAlike_26 : decode cX4_areAlike 26 = .ok (.getfield 30, 3) := dk_180 0 30 (dk_at dksX4_areAlike_1 3 rfl rfl)
theorem dX4_areAlike_29 : decode cX4_areAlike 29 = .ok (.getfield 52, 3) := dk_180 0 52 (dk_at dksX4_areAlike_1 6 rfl rfl)
theorem dX4_areAlike_32 : decode cX4_areAlike 32 = .ok (.iload_n 1, 1) := dk_27 (dk_at dksX4_areAlike_1 9 rfl rfl)
theorem dX4_areAlike_33 : decode cX4_areAlike 33 = .ok (.iload 4, 2) := dk_21 4 (dk_at dksX4_areAlike_1 10 rfl rfl)
theorem dX4_areAlike_35 : decode cX4_areAlike 35 = .ok (.invokevirtual 56, 3) := dk_182 0 56 (dk_at dksX4_areAlike_1 12 rfl rfl)
theorem dX4_areAlike_38 : decode cX4_areAlike 38 = .ok (.aload_n 0, 1) := dk_42 (dk_at dksX4_areAlike_1 15 rfl rfl)
theorem dX4_areAlike_39 : decode cX4_areAlike 39 = .ok (.getfield 3, 3) := dk_180 0 3 (dk_at dksX4_areAlike_1 16 rfl rfl)
theorem dX4_areAlike_42 : decode cX4_areAlike 42 = .ok (.getfield 30, 3) := dk_180 0 30 (dk_at dksX4_areAlike_1 19 rfl rfl)
theorem dX4_areAlike_45 : decode cX4_areAlike 45 = .ok (.aload_n 0, 1) := dk_42 (dk_at dksX4_areAlike_1 22 rfl rfl)
theorem dX4_areAlike_46 : decode cX4_areAlike 46 = .ok (.getfield 3, 3) := dk_180 0 3 (dk_at dksX4_areAlike_2 0 rfl rfl)
theorem dX4_areAlike_49 : decode cX4_areAlike 49 = .ok (.getfield 30, 3) := dk_180 0 30 (dk_at dksX4_areAlike_2 3 rfl rfl)
theorem dX4_areAlike_52 : decode cX4_areAlike 52 = .ok (.getfield 52, 3) := dk_180 0 52 (dk_at dksX4_areAlike_2 6 rfl rfl)
theorem dX4_areAlike_55 : decode cX4_areAlike 55 = .ok (.iload_n 2, 1) := dk_28 (dk_at dksX4_areAlike_2 9 rfl rfl)
theorem dX4_areAlike_56 : decode cX4_areAlike 56 = .ok (.iload 4, 2) := dk_21 4 (dk_at dksX4_areAlike_2 10 rfl rfl)
theorem dX4_areAlike_58 : decode cX4_areAlike 58 = .ok (.invokevirtual 56, 3) := dk_182 0 56 (dk_at dksX4_areAlike_2 12 rfl rfl)
theorem dX4_areAlike_61 : decode cX4_areAlike 61 = .ok (.isub, 1) := dk_100 (dk_at dksX4_areAlike_2 15 rfl rfl)
theorem dX4_areAlike_62 : decode cX4_areAlike 62 = .ok (.invokestatic 60, 3) := dk_184 0 60 (dk_at dksX4_areAlike_2 16 rfl rfl)
theorem dX4_areAlike_65 : decode cX4_areAlike 65 = .ok (.iconst 2, 1) := dk_5 (dk_at dksX4_areAlike_2 19 rfl rfl)
theorem dX4_areAlike_66 : decode cX4_areAlike 66 = .ok (.if_icmp .gt 7, 3) := dk_163 0 7 (dk_at dksX4_areAlike_2 20 rfl rfl)
theorem dX4_areAlike_69 : decode cX4_areAlike 69 = .ok (.iconst 1, 1) := dk_4 (dk_at dksX4_areAlike_2 23 rfl rfl)
theorem dX4_areAlike_70 : decode cX4_areAlike 70 = .ok (.goto 4, 3) := dk_167 0 4 (dk_at dksX4_areAlike_3 0 rfl rfl)
theorem dX4_areAlike_73 : decode cX4_areAlike 73 = .ok (.iconst 0, 1) := dk_3 (dk_at dksX4_areAlike_3 3 rfl rfl)
theorem dX4_areAlike_74 : decode cX4_areAlike 74 = .ok (.istore_n 3, 1) := dk_62 (dk_at dksX4_areAlike_3 4 rfl rfl)
theorem dX4_areAlike_75 : decode cX4_areAlike 75 = .ok (.iinc 4 1, 3) := dk_132 4 1 (dk_at dksX4_areAlike_3 5 rfl rfl)
theorem dX4_areAlike_78 : decode cX4_areAlike 78 = .ok (.goto (-73), 3) := dk_167 255 183 (dk_at dksX4_areAlike_3 8 rfl rfl)
theorem dX4_areAlike_81 : decode cX4_areAlike 81 = .ok (.iload_n 3, 1) := dk_29 (dk_at dksX4_areAlike_3 11 rfl rfl)
theorem dX4_areAlike_82 : decode cX4_areAlike 82 = .ok (.ireturn, 1) := dk_172 (dk_at dksX4_areAlike_3 12 rfl rfl)
theorem q65 : (Jvm.Cond.initialized "LaneCymbals$Weddings") ∈ lw_all := lw_g (lw_at lw_m1 5 rfl) rfl
theorem q130 : (Jvm.Cond.fieldLinkNest "LaneCymbals$Weddings" (45 : Nat) "LaneCymbals$Lane" "houses" "[I" "LaneCymbals") ∈ lw_tbl := lw_at lw_m1 70 rfl
theorem q133 : (Jvm.Cond.fieldLinkNest "LaneCymbals$Weddings" (34 : Nat) "LaneCymbals$Lane" "many" "I" "LaneCymbals") ∈ lw_tbl := lw_at lw_m1 73 rfl
theorem q156 : (Jvm.Cond.fieldLinkNest "LaneCymbals$Weddings" (52 : Nat) "LaneCymbals$Lane" "now" "LLaneCymbals$State;" "LaneCymbals") ∈ lw_tbl := lw_at lw_m1 96 rfl
theorem q226 : (Jvm.Cond.instantiable "LaneCymbals$Weddings" (4 : Nat)) ∈ lw_all := lw_g (lw_at lw_m1 166 rfl) rfl
theorem q228 : (Jvm.Cond.instanceMethod ({ cls := "LaneCymbals$Weddings", name := "<init>", desc := "(LLaneCymbals;)V" } : Jvm.MethodName)) ∈ lw_all := lw_g (lw_at lw_m1 168 rfl) rfl
theorem q229 : (Jvm.Cond.code ({ cls := "LaneCymbals$Weddings", name := "<init>", desc := "(LLaneCymbals;)V" } : Jvm.MethodName) prog_18_method_1_code (2 : Nat) (Option.none : Option Jvm.ClassFile.FieldType)) ∈ lw_all := lw_g (lw_at lw_m1 169 rfl) rfl
theorem q230 : (Jvm.Cond.methodLink "LaneCymbals$Weddings" (9 : Nat) ({ cls := "java/lang/Object", name := "<init>", desc := "()V" } : Jvm.MethodName)) ∈ lw_all := lw_g (lw_at lw_m1 170 rfl) rfl
theorem q231 : (Jvm.Cond.fieldLink "LaneCymbals$Weddings" (15 : Nat) "LaneCymbals$Weddings" "row" "[I") ∈ lw_all := lw_g (lw_at lw_m1 171 rfl) rfl
theorem q232 : (Jvm.Cond.fieldLink "LaneCymbals$Weddings" (19 : Nat) "LaneCymbals$Weddings" "found" "[I") ∈ lw_all := lw_g (lw_at lw_m1 172 rfl) rfl
theorem q234 : (Jvm.Cond.fieldLink "LaneCymbals$Weddings" (22 : Nat) "LaneCymbals$Weddings" "most" "I") ∈ lw_all := lw_g (lw_at lw_m1 174 rfl) rfl
theorem q236 : (Jvm.Cond.fieldLink "LaneCymbals$Weddings" (3 : Nat) "LaneCymbals$Weddings" "this$0" "LLaneCymbals;") ∈ lw_all := lw_g (lw_at lw_m1 176 rfl) rfl
theorem q237 : (Jvm.Cond.laysFinal "LaneCymbals$Weddings" "LaneCymbals$Weddings" "row" "[I") ∈ lw_all := lw_g (lw_at lw_m1 177 rfl) rfl
theorem q238 : (Jvm.Cond.soleField "LaneCymbals$Weddings" "row") ∈ lw_all := lw_g (lw_at lw_m1 178 rfl) rfl
theorem q239 : (Jvm.Cond.laysFinal "LaneCymbals$Weddings" "LaneCymbals$Weddings" "found" "[I") ∈ lw_all := lw_g (lw_at lw_m1 179 rfl) rfl
theorem q240 : (Jvm.Cond.soleField "LaneCymbals$Weddings" "found") ∈ lw_all := lw_g (lw_at lw_m1 180 rfl) rfl
theorem q241 : (Jvm.Cond.lays "LaneCymbals$Weddings" "LaneCymbals$Weddings" "most" "I") ∈ lw_all := lw_g (lw_at lw_m1 181 rfl) rfl
theorem q242 : (Jvm.Cond.soleField "LaneCymbals$Weddings" "most") ∈ lw_all := lw_g (lw_at lw_m1 182 rfl) rfl
theorem q243 : (Jvm.Cond.laysFinal "LaneCymbals$Weddings" "LaneCymbals$Weddings" "this$0" "LLaneCymbals;") ∈ lw_all := lw_g (lw_at lw_m1 183 rfl) rfl
theorem q244 : (Jvm.Cond.soleField "LaneCymbals$Weddings" "this$0") ∈ lw_all := lw_g (lw_at lw_m1 184 rfl) rfl
theorem q245 : (Jvm.Cond.superclass "LaneCymbals$Weddings" "java/lang/Object") ∈ lw_all := lw_g (lw_at lw_m1 185 rfl) rfl
theorem q251 : (Jvm.Cond.fieldLinkNest "LaneCymbals$Weddings" (30 : Nat) "LaneCymbals" "lane" "LLaneCymbals$Lane;" "LaneCymbals") ∈ lw_tbl := lw_at lw_m1 191 rfl
theorem q755 : (Jvm.Cond.instanceMethod ({ cls := "LaneCymbals$Weddings", name := "goes", desc := "()V" } : Jvm.MethodName)) ∈ lw_all := lw_g (lw_at lw_m3 215 rfl) rfl
theorem q756 : (Jvm.Cond.selects "LaneCymbals$Weddings" ({ cls := "LaneCymbals$Weddings", name := "goes", desc := "()V" } : Jvm.MethodName) ({ cls := "LaneCymbals$Weddings", name := "goes", desc := "()V" } : Jvm.MethodName)) ∈ lw_all := lw_g (lw_at lw_m3 216 rfl) rfl
theorem q757 : (Jvm.Cond.code ({ cls := "LaneCymbals$Weddings", name := "goes", desc := "()V" } : Jvm.MethodName) prog_18_method_2_code (2 : Nat) (Option.none : Option Jvm.ClassFile.FieldType)) ∈ lw_all := lw_g (lw_at lw_m3 217 rfl) rfl
theorem q758 : (Jvm.Cond.methodLink "LaneCymbals$Weddings" (26 : Nat) ({ cls := "LaneCymbals$Weddings", name := "tries", desc := "(II)V" } : Jvm.MethodName)) ∈ lw_all := lw_g (lw_at lw_m3 218 rfl) rfl
theorem q759 : (Jvm.Cond.privateMethod ({ cls := "LaneCymbals$Weddings", name := "tries", desc := "(II)V" } : Jvm.MethodName)) ∈ lw_tbl := lw_at lw_m3 219 rfl
theorem q760 : (Jvm.Cond.instanceMethod ({ cls := "LaneCymbals$Weddings", name := "tries", desc := "(II)V" } : Jvm.MethodName)) ∈ lw_all := lw_g (lw_at lw_m3 220 rfl) rfl
theorem q761 : (Jvm.Cond.code ({ cls := "LaneCymbals$Weddings", name := "tries", desc := "(II)V" } : Jvm.MethodName) prog_18_method_3_code (4 : Nat) (Option.none : Option Jvm.ClassFile.FieldType)) ∈ lw_all := lw_g (lw_at lw_m3 221 rfl) rfl
theorem q762 : (Jvm.Cond.methodLink "LaneCymbals$Weddings" (39 : Nat) ({ cls := "java/lang/System", name := "arraycopy", desc := "(Ljava/lang/Object;ILjava/lang/Object;II)V" } : Jvm.MethodName)) ∈ lw_all := lw_g (lw_at lw_m3 222 rfl) rfl
theorem q763 : (Jvm.Cond.methodLink "LaneCymbals$Weddings" (48 : Nat) ({ cls := "LaneCymbals$Weddings", name := "areAlike", desc := "(II)Z" } : Jvm.MethodName)) ∈ lw_all := lw_g (lw_at lw_m3 223 rfl) rfl
theorem q764 : (Jvm.Cond.privateMethod ({ cls := "LaneCymbals$Weddings", name := "areAlike", desc := "(II)Z" } : Jvm.MethodName)) ∈ lw_tbl := lw_at lw_m3 224 rfl
theorem q765 : (Jvm.Cond.instanceMethod ({ cls := "LaneCymbals$Weddings", name := "areAlike", desc := "(II)Z" } : Jvm.MethodName)) ∈ lw_all := lw_g (lw_at lw_m3 225 rfl) rfl
theorem q766 : (Jvm.Cond.code ({ cls := "LaneCymbals$Weddings", name := "areAlike", desc := "(II)Z" } : Jvm.MethodName) prog_18_method_4_code (5 : Nat) (Option.some Jvm.ClassFile.FieldType.boolean)) ∈ lw_all := lw_g (lw_at lw_m3 226 rfl) rfl
theorem q767 : (Jvm.Cond.methodLink "LaneCymbals$Weddings" (56 : Nat) ({ cls := "LaneCymbals$Lane", name := "leans", desc := "(LLaneCymbals$State;II)I" } : Jvm.MethodName)) ∈ lw_all := lw_g (lw_at lw_m3 227 rfl) rfl
theorem q768 : (Jvm.Cond.methodLink "LaneCymbals$Weddings" (60 : Nat) ({ cls := "java/lang/Math", name := "abs", desc := "(I)I" } : Jvm.MethodName)) ∈ lw_all := lw_g (lw_at lw_m3 228 rfl) rfl
theorem in_X4 : ∀ w ∈ wsX40, w ∈ lw_all := lw_in wsX40 [237, 239, 241, 243] (by decide +kernel) (by decide +kernel)
/-! LaneCymbals$Fault -/
set_option maxRecDepth 100000
def RX6 : String := "LaneCymbals$Fault"
def TX6 : u_T := fun k => match k with
  | 0 => ("java/lang/Throwable", "cause", "Ljava/lang/Throwable;", false)
  | 1 => ("java/lang/Throwable", "stackTrace", "[Ljava/lang/StackTraceElement;", false)
  | 2 => ("java/lang/Throwable", "suppressedExceptions", "Ljava/util/List;", false)
  | 3 => ("java/lang/Throwable", "detailMessage", "Ljava/lang/String;", false)
  | 4 => ("java/lang/Throwable", "backtrace", "Ljava/lang/Object;", false)
  | 5 => ("java/lang/Throwable", "depth", "I", false)
  | _ => ("LaneCymbals$Fault", "place", "I", true)
def tyX6 : Nat → FieldType := fun k => match k with
  | 0 => .object "java/lang/Throwable"
  | 1 => .array (.object "java/lang/StackTraceElement")
  | 2 => .object "java/util/List"
  | 3 => .object "java/lang/String"
  | 4 => .object "java/lang/Object"
  | 5 => .int
  | _ => .int
abbrev wsX60 : List Cond := u_ws RX6 TX6 7
theorem nmX6 : ∀ a, a < 7 → ∀ b, b < 7 → a ≠ b → (TX6 a).2.1 ≠ (TX6 b).2.1 := by decide +kernel
theorem tyX6_ok : ∀ k, k < 7 → parseFieldDescriptor (TX6 k).2.2.1 = some (tyX6 k) := by decide +kernel
abbrev cX6_init : ByteArray := prog_7_method_1_code
def yX6_init : MethodName := ⟨RX6, "<init>", "(I)V"⟩
def dkwX6_init_0 : List UInt8 := [42, 1, 1, 3, 3, 183, 0, 1, 42, 27, 181, 0, 7, 177]
abbrev dktX6_init_0 : List UInt8 := dkwX6_init_0 ++ []
theorem dksX6_init_0 : cX6_init.data.toList.drop 0 = dktX6_init_0 := by decide +kernel
theorem dX6_init_0 : decode cX6_init 0 = .ok (.aload_n 0, 1) := dk_42 (dk_at dksX6_init_0 0 rfl rfl)
theorem dX6_init_1 : decode cX6_init 1 = .ok (.aconst_null, 1) := dk_1 (dk_at dksX6_init_0 1 rfl rfl)
theorem dX6_init_2 : decode cX6_init 2 = .ok (.aconst_null, 1) := dk_1 (dk_at dksX6_init_0 2 rfl rfl)
theorem dX6_init_3 : decode cX6_init 3 = .ok (.iconst 0, 1) := dk_3 (dk_at dksX6_init_0 3 rfl rfl)
theorem dX6_init_4 : decode cX6_init 4 = .ok (.iconst 0, 1) := dk_3 (dk_at dksX6_init_0 4 rfl rfl)
theorem dX6_init_5 : decode cX6_init 5 = .ok (.invokespecial 1, 3) := dk_183 0 1 (dk_at dksX6_init_0 5 rfl rfl)
theorem dX6_init_8 : decode cX6_init 8 = .ok (.aload_n 0, 1) := dk_42 (dk_at dksX6_init_0 8 rfl rfl)
theorem dX6_init_9 : decode cX6_init 9 = .ok (.iload_n 1, 1) := dk_27 (dk_at dksX6_init_0 9 rfl rfl)
theorem dX6_init_10 : decode cX6_init 10 = .ok (.putfield 7, 3) := dk_181 0 7 (dk_at dksX6_init_0 10 rfl rfl)
theorem dX6_init_13 : decode cX6_init 13 = .ok (.return_, 1) := dk_177 (dk_at dksX6_init_0 13 rfl rfl)
theorem q69 : (Jvm.Cond.initialized "LaneCymbals$Fault") ∈ lw_all := lw_g (lw_at lw_m1 9 rfl) rfl
theorem q386 : (Jvm.Cond.instantiable "LaneCymbals$Fault" (7 : Nat)) ∈ lw_all := lw_g (lw_at lw_m2 86 rfl) rfl
theorem q387 : (Jvm.Cond.castable "LaneCymbals$Fault" "LaneCymbals$Fault") ∈ lw_tbl := lw_at lw_m2 87 rfl
theorem q392 : (Jvm.Cond.selects "LaneCymbals$Fault" ({ cls := "java/lang/Throwable", name := "fillInStackTrace", desc := "(I)Ljava/lang/Throwable;" } : Jvm.MethodName) ({ cls := "java/lang/Throwable", name := "fillInStackTrace", desc := "(I)Ljava/lang/Throwable;" } : Jvm.MethodName)) ∈ lw_all := lw_g (lw_at lw_m2 92 rfl) rfl
theorem q393 : (Jvm.Cond.selects "LaneCymbals$Fault" ({ cls := "java/lang/Throwable", name := "fillInStackTrace", desc := "()Ljava/lang/Throwable;" } : Jvm.MethodName) ({ cls := "java/lang/Throwable", name := "fillInStackTrace", desc := "()Ljava/lang/Throwable;" } : Jvm.MethodName)) ∈ lw_all := lw_g (lw_at lw_m2 93 rfl) rfl
theorem q394 : (Jvm.Cond.lays "LaneCymbals$Fault" "java/lang/Throwable" "cause" "Ljava/lang/Throwable;") ∈ lw_all := lw_g (lw_at lw_m2 94 rfl) rfl
theorem q396 : (Jvm.Cond.lays "LaneCymbals$Fault" "java/lang/Throwable" "stackTrace" "[Ljava/lang/StackTraceElement;") ∈ lw_all := lw_g (lw_at lw_m2 96 rfl) rfl
theorem q398 : (Jvm.Cond.lays "LaneCymbals$Fault" "java/lang/Throwable" "suppressedExceptions" "Ljava/util/List;") ∈ lw_all := lw_g (lw_at lw_m2 98 rfl) rfl
theorem q400 : (Jvm.Cond.lays "LaneCymbals$Fault" "java/lang/Throwable" "detailMessage" "Ljava/lang/String;") ∈ lw_all := lw_g (lw_at lw_m2 100 rfl) rfl
theorem q402 : (Jvm.Cond.lays "LaneCymbals$Fault" "java/lang/Throwable" "backtrace" "Ljava/lang/Object;") ∈ lw_all := lw_g (lw_at lw_m2 102 rfl) rfl
theorem q423 : (Jvm.Cond.instanceMethod ({ cls := "LaneCymbals$Fault", name := "<init>", desc := "(I)V" } : Jvm.MethodName)) ∈ lw_all := lw_g (lw_at lw_m2 123 rfl) rfl
theorem q424 : (Jvm.Cond.code ({ cls := "LaneCymbals$Fault", name := "<init>", desc := "(I)V" } : Jvm.MethodName) prog_7_method_1_code (2 : Nat) (Option.none : Option Jvm.ClassFile.FieldType)) ∈ lw_all := lw_g (lw_at lw_m2 124 rfl) rfl
theorem q425 : (Jvm.Cond.methodLink "LaneCymbals$Fault" (1 : Nat) ({ cls := "java/lang/Exception", name := "<init>", desc := "(Ljava/lang/String;Ljava/lang/Throwable;ZZ)V" } : Jvm.MethodName)) ∈ lw_all := lw_g (lw_at lw_m2 125 rfl) rfl
theorem q431 : (Jvm.Cond.fieldLink "LaneCymbals$Fault" (7 : Nat) "LaneCymbals$Fault" "place" "I") ∈ lw_all := lw_g (lw_at lw_m2 131 rfl) rfl
theorem q438 : (Jvm.Cond.laysFinal "LaneCymbals$Fault" "LaneCymbals$Fault" "place" "I") ∈ lw_all := lw_g (lw_at lw_m2 138 rfl) rfl
theorem q439 : (Jvm.Cond.soleField "LaneCymbals$Fault" "place") ∈ lw_all := lw_g (lw_at lw_m2 139 rfl) rfl
theorem q444 : (Jvm.Cond.lays "LaneCymbals$Fault" "java/lang/Throwable" "depth" "I") ∈ lw_all := lw_g (lw_at lw_m2 144 rfl) rfl
theorem q447 : (Jvm.Cond.superclass "LaneCymbals$Fault" "java/lang/Exception") ∈ lw_all := lw_g (lw_at lw_m2 147 rfl) rfl
theorem in_X6 : ∀ w ∈ wsX60, w ∈ lw_all := lw_in wsX60 [394, 396, 398, 400, 402, 444, 438] (by decide +kernel) (by decide +kernel)
/-! LaneCymbals$One -/
set_option maxRecDepth 100000
def RX7 : String := "LaneCymbals$One"
abbrev cX7_leans : ByteArray := prog_12_method_3_code
def yX7_leans : MethodName := ⟨RX7, "leans", "(II)I"⟩
def dkwX7_leans_1 : List UInt8 := [172]
abbrev dktX7_leans_1 : List UInt8 := dkwX7_leans_1 ++ []
def dkwX7_leans_0 : List UInt8 := [28, 7, 112, 4, 160, 0, 7, 27, 167, 0, 16, 28, 7, 112, 6, 160, 0, 8, 27, 116, 167, 0, 4, 3]
abbrev dktX7_leans_0 : List UInt8 := dkwX7_leans_0 ++ dktX7_leans_1
theorem dksX7_leans_0 : cX7_leans.data.toList.drop 0 = dktX7_leans_0 := by decide +kernel
theorem dksX7_leans_1 : cX7_leans.data.toList.drop 24 = dktX7_leans_1 := dk_seg dksX7_leans_0 24 rfl rfl
theorem dX7_leans_0 : decode cX7_leans 0 = .ok (.iload_n 2, 1) := dk_28 (dk_at dksX7_leans_0 0 rfl rfl)
theorem dX7_leans_1 : decode cX7_leans 1 = .ok (.iconst 4, 1) := dk_7 (dk_at dksX7_leans_0 1 rfl rfl)
theorem dX7_leans_2 : decode cX7_leans 2 = .ok (.irem, 1) := dk_112 (dk_at dksX7_leans_0 2 rfl rfl)
theorem dX7_leans_3 : decode cX7_leans 3 = .ok (.iconst 1, 1) := dk_4 (dk_at dksX7_leans_0 3 rfl rfl)
theorem dX7_leans_4 : decode cX7_leans 4 = .ok (.if_icmp .ne 7, 3) := dk_160 0 7 (dk_at dksX7_leans_0 4 rfl rfl)
theorem dX7_leans_7 : decode cX7_leans 7 = .ok (.iload_n 1, 1) := dk_27 (dk_at dksX7_leans_0 7 rfl rfl)
theorem dX7_leans_8 : decode cX7_leans 8 = .ok (.goto 16, 3) := dk_167 0 16 (dk_at dksX7_leans_0 8 rfl rfl)
theorem dX7_leans_11 : decode cX7_leans 11 = .ok (.iload_n 2, 1) := dk_28 (dk_at dksX7_leans_0 11 rfl rfl)
theorem dX7_leans_12 : decode cX7_leans 12 = .ok (.iconst 4, 1) := dk_7 (dk_at dksX7_leans_0 12 rfl rfl)
theorem dX7_leans_13 : decode cX7_leans 13 = .ok (.irem, 1) := dk_112 (dk_at dksX7_leans_0 13 rfl rfl)
theorem dX7_leans_14 : decode cX7_leans 14 = .ok (.iconst 3, 1) := dk_6 (dk_at dksX7_leans_0 14 rfl rfl)
theorem dX7_leans_15 : decode cX7_leans 15 = .ok (.if_icmp .ne 8, 3) := dk_160 0 8 (dk_at dksX7_leans_0 15 rfl rfl)
theorem dX7_leans_18 : decode cX7_leans 18 = .ok (.iload_n 1, 1) := dk_27 (dk_at dksX7_leans_0 18 rfl rfl)
theorem dX7_leans_19 : decode cX7_leans 19 = .ok (.ineg, 1) := dk_116 (dk_at dksX7_leans_0 19 rfl rfl)
theorem dX7_leans_20 : decode cX7_leans 20 = .ok (.goto 4, 3) := dk_167 0 4 (dk_at dksX7_leans_0 20 rfl rfl)
theorem dX7_leans_23 : decode cX7_leans 23 = .ok (.iconst 0, 1) := dk_3 (dk_at dksX7_leans_0 23 rfl rfl)
theorem dX7_leans_24 : decode cX7_leans 24 = .ok (.ireturn, 1) := dk_172 (dk_at dksX7_leans_1 0 rfl rfl)
abbrev cX7_kind : ByteArray := prog_12_method_2_code
def yX7_kind : MethodName := ⟨RX7, "kind", "()I"⟩
theorem dX7_kind_0 : decode cX7_kind 0 = .ok (.iconst 0, 1) := by decide +kernel
theorem dX7_kind_1 : decode cX7_kind 1 = .ok (.ireturn, 1) := by decide +kernel
theorem q537 : (Jvm.Cond.instanceMethod ({ cls := "LaneCymbals$One", name := "leans", desc := "(II)I" } : Jvm.MethodName)) ∈ lw_all := lw_g (lw_at lw_m2 237 rfl) rfl
theorem q538 : (Jvm.Cond.selects "LaneCymbals$One" ({ cls := "LaneCymbals$One", name := "leans", desc := "(II)I" } : Jvm.MethodName) ({ cls := "LaneCymbals$One", name := "leans", desc := "(II)I" } : Jvm.MethodName)) ∈ lw_all := lw_g (lw_at lw_m2 238 rfl) rfl
theorem q539 : (Jvm.Cond.sameMethod "LaneCymbals$One" "LaneCymbals$One" "leans" "(II)I") ∈ lw_all := lw_g (lw_at lw_m2 239 rfl) rfl
theorem q549 : (Jvm.Cond.code ({ cls := "LaneCymbals$One", name := "leans", desc := "(II)I" } : Jvm.MethodName) prog_12_method_3_code (3 : Nat) (Option.some Jvm.ClassFile.FieldType.int)) ∈ lw_all := lw_g (lw_at lw_m3 9 rfl) rfl
theorem q653 : (Jvm.Cond.instanceMethod ({ cls := "LaneCymbals$One", name := "kind", desc := "()I" } : Jvm.MethodName)) ∈ lw_all := lw_g (lw_at lw_m3 113 rfl) rfl
theorem q654 : (Jvm.Cond.selects "LaneCymbals$One" ({ cls := "LaneCymbals$One", name := "kind", desc := "()I" } : Jvm.MethodName) ({ cls := "LaneCymbals$One", name := "kind", desc := "()I" } : Jvm.MethodName)) ∈ lw_all := lw_g (lw_at lw_m3 114 rfl) rfl
theorem q655 : (Jvm.Cond.sameMethod "LaneCymbals$One" "LaneCymbals$One" "kind" "()I") ∈ lw_all := lw_g (lw_at lw_m3 115 rfl) rfl
theorem q671 : (Jvm.Cond.code ({ cls := "LaneCymbals$One", name := "kind", desc := "()I" } : Jvm.MethodName) prog_12_method_2_code (1 : Nat) (Option.some Jvm.ClassFile.FieldType.int)) ∈ lw_all := lw_g (lw_at lw_m3 131 rfl) rfl
theorem q1328 : (Jvm.Cond.initialized "LaneCymbals$One") ∈ lw_all := lw_g (lw_at lw_m6 68 rfl) rfl
/-! LaneCymbals$Brass -/
set_option maxRecDepth 100000
def RX8 : String := "LaneCymbals$Brass"
abbrev cX8_leans : ByteArray := prog_3_method_3_code
def yX8_leans : MethodName := ⟨RX8, "leans", "(II)I"⟩
def dkwX8_leans_0 : List UInt8 := [6, 42, 27, 28, 183, 0, 7, 104, 172]
abbrev dktX8_leans_0 : List UInt8 := dkwX8_leans_0 ++ []
theorem dksX8_leans_0 : cX8_leans.data.toList.drop 0 = dktX8_leans_0 := by decide +kernel
theorem dX8_leans_0 : decode cX8_leans 0 = .ok (.iconst 3, 1) := dk_6 (dk_at dksX8_leans_0 0 rfl rfl)
theorem dX8_leans_1 : decode cX8_leans 1 = .ok (.aload_n 0, 1) := dk_42 (dk_at dksX8_leans_0 1 rfl rfl)
theorem dX8_leans_2 : decode cX8_leans 2 = .ok (.iload_n 1, 1) := dk_27 (dk_at dksX8_leans_0 2 rfl rfl)
theorem dX8_leans_3 : decode cX8_leans 3 = .ok (.iload_n 2, 1) := dk_28 (dk_at dksX8_leans_0 3 rfl rfl)
theorem dX8_leans_4 : decode cX8_leans 4 = .ok (.invokespecial 7, 3) := dk_183 0 7 (dk_at dksX8_leans_0 4 rfl rfl)
theorem dX8_leans_7 : decode cX8_leans 7 = .ok (.imul, 1) := dk_104 (dk_at dksX8_leans_0 7 rfl rfl)
theorem dX8_leans_8 : decode cX8_leans 8 = .ok (.ireturn, 1) := dk_172 (dk_at dksX8_leans_0 8 rfl rfl)
abbrev cX8_kind : ByteArray := prog_3_method_2_code
def yX8_kind : MethodName := ⟨RX8, "kind", "()I"⟩
theorem dX8_kind_0 : decode cX8_kind 0 = .ok (.iconst 5, 1) := by decide +kernel
theorem dX8_kind_1 : decode cX8_kind 1 = .ok (.ireturn, 1) := by decide +kernel
theorem q540 : (Jvm.Cond.selects "LaneCymbals$Brass" ({ cls := "LaneCymbals$One", name := "leans", desc := "(II)I" } : Jvm.MethodName) ({ cls := "LaneCymbals$Brass", name := "leans", desc := "(II)I" } : Jvm.MethodName)) ∈ lw_all := lw_g (lw_at lw_m3 0 rfl) rfl
theorem q541 : (Jvm.Cond.instanceMethod ({ cls := "LaneCymbals$Brass", name := "leans", desc := "(II)I" } : Jvm.MethodName)) ∈ lw_all := lw_g (lw_at lw_m3 1 rfl) rfl
theorem q542 : (Jvm.Cond.code ({ cls := "LaneCymbals$Brass", name := "leans", desc := "(II)I" } : Jvm.MethodName) prog_3_method_3_code (3 : Nat) (Option.some Jvm.ClassFile.FieldType.int)) ∈ lw_all := lw_g (lw_at lw_m3 2 rfl) rfl
theorem q543 : (Jvm.Cond.methodLink "LaneCymbals$Brass" (7 : Nat) ({ cls := "LaneCymbals$Elder", name := "leans", desc := "(II)I" } : Jvm.MethodName)) ∈ lw_all := lw_g (lw_at lw_m3 3 rfl) rfl
theorem q544 : (Jvm.Cond.superclass "LaneCymbals$Brass" "LaneCymbals$Elder") ∈ lw_all := lw_g (lw_at lw_m3 4 rfl) rfl
theorem q656 : (Jvm.Cond.selects "LaneCymbals$Brass" ({ cls := "LaneCymbals$One", name := "kind", desc := "()I" } : Jvm.MethodName) ({ cls := "LaneCymbals$Brass", name := "kind", desc := "()I" } : Jvm.MethodName)) ∈ lw_all := lw_g (lw_at lw_m3 116 rfl) rfl
theorem q657 : (Jvm.Cond.instanceMethod ({ cls := "LaneCymbals$Brass", name := "kind", desc := "()I" } : Jvm.MethodName)) ∈ lw_all := lw_g (lw_at lw_m3 117 rfl) rfl
theorem q658 : (Jvm.Cond.code ({ cls := "LaneCymbals$Brass", name := "kind", desc := "()I" } : Jvm.MethodName) prog_3_method_2_code (1 : Nat) (Option.some Jvm.ClassFile.FieldType.int)) ∈ lw_all := lw_g (lw_at lw_m3 118 rfl) rfl
theorem q1326 : (Jvm.Cond.initialized "LaneCymbals$Brass") ∈ lw_all := lw_g (lw_at lw_m6 66 rfl) rfl
theorem q1342 : (Jvm.Cond.castable "LaneCymbals$Brass" "LaneCymbals$One") ∈ lw_tbl := lw_at lw_m6 82 rfl
/-! LaneCymbals$Elder -/
set_option maxRecDepth 100000
def RX9 : String := "LaneCymbals$Elder"
abbrev cX9_leans : ByteArray := prog_6_method_3_code
def yX9_leans : MethodName := ⟨RX9, "leans", "(II)I"⟩
def dkwX9_leans_0 : List UInt8 := [42, 27, 28, 183, 0, 7, 5, 108, 172]
abbrev dktX9_leans_0 : List UInt8 := dkwX9_leans_0 ++ []
theorem dksX9_leans_0 : cX9_leans.data.toList.drop 0 = dktX9_leans_0 := by decide +kernel
theorem dX9_leans_0 : decode cX9_leans 0 = .ok (.aload_n 0, 1) := dk_42 (dk_at dksX9_leans_0 0 rfl rfl)
theorem dX9_leans_1 : decode cX9_leans 1 = .ok (.iload_n 1, 1) := dk_27 (dk_at dksX9_leans_0 1 rfl rfl)
theorem dX9_leans_2 : decode cX9_leans 2 = .ok (.iload_n 2, 1) := dk_28 (dk_at dksX9_leans_0 2 rfl rfl)
theorem dX9_leans_3 : decode cX9_leans 3 = .ok (.invokespecial 7, 3) := dk_183 0 7 (dk_at dksX9_leans_0 3 rfl rfl)
theorem dX9_leans_6 : decode cX9_leans 6 = .ok (.iconst 2, 1) := dk_5 (dk_at dksX9_leans_0 6 rfl rfl)
theorem dX9_leans_7 : decode cX9_leans 7 = .ok (.idiv, 1) := dk_108 (dk_at dksX9_leans_0 7 rfl rfl)
theorem dX9_leans_8 : decode cX9_leans 8 = .ok (.ireturn, 1) := dk_172 (dk_at dksX9_leans_0 8 rfl rfl)
abbrev cX9_kind : ByteArray := prog_6_method_2_code
def yX9_kind : MethodName := ⟨RX9, "kind", "()I"⟩
theorem dX9_kind_0 : decode cX9_kind 0 = .ok (.iconst 2, 1) := by decide +kernel
theorem dX9_kind_1 : decode cX9_kind 1 = .ok (.ireturn, 1) := by decide +kernel
theorem q545 : (Jvm.Cond.instanceMethod ({ cls := "LaneCymbals$Elder", name := "leans", desc := "(II)I" } : Jvm.MethodName)) ∈ lw_all := lw_g (lw_at lw_m3 5 rfl) rfl
theorem q546 : (Jvm.Cond.code ({ cls := "LaneCymbals$Elder", name := "leans", desc := "(II)I" } : Jvm.MethodName) prog_6_method_3_code (3 : Nat) (Option.some Jvm.ClassFile.FieldType.int)) ∈ lw_all := lw_g (lw_at lw_m3 6 rfl) rfl
theorem q547 : (Jvm.Cond.methodLink "LaneCymbals$Elder" (7 : Nat) ({ cls := "LaneCymbals$One", name := "leans", desc := "(II)I" } : Jvm.MethodName)) ∈ lw_all := lw_g (lw_at lw_m3 7 rfl) rfl
theorem q548 : (Jvm.Cond.superclass "LaneCymbals$Elder" "LaneCymbals$One") ∈ lw_all := lw_g (lw_at lw_m3 8 rfl) rfl
theorem q555 : (Jvm.Cond.selects "LaneCymbals$Elder" ({ cls := "LaneCymbals$One", name := "leans", desc := "(II)I" } : Jvm.MethodName) ({ cls := "LaneCymbals$Elder", name := "leans", desc := "(II)I" } : Jvm.MethodName)) ∈ lw_all := lw_g (lw_at lw_m3 15 rfl) rfl
theorem q662 : (Jvm.Cond.selects "LaneCymbals$Elder" ({ cls := "LaneCymbals$One", name := "kind", desc := "()I" } : Jvm.MethodName) ({ cls := "LaneCymbals$Elder", name := "kind", desc := "()I" } : Jvm.MethodName)) ∈ lw_all := lw_g (lw_at lw_m3 122 rfl) rfl
theorem q663 : (Jvm.Cond.instanceMethod ({ cls := "LaneCymbals$Elder", name := "kind", desc := "()I" } : Jvm.MethodName)) ∈ lw_all := lw_g (lw_at lw_m3 123 rfl) rfl
theorem q664 : (Jvm.Cond.code ({ cls := "LaneCymbals$Elder", name := "kind", desc := "()I" } : Jvm.MethodName) prog_6_method_2_code (1 : Nat) (Option.some Jvm.ClassFile.FieldType.int)) ∈ lw_all := lw_g (lw_at lw_m3 124 rfl) rfl
theorem q1322 : (Jvm.Cond.sameMethod "LaneCymbals$Elder" "LaneCymbals$Elder" "leans" "(II)I") ∈ lw_all := lw_g (lw_at lw_m6 62 rfl) rfl
theorem q1327 : (Jvm.Cond.initialized "LaneCymbals$Elder") ∈ lw_all := lw_g (lw_at lw_m6 67 rfl) rfl
theorem q1339 : (Jvm.Cond.castable "LaneCymbals$Elder" "LaneCymbals$One") ∈ lw_tbl := lw_at lw_m6 79 rfl
/-! LaneCymbals$Choke -/
set_option maxRecDepth 100000
def RX10 : String := "LaneCymbals$Choke"
abbrev cX10_leans : ByteArray := prog_4_method_3_code
def yX10_leans : MethodName := ⟨RX10, "leans", "(II)I"⟩
def dkwX10_leans_0 : List UInt8 := [28, 6, 112, 154, 0, 7, 3, 167, 0, 9, 42, 27, 28, 183, 0, 7, 172]
abbrev dktX10_leans_0 : List UInt8 := dkwX10_leans_0 ++ []
theorem dksX10_leans_0 : cX10_leans.data.toList.drop 0 = dktX10_leans_0 := by decide +kernel
theorem dX10_leans_0 : decode cX10_leans 0 = .ok (.iload_n 2, 1) := dk_28 (dk_at dksX10_leans_0 0 rfl rfl)
theorem dX10_leans_1 : decode cX10_leans 1 = .ok (.iconst 3, 1) := dk_6 (dk_at dksX10_leans_0 1 rfl rfl)
theorem dX10_leans_2 : decode cX10_leans 2 = .ok (.irem, 1) := dk_112 (dk_at dksX10_leans_0 2 rfl rfl)
theorem dX10_leans_3 : decode cX10_leans 3 = .ok (.ifCond .ne 7, 3) := dk_154 0 7 (dk_at dksX10_leans_0 3 rfl rfl)
theorem dX10_leans_6 : decode cX10_leans 6 = .ok (.iconst 0, 1) := dk_3 (dk_at dksX10_leans_0 6 rfl rfl)
theorem dX10_leans_7 : decode cX10_leans 7 = .ok (.goto 9, 3) := dk_167 0 9 (dk_at dksX10_leans_0 7 rfl rfl)
theorem dX10_leans_10 : decode cX10_leans 10 = .ok (.aload_n 0, 1) := dk_42 (dk_at dksX10_leans_0 10 rfl rfl)
theorem dX10_leans_11 : decode cX10_leans 11 = .ok (.iload_n 1, 1) := dk_27 (dk_at dksX10_leans_0 11 rfl rfl)
theorem dX10_leans_12 : decode cX10_leans 12 = .ok (.iload_n 2, 1) := dk_28 (dk_at dksX10_leans_0 12 rfl rfl)
theorem dX10_leans_13 : decode cX10_leans 13 = .ok (.invokespecial 7, 3) := dk_183 0 7 (dk_at dksX10_leans_0 13 rfl rfl)
theorem dX10_leans_16 : decode cX10_leans 16 = .ok (.ireturn, 1) := dk_172 (dk_at dksX10_leans_0 16 rfl rfl)
abbrev cX10_kind : ByteArray := prog_4_method_2_code
def yX10_kind : MethodName := ⟨RX10, "kind", "()I"⟩
theorem dX10_kind_0 : decode cX10_kind 0 = .ok (.iconst 3, 1) := by decide +kernel
theorem dX10_kind_1 : decode cX10_kind 1 = .ok (.ireturn, 1) := by decide +kernel
theorem q550 : (Jvm.Cond.selects "LaneCymbals$Choke" ({ cls := "LaneCymbals$One", name := "leans", desc := "(II)I" } : Jvm.MethodName) ({ cls := "LaneCymbals$Choke", name := "leans", desc := "(II)I" } : Jvm.MethodName)) ∈ lw_all := lw_g (lw_at lw_m3 10 rfl) rfl
theorem q551 : (Jvm.Cond.instanceMethod ({ cls := "LaneCymbals$Choke", name := "leans", desc := "(II)I" } : Jvm.MethodName)) ∈ lw_all := lw_g (lw_at lw_m3 11 rfl) rfl
theorem q552 : (Jvm.Cond.code ({ cls := "LaneCymbals$Choke", name := "leans", desc := "(II)I" } : Jvm.MethodName) prog_4_method_3_code (3 : Nat) (Option.some Jvm.ClassFile.FieldType.int)) ∈ lw_all := lw_g (lw_at lw_m3 12 rfl) rfl
theorem q553 : (Jvm.Cond.methodLink "LaneCymbals$Choke" (7 : Nat) ({ cls := "LaneCymbals$One", name := "leans", desc := "(II)I" } : Jvm.MethodName)) ∈ lw_all := lw_g (lw_at lw_m3 13 rfl) rfl
theorem q554 : (Jvm.Cond.superclass "LaneCymbals$Choke" "LaneCymbals$One") ∈ lw_all := lw_g (lw_at lw_m3 14 rfl) rfl
theorem q659 : (Jvm.Cond.selects "LaneCymbals$Choke" ({ cls := "LaneCymbals$One", name := "kind", desc := "()I" } : Jvm.MethodName) ({ cls := "LaneCymbals$Choke", name := "kind", desc := "()I" } : Jvm.MethodName)) ∈ lw_all := lw_g (lw_at lw_m3 119 rfl) rfl
theorem q660 : (Jvm.Cond.instanceMethod ({ cls := "LaneCymbals$Choke", name := "kind", desc := "()I" } : Jvm.MethodName)) ∈ lw_all := lw_g (lw_at lw_m3 120 rfl) rfl
theorem q661 : (Jvm.Cond.code ({ cls := "LaneCymbals$Choke", name := "kind", desc := "()I" } : Jvm.MethodName) prog_4_method_2_code (1 : Nat) (Option.some Jvm.ClassFile.FieldType.int)) ∈ lw_all := lw_g (lw_at lw_m3 121 rfl) rfl
theorem q1329 : (Jvm.Cond.initialized "LaneCymbals$Choke") ∈ lw_all := lw_g (lw_at lw_m6 69 rfl) rfl
theorem q1340 : (Jvm.Cond.castable "LaneCymbals$Choke" "LaneCymbals$One") ∈ lw_tbl := lw_at lw_m6 80 rfl
/-! LaneCymbals$Girl -/
set_option maxRecDepth 100000
def RX11 : String := "LaneCymbals$Girl"
abbrev cX11_leans : ByteArray := prog_9_method_3_code
def yX11_leans : MethodName := ⟨RX11, "leans", "(II)I"⟩
def dkwX11_leans_0 : List UInt8 := [42, 27, 28, 183, 0, 7, 62, 29, 158, 0, 9, 29, 4, 96, 167, 0, 4, 29, 172]
abbrev dktX11_leans_0 : List UInt8 := dkwX11_leans_0 ++ []
theorem dksX11_leans_0 : cX11_leans.data.toList.drop 0 = dktX11_leans_0 := by decide +kernel
theorem dX11_leans_0 : decode cX11_leans 0 = .ok (.aload_n 0, 1) := dk_42 (dk_at dksX11_leans_0 0 rfl rfl)
theorem dX11_leans_1 : decode cX11_leans 1 = .ok (.iload_n 1, 1) := dk_27 (dk_at dksX11_leans_0 1 rfl rfl)
theorem dX11_leans_2 : decode cX11_leans 2 = .ok (.iload_n 2, 1) := dk_28 (dk_at dksX11_leans_0 2 rfl rfl)
theorem dX11_leans_3 : decode cX11_leans 3 = .ok (.invokespecial 7, 3) := dk_183 0 7 (dk_at dksX11_leans_0 3 rfl rfl)
theorem dX11_leans_6 : decode cX11_leans 6 = .ok (.istore_n 3, 1) := dk_62 (dk_at dksX11_leans_0 6 rfl rfl)
theorem dX11_leans_7 : decode cX11_leans 7 = .ok (.iload_n 3, 1) := dk_29 (dk_at dksX11_leans_0 7 rfl rfl)
theorem dX11_leans_8 : decode cX11_leans 8 = .ok (.ifCond .le 9, 3) := dk_158 0 9 (dk_at dksX11_leans_0 8 rfl rfl)
theorem dX11_leans_11 : decode cX11_leans 11 = .ok (.iload_n 3, 1) := dk_29 (dk_at dksX11_leans_0 11 rfl rfl)
theorem dX11_leans_12 : decode cX11_leans 12 = .ok (.iconst 1, 1) := dk_4 (dk_at dksX11_leans_0 12 rfl rfl)
theorem dX11_leans_13 : decode cX11_leans 13 = .ok (.iadd, 1) := dk_96 (dk_at dksX11_leans_0 13 rfl rfl)
theorem dX11_leans_14 : decode cX11_leans 14 = .ok (.goto 4, 3) := dk_167 0 4 (dk_at dksX11_leans_0 14 rfl rfl)
theorem dX11_leans_17 : decode cX11_leans 17 = .ok (.iload_n 3, 1) := dk_29 (dk_at dksX11_leans_0 17 rfl rfl)
theorem dX11_leans_18 : decode cX11_leans 18 = .ok (.ireturn, 1) := dk_172 (dk_at dksX11_leans_0 18 rfl rfl)
abbrev cX11_kind : ByteArray := prog_9_method_2_code
def yX11_kind : MethodName := ⟨RX11, "kind", "()I"⟩
theorem dX11_kind_0 : decode cX11_kind 0 = .ok (.iconst 1, 1) := by decide +kernel
theorem dX11_kind_1 : decode cX11_kind 1 = .ok (.ireturn, 1) := by decide +kernel
theorem q556 : (Jvm.Cond.selects "LaneCymbals$Girl" ({ cls := "LaneCymbals$One", name := "leans", desc := "(II)I" } : Jvm.MethodName) ({ cls := "LaneCymbals$Girl", name := "leans", desc := "(II)I" } : Jvm.MethodName)) ∈ lw_all := lw_g (lw_at lw_m3 16 rfl) rfl
theorem q557 : (Jvm.Cond.instanceMethod ({ cls := "LaneCymbals$Girl", name := "leans", desc := "(II)I" } : Jvm.MethodName)) ∈ lw_all := lw_g (lw_at lw_m3 17 rfl) rfl
theorem q558 : (Jvm.Cond.code ({ cls := "LaneCymbals$Girl", name := "leans", desc := "(II)I" } : Jvm.MethodName) prog_9_method_3_code (4 : Nat) (Option.some Jvm.ClassFile.FieldType.int)) ∈ lw_all := lw_g (lw_at lw_m3 18 rfl) rfl
theorem q559 : (Jvm.Cond.methodLink "LaneCymbals$Girl" (7 : Nat) ({ cls := "LaneCymbals$One", name := "leans", desc := "(II)I" } : Jvm.MethodName)) ∈ lw_all := lw_g (lw_at lw_m3 19 rfl) rfl
theorem q560 : (Jvm.Cond.superclass "LaneCymbals$Girl" "LaneCymbals$One") ∈ lw_all := lw_g (lw_at lw_m3 20 rfl) rfl
theorem q665 : (Jvm.Cond.selects "LaneCymbals$Girl" ({ cls := "LaneCymbals$One", name := "kind", desc := "()I" } : Jvm.MethodName) ({ cls := "LaneCymbals$Girl", name := "kind", desc := "()I" } : Jvm.MethodName)) ∈ lw_all := lw_g (lw_at lw_m3 125 rfl) rfl
theorem q666 : (Jvm.Cond.instanceMethod ({ cls := "LaneCymbals$Girl", name := "kind", desc := "()I" } : Jvm.MethodName)) ∈ lw_all := lw_g (lw_at lw_m3 126 rfl) rfl
theorem q667 : (Jvm.Cond.code ({ cls := "LaneCymbals$Girl", name := "kind", desc := "()I" } : Jvm.MethodName) prog_9_method_2_code (1 : Nat) (Option.some Jvm.ClassFile.FieldType.int)) ∈ lw_all := lw_g (lw_at lw_m3 127 rfl) rfl
theorem q1323 : (Jvm.Cond.sameMethod "LaneCymbals$Girl" "LaneCymbals$Girl" "leans" "(II)I") ∈ lw_all := lw_g (lw_at lw_m6 63 rfl) rfl
theorem q1330 : (Jvm.Cond.initialized "LaneCymbals$Girl") ∈ lw_all := lw_g (lw_at lw_m6 70 rfl) rfl
theorem q1338 : (Jvm.Cond.castable "LaneCymbals$Girl" "LaneCymbals$One") ∈ lw_tbl := lw_at lw_m6 78 rfl
/-! LaneCymbals$Waver -/
set_option maxRecDepth 100000
def RX12 : String := "LaneCymbals$Waver"
abbrev cX12_leans : ByteArray := prog_17_method_3_code
def yX12_leans : MethodName := ⟨RX12, "leans", "(II)I"⟩
def dkwX12_leans_0 : List UInt8 := [42, 27, 28, 4, 96, 183, 0, 7, 172]
abbrev dktX12_leans_0 : List UInt8 := dkwX12_leans_0 ++ []
theorem dksX12_leans_0 : cX12_leans.data.toList.drop 0 = dktX12_leans_0 := by decide +kernel
theorem dX12_leans_0 : decode cX12_leans 0 = .ok (.aload_n 0, 1) := dk_42 (dk_at dksX12_leans_0 0 rfl rfl)
theorem dX12_leans_1 : decode cX12_leans 1 = .ok (.iload_n 1, 1) := dk_27 (dk_at dksX12_leans_0 1 rfl rfl)
theorem dX12_leans_2 : decode cX12_leans 2 = .ok (.iload_n 2, 1) := dk_28 (dk_at dksX12_leans_0 2 rfl rfl)
theorem dX12_leans_3 : decode cX12_leans 3 = .ok (.iconst 1, 1) := dk_4 (dk_at dksX12_leans_0 3 rfl rfl)
theorem dX12_leans_4 : decode cX12_leans 4 = .ok (.iadd, 1) := dk_96 (dk_at dksX12_leans_0 4 rfl rfl)
theorem dX12_leans_5 : decode cX12_leans 5 = .ok (.invokespecial 7, 3) := dk_183 0 7 (dk_at dksX12_leans_0 5 rfl rfl)
theorem dX12_leans_8 : decode cX12_leans 8 = .ok (.ireturn, 1) := dk_172 (dk_at dksX12_leans_0 8 rfl rfl)
abbrev cX12_kind : ByteArray := prog_17_method_2_code
def yX12_kind : MethodName := ⟨RX12, "kind", "()I"⟩
theorem dX12_kind_0 : decode cX12_kind 0 = .ok (.iconst 4, 1) := by decide +kernel
theorem dX12_kind_1 : decode cX12_kind 1 = .ok (.ireturn, 1) := by decide +kernel
theorem q561 : (Jvm.Cond.selects "LaneCymbals$Waver" ({ cls := "LaneCymbals$One", name := "leans", desc := "(II)I" } : Jvm.MethodName) ({ cls := "LaneCymbals$Waver", name := "leans", desc := "(II)I" } : Jvm.MethodName)) ∈ lw_all := lw_g (lw_at lw_m3 21 rfl) rfl
theorem q562 : (Jvm.Cond.instanceMethod ({ cls := "LaneCymbals$Waver", name := "leans", desc := "(II)I" } : Jvm.MethodName)) ∈ lw_all := lw_g (lw_at lw_m3 22 rfl) rfl
theorem q563 : (Jvm.Cond.code ({ cls := "LaneCymbals$Waver", name := "leans", desc := "(II)I" } : Jvm.MethodName) prog_17_method_3_code (3 : Nat) (Option.some Jvm.ClassFile.FieldType.int)) ∈ lw_all := lw_g (lw_at lw_m3 23 rfl) rfl
theorem q564 : (Jvm.Cond.methodLink "LaneCymbals$Waver" (7 : Nat) ({ cls := "LaneCymbals$Girl", name := "leans", desc := "(II)I" } : Jvm.MethodName)) ∈ lw_all := lw_g (lw_at lw_m3 24 rfl) rfl
theorem q565 : (Jvm.Cond.superclass "LaneCymbals$Waver" "LaneCymbals$Girl") ∈ lw_all := lw_g (lw_at lw_m3 25 rfl) rfl
theorem q668 : (Jvm.Cond.selects "LaneCymbals$Waver" ({ cls := "LaneCymbals$One", name := "kind", desc := "()I" } : Jvm.MethodName) ({ cls := "LaneCymbals$Waver", name := "kind", desc := "()I" } : Jvm.MethodName)) ∈ lw_all := lw_g (lw_at lw_m3 128 rfl) rfl
theorem q669 : (Jvm.Cond.instanceMethod ({ cls := "LaneCymbals$Waver", name := "kind", desc := "()I" } : Jvm.MethodName)) ∈ lw_all := lw_g (lw_at lw_m3 129 rfl) rfl
theorem q670 : (Jvm.Cond.code ({ cls := "LaneCymbals$Waver", name := "kind", desc := "()I" } : Jvm.MethodName) prog_17_method_2_code (1 : Nat) (Option.some Jvm.ClassFile.FieldType.int)) ∈ lw_all := lw_g (lw_at lw_m3 130 rfl) rfl
theorem q1331 : (Jvm.Cond.initialized "LaneCymbals$Waver") ∈ lw_all := lw_g (lw_at lw_m6 71 rfl) rfl
theorem q1341 : (Jvm.Cond.castable "LaneCymbals$Waver" "LaneCymbals$One") ∈ lw_tbl := lw_at lw_m6 81 rfl
/-! LaneCymbals$Aunt -/
set_option maxRecDepth 100000
def RX13 : String := "LaneCymbals$Aunt"
abbrev cX13_damps : ByteArray := prog_2_method_3_code
def yX13_damps : MethodName := ⟨RX13, "damps", "(II)I"⟩
def dkwX13_damps_0 : List UInt8 := [27, 5, 164, 0, 9, 27, 5, 100, 167, 0, 8, 3, 27, 184, 0, 7, 172]
abbrev dktX13_damps_0 : List UInt8 := dkwX13_damps_0 ++ []
theorem dksX13_damps_0 : cX13_damps.data.toList.drop 0 = dktX13_damps_0 := by decide +kernel
theorem dX13_damps_0 : decode cX13_damps 0 = .ok (.iload_n 1, 1) := dk_27 (dk_at dksX13_damps_0 0 rfl rfl)
theorem dX13_damps_1 : decode cX13_damps 1 = .ok (.iconst 2, 1) := dk_5 (dk_at dksX13_damps_0 1 rfl rfl)
theorem dX13_damps_2 : decode cX13_damps 2 = .ok (.if_icmp .le 9, 3) := dk_164 0 9 (dk_at dksX13_damps_0 2 rfl rfl)
theorem dX13_damps_5 : decode cX13_damps 5 = .ok (.iload_n 1, 1) := dk_27 (dk_at dksX13_damps_0 5 rfl rfl)
theorem dX13_damps_6 : decode cX13_damps 6 = .ok (.iconst 2, 1) := dk_5 (dk_at dksX13_damps_0 6 rfl rfl)
theorem dX13_damps_7 : decode cX13_damps 7 = .ok (.isub, 1) := dk_100 (dk_at dksX13_damps_0 7 rfl rfl)
theorem dX13_damps_8 : decode cX13_damps 8 = .ok (.goto 8, 3) := dk_167 0 8 (dk_at dksX13_damps_0 8 rfl rfl)
theorem dX13_damps_11 : decode cX13_damps 11 = .ok (.iconst 0, 1) := dk_3 (dk_at dksX13_damps_0 11 rfl rfl)
theorem dX13_damps_12 : decode cX13_damps 12 = .ok (.iload_n 1, 1) := dk_27 (dk_at dksX13_damps_0 12 rfl rfl)
theorem dX13_damps_13 : decode cX13_damps 13 = .ok (.invokestatic 7, 3) := dk_184 0 7 (dk_at dksX13_damps_0 13 rfl rfl)
theorem dX13_damps_16 : decode cX13_damps 16 = .ok (.ireturn, 1) := dk_172 (dk_at dksX13_damps_0 16 rfl rfl)
abbrev cX13_kind : ByteArray := prog_2_method_2_code
def yX13_kind : MethodName := ⟨RX13, "kind", "()I"⟩
theorem dX13_kind_0 : decode cX13_kind 0 = .ok (.iconst 0, 1) := by decide +kernel
theorem dX13_kind_1 : decode cX13_kind 1 = .ok (.ireturn, 1) := by decide +kernel
theorem q567 : (Jvm.Cond.instanceMethod ({ cls := "LaneCymbals$Aunt", name := "damps", desc := "(II)I" } : Jvm.MethodName)) ∈ lw_all := lw_g (lw_at lw_m3 27 rfl) rfl
theorem q568 : (Jvm.Cond.selects "LaneCymbals$Aunt" ({ cls := "LaneCymbals$Aunt", name := "damps", desc := "(II)I" } : Jvm.MethodName) ({ cls := "LaneCymbals$Aunt", name := "damps", desc := "(II)I" } : Jvm.MethodName)) ∈ lw_all := lw_g (lw_at lw_m3 28 rfl) rfl
theorem q569 : (Jvm.Cond.sameMethod "LaneCymbals$Aunt" "LaneCymbals$Aunt" "damps" "(II)I") ∈ lw_all := lw_g (lw_at lw_m3 29 rfl) rfl
theorem q579 : (Jvm.Cond.code ({ cls := "LaneCymbals$Aunt", name := "damps", desc := "(II)I" } : Jvm.MethodName) prog_2_method_3_code (3 : Nat) (Option.some Jvm.ClassFile.FieldType.int)) ∈ lw_all := lw_g (lw_at lw_m3 39 rfl) rfl
theorem q580 : (Jvm.Cond.methodLink "LaneCymbals$Aunt" (7 : Nat) ({ cls := "java/lang/Math", name := "min", desc := "(II)I" } : Jvm.MethodName)) ∈ lw_all := lw_g (lw_at lw_m3 40 rfl) rfl
theorem q677 : (Jvm.Cond.instanceMethod ({ cls := "LaneCymbals$Aunt", name := "kind", desc := "()I" } : Jvm.MethodName)) ∈ lw_all := lw_g (lw_at lw_m3 137 rfl) rfl
theorem q678 : (Jvm.Cond.selects "LaneCymbals$Aunt" ({ cls := "LaneCymbals$Aunt", name := "kind", desc := "()I" } : Jvm.MethodName) ({ cls := "LaneCymbals$Aunt", name := "kind", desc := "()I" } : Jvm.MethodName)) ∈ lw_all := lw_g (lw_at lw_m3 138 rfl) rfl
theorem q679 : (Jvm.Cond.sameMethod "LaneCymbals$Aunt" "LaneCymbals$Aunt" "kind" "()I") ∈ lw_all := lw_g (lw_at lw_m3 139 rfl) rfl
theorem q695 : (Jvm.Cond.code ({ cls := "LaneCymbals$Aunt", name := "kind", desc := "()I" } : Jvm.MethodName) prog_2_method_2_code (1 : Nat) (Option.some Jvm.ClassFile.FieldType.int)) ∈ lw_all := lw_g (lw_at lw_m3 155 rfl) rfl
theorem q1334 : (Jvm.Cond.initialized "LaneCymbals$Aunt") ∈ lw_all := lw_g (lw_at lw_m6 74 rfl) rfl
/-! LaneCymbals$Deaf -/
set_option maxRecDepth 100000
def RX14 : String := "LaneCymbals$Deaf"
abbrev cX14_damps : ByteArray := prog_5_method_3_code
def yX14_damps : MethodName := ⟨RX14, "damps", "(II)I"⟩
def dkwX14_damps_0 : List UInt8 := [28, 8, 112, 7, 160, 0, 7, 27, 167, 0, 9, 42, 27, 28, 183, 0, 7, 172]
abbrev dktX14_damps_0 : List UInt8 := dkwX14_damps_0 ++ []
theorem dksX14_damps_0 : cX14_damps.data.toList.drop 0 = dktX14_damps_0 := by decide +kernel
theorem dX14_damps_0 : decode cX14_damps 0 = .ok (.iload_n 2, 1) := dk_28 (dk_at dksX14_damps_0 0 rfl rfl)
theorem dX14_damps_1 : decode cX14_damps 1 = .ok (.iconst 5, 1) := dk_8 (dk_at dksX14_damps_0 1 rfl rfl)
theorem dX14_damps_2 : decode cX14_damps 2 = .ok (.irem, 1) := dk_112 (dk_at dksX14_damps_0 2 rfl rfl)
theorem dX14_damps_3 : decode cX14_damps 3 = .ok (.iconst 4, 1) := dk_7 (dk_at dksX14_damps_0 3 rfl rfl)
theorem dX14_damps_4 : decode cX14_damps 4 = .ok (.if_icmp .ne 7, 3) := dk_160 0 7 (dk_at dksX14_damps_0 4 rfl rfl)
theorem dX14_damps_7 : decode cX14_damps 7 = .ok (.iload_n 1, 1) := dk_27 (dk_at dksX14_damps_0 7 rfl rfl)
theorem dX14_damps_8 : decode cX14_damps 8 = .ok (.goto 9, 3) := dk_167 0 9 (dk_at dksX14_damps_0 8 rfl rfl)
theorem dX14_damps_11 : decode cX14_damps 11 = .ok (.aload_n 0, 1) := dk_42 (dk_at dksX14_damps_0 11 rfl rfl)
theorem dX14_damps_12 : decode cX14_damps 12 = .ok (.iload_n 1, 1) := dk_27 (dk_at dksX14_damps_0 12 rfl rfl)
theorem dX14_damps_13 : decode cX14_damps 13 = .ok (.iload_n 2, 1) := dk_28 (dk_at dksX14_damps_0 13 rfl rfl)
theorem dX14_damps_14 : decode cX14_damps 14 = .ok (.invokespecial 7, 3) := dk_183 0 7 (dk_at dksX14_damps_0 14 rfl rfl)
theorem dX14_damps_17 : decode cX14_damps 17 = .ok (.ireturn, 1) := dk_172 (dk_at dksX14_damps_0 17 rfl rfl)
abbrev cX14_kind : ByteArray := prog_5_method_2_code
def yX14_kind : MethodName := ⟨RX14, "kind", "()I"⟩
theorem dX14_kind_0 : decode cX14_kind 0 = .ok (.iconst 4, 1) := by decide +kernel
theorem dX14_kind_1 : decode cX14_kind 1 = .ok (.ireturn, 1) := by decide +kernel
theorem q570 : (Jvm.Cond.selects "LaneCymbals$Deaf" ({ cls := "LaneCymbals$Aunt", name := "damps", desc := "(II)I" } : Jvm.MethodName) ({ cls := "LaneCymbals$Deaf", name := "damps", desc := "(II)I" } : Jvm.MethodName)) ∈ lw_all := lw_g (lw_at lw_m3 30 rfl) rfl
theorem q571 : (Jvm.Cond.instanceMethod ({ cls := "LaneCymbals$Deaf", name := "damps", desc := "(II)I" } : Jvm.MethodName)) ∈ lw_all := lw_g (lw_at lw_m3 31 rfl) rfl
theorem q572 : (Jvm.Cond.code ({ cls := "LaneCymbals$Deaf", name := "damps", desc := "(II)I" } : Jvm.MethodName) prog_5_method_3_code (3 : Nat) (Option.some Jvm.ClassFile.FieldType.int)) ∈ lw_all := lw_g (lw_at lw_m3 32 rfl) rfl
theorem q573 : (Jvm.Cond.methodLink "LaneCymbals$Deaf" (7 : Nat) ({ cls := "LaneCymbals$Soft", name := "damps", desc := "(II)I" } : Jvm.MethodName)) ∈ lw_all := lw_g (lw_at lw_m3 33 rfl) rfl
theorem q574 : (Jvm.Cond.superclass "LaneCymbals$Deaf" "LaneCymbals$Soft") ∈ lw_all := lw_g (lw_at lw_m3 34 rfl) rfl
theorem q680 : (Jvm.Cond.selects "LaneCymbals$Deaf" ({ cls := "LaneCymbals$Aunt", name := "kind", desc := "()I" } : Jvm.MethodName) ({ cls := "LaneCymbals$Deaf", name := "kind", desc := "()I" } : Jvm.MethodName)) ∈ lw_all := lw_g (lw_at lw_m3 140 rfl) rfl
theorem q681 : (Jvm.Cond.instanceMethod ({ cls := "LaneCymbals$Deaf", name := "kind", desc := "()I" } : Jvm.MethodName)) ∈ lw_all := lw_g (lw_at lw_m3 141 rfl) rfl
theorem q682 : (Jvm.Cond.code ({ cls := "LaneCymbals$Deaf", name := "kind", desc := "()I" } : Jvm.MethodName) prog_5_method_2_code (1 : Nat) (Option.some Jvm.ClassFile.FieldType.int)) ∈ lw_all := lw_g (lw_at lw_m3 142 rfl) rfl
theorem q1332 : (Jvm.Cond.initialized "LaneCymbals$Deaf") ∈ lw_all := lw_g (lw_at lw_m6 72 rfl) rfl
theorem q1346 : (Jvm.Cond.castable "LaneCymbals$Deaf" "LaneCymbals$Aunt") ∈ lw_tbl := lw_at lw_m6 86 rfl
/-! LaneCymbals$Soft -/
set_option maxRecDepth 100000
def RX15 : String := "LaneCymbals$Soft"
abbrev cX15_damps : ByteArray := prog_14_method_3_code
def yX15_damps : MethodName := ⟨RX15, "damps", "(II)I"⟩
def dkwX15_damps_0 : List UInt8 := [28, 5, 112, 154, 0, 12, 42, 27, 28, 183, 0, 7, 167, 0, 4, 27, 172]
abbrev dktX15_damps_0 : List UInt8 := dkwX15_damps_0 ++ []
theorem dksX15_damps_0 : cX15_damps.data.toList.drop 0 = dktX15_damps_0 := by decide +kernel
theorem dX15_damps_0 : decode cX15_damps 0 = .ok (.iload_n 2, 1) := dk_28 (dk_at dksX15_damps_0 0 rfl rfl)
theorem dX15_damps_1 : decode cX15_damps 1 = .ok (.iconst 2, 1) := dk_5 (dk_at dksX15_damps_0 1 rfl rfl)
theorem dX15_damps_2 : decode cX15_damps 2 = .ok (.irem, 1) := dk_112 (dk_at dksX15_damps_0 2 rfl rfl)
theorem dX15_damps_3 : decode cX15_damps 3 = .ok (.ifCond .ne 12, 3) := dk_154 0 12 (dk_at dksX15_damps_0 3 rfl rfl)
theorem dX15_damps_6 : decode cX15_damps 6 = .ok (.aload_n 0, 1) := dk_42 (dk_at dksX15_damps_0 6 rfl rfl)
theorem dX15_damps_7 : decode cX15_damps 7 = .ok (.iload_n 1, 1) := dk_27 (dk_at dksX15_damps_0 7 rfl rfl)
theorem dX15_damps_8 : decode cX15_damps 8 = .ok (.iload_n 2, 1) := dk_28 (dk_at dksX15_damps_0 8 rfl rfl)
theorem dX15_damps_9 : decode cX15_damps 9 = .ok (.invokespecial 7, 3) := dk_183 0 7 (dk_at dksX15_damps_0 9 rfl rfl)
theorem dX15_damps_12 : decode cX15_damps 12 = .ok (.goto 4, 3) := dk_167 0 4 (dk_at dksX15_damps_0 12 rfl rfl)
theorem dX15_damps_15 : decode cX15_damps 15 = .ok (.iload_n 1, 1) := dk_27 (dk_at dksX15_damps_0 15 rfl rfl)
theorem dX15_damps_16 : decode cX15_damps 16 = .ok (.ireturn, 1) := dk_172 (dk_at dksX15_damps_0 16 rfl rfl)
abbrev cX15_kind : ByteArray := prog_14_method_2_code
def yX15_kind : MethodName := ⟨RX15, "kind", "()I"⟩
theorem dX15_kind_0 : decode cX15_kind 0 = .ok (.iconst 3, 1) := by decide +kernel
theorem dX15_kind_1 : decode cX15_kind 1 = .ok (.ireturn, 1) := by decide +kernel
theorem q575 : (Jvm.Cond.instanceMethod ({ cls := "LaneCymbals$Soft", name := "damps", desc := "(II)I" } : Jvm.MethodName)) ∈ lw_all := lw_g (lw_at lw_m3 35 rfl) rfl
theorem q576 : (Jvm.Cond.code ({ cls := "LaneCymbals$Soft", name := "damps", desc := "(II)I" } : Jvm.MethodName) prog_14_method_3_code (3 : Nat) (Option.some Jvm.ClassFile.FieldType.int)) ∈ lw_all := lw_g (lw_at lw_m3 36 rfl) rfl
theorem q577 : (Jvm.Cond.methodLink "LaneCymbals$Soft" (7 : Nat) ({ cls := "LaneCymbals$Aunt", name := "damps", desc := "(II)I" } : Jvm.MethodName)) ∈ lw_all := lw_g (lw_at lw_m3 37 rfl) rfl
theorem q578 : (Jvm.Cond.superclass "LaneCymbals$Soft" "LaneCymbals$Aunt") ∈ lw_all := lw_g (lw_at lw_m3 38 rfl) rfl
theorem q597 : (Jvm.Cond.selects "LaneCymbals$Soft" ({ cls := "LaneCymbals$Aunt", name := "damps", desc := "(II)I" } : Jvm.MethodName) ({ cls := "LaneCymbals$Soft", name := "damps", desc := "(II)I" } : Jvm.MethodName)) ∈ lw_all := lw_g (lw_at lw_m3 57 rfl) rfl
theorem q689 : (Jvm.Cond.selects "LaneCymbals$Soft" ({ cls := "LaneCymbals$Aunt", name := "kind", desc := "()I" } : Jvm.MethodName) ({ cls := "LaneCymbals$Soft", name := "kind", desc := "()I" } : Jvm.MethodName)) ∈ lw_all := lw_g (lw_at lw_m3 149 rfl) rfl
theorem q690 : (Jvm.Cond.instanceMethod ({ cls := "LaneCymbals$Soft", name := "kind", desc := "()I" } : Jvm.MethodName)) ∈ lw_all := lw_g (lw_at lw_m3 150 rfl) rfl
theorem q691 : (Jvm.Cond.code ({ cls := "LaneCymbals$Soft", name := "kind", desc := "()I" } : Jvm.MethodName) prog_14_method_2_code (1 : Nat) (Option.some Jvm.ClassFile.FieldType.int)) ∈ lw_all := lw_g (lw_at lw_m3 151 rfl) rfl
theorem q1324 : (Jvm.Cond.sameMethod "LaneCymbals$Soft" "LaneCymbals$Soft" "damps" "(II)I") ∈ lw_all := lw_g (lw_at lw_m6 64 rfl) rfl
theorem q1333 : (Jvm.Cond.initialized "LaneCymbals$Soft") ∈ lw_all := lw_g (lw_at lw_m6 73 rfl) rfl
theorem q1345 : (Jvm.Cond.castable "LaneCymbals$Soft" "LaneCymbals$Aunt") ∈ lw_tbl := lw_at lw_m6 85 rfl
/-! LaneCymbals$Feather -/
set_option maxRecDepth 100000
def RX16 : String := "LaneCymbals$Feather"
abbrev cX16_damps : ByteArray := prog_8_method_3_code
def yX16_damps : MethodName := ⟨RX16, "damps", "(II)I"⟩
def dkwX16_damps_0 : List UInt8 := [27, 16, 8, 164, 0, 9, 27, 5, 108, 167, 0, 9, 42, 27, 28, 183, 0, 7, 172]
abbrev dktX16_damps_0 : List UInt8 := dkwX16_damps_0 ++ []
theorem dksX16_damps_0 : cX16_damps.data.toList.drop 0 = dktX16_damps_0 := by decide +kernel
theorem dX16_damps_0 : decode cX16_damps 0 = .ok (.iload_n 1, 1) := dk_27 (dk_at dksX16_damps_0 0 rfl rfl)
theorem dX16_damps_1 : decode cX16_damps 1 = .ok (.bipush 8, 2) := dk_16 8 (dk_at dksX16_damps_0 1 rfl rfl)
theorem dX16_damps_3 : decode cX16_damps 3 = .ok (.if_icmp .le 9, 3) := dk_164 0 9 (dk_at dksX16_damps_0 3 rfl rfl)
theorem dX16_damps_6 : decode cX16_damps 6 = .ok (.iload_n 1, 1) := dk_27 (dk_at dksX16_damps_0 6 rfl rfl)
theorem dX16_damps_7 : decode cX16_damps 7 = .ok (.iconst 2, 1) := dk_5 (dk_at dksX16_damps_0 7 rfl rfl)
theorem dX16_damps_8 : decode cX16_damps 8 = .ok (.idiv, 1) := dk_108 (dk_at dksX16_damps_0 8 rfl rfl)
theorem dX16_damps_9 : decode cX16_damps 9 = .ok (.goto 9, 3) := dk_167 0 9 (dk_at dksX16_damps_0 9 rfl rfl)
theorem dX16_damps_12 : decode cX16_damps 12 = .ok (.aload_n 0, 1) := dk_42 (dk_at dksX16_damps_0 12 rfl rfl)
theorem dX16_damps_13 : decode cX16_damps 13 = .ok (.iload_n 1, 1) := dk_27 (dk_at dksX16_damps_0 13 rfl rfl)
theorem dX16_damps_14 : decode cX16_damps 14 = .ok (.iload_n 2, 1) := dk_28 (dk_at dksX16_damps_0 14 rfl rfl)
theorem dX16_damps_15 : decode cX16_damps 15 = .ok (.invokespecial 7, 3) := dk_183 0 7 (dk_at dksX16_damps_0 15 rfl rfl)
theorem dX16_damps_18 : decode cX16_damps 18 = .ok (.ireturn, 1) := dk_172 (dk_at dksX16_damps_0 18 rfl rfl)
abbrev cX16_kind : ByteArray := prog_8_method_2_code
def yX16_kind : MethodName := ⟨RX16, "kind", "()I"⟩
theorem dX16_kind_0 : decode cX16_kind 0 = .ok (.iconst 1, 1) := by decide +kernel
theorem dX16_kind_1 : decode cX16_kind 1 = .ok (.ireturn, 1) := by decide +kernel
theorem q583 : (Jvm.Cond.selects "LaneCymbals$Feather" ({ cls := "LaneCymbals$Aunt", name := "damps", desc := "(II)I" } : Jvm.MethodName) ({ cls := "LaneCymbals$Feather", name := "damps", desc := "(II)I" } : Jvm.MethodName)) ∈ lw_all := lw_g (lw_at lw_m3 43 rfl) rfl
theorem q584 : (Jvm.Cond.instanceMethod ({ cls := "LaneCymbals$Feather", name := "damps", desc := "(II)I" } : Jvm.MethodName)) ∈ lw_all := lw_g (lw_at lw_m3 44 rfl) rfl
theorem q585 : (Jvm.Cond.code ({ cls := "LaneCymbals$Feather", name := "damps", desc := "(II)I" } : Jvm.MethodName) prog_8_method_3_code (3 : Nat) (Option.some Jvm.ClassFile.FieldType.int)) ∈ lw_all := lw_g (lw_at lw_m3 45 rfl) rfl
theorem q586 : (Jvm.Cond.methodLink "LaneCymbals$Feather" (7 : Nat) ({ cls := "LaneCymbals$Aunt", name := "damps", desc := "(II)I" } : Jvm.MethodName)) ∈ lw_all := lw_g (lw_at lw_m3 46 rfl) rfl
theorem q587 : (Jvm.Cond.superclass "LaneCymbals$Feather" "LaneCymbals$Aunt") ∈ lw_all := lw_g (lw_at lw_m3 47 rfl) rfl
theorem q683 : (Jvm.Cond.selects "LaneCymbals$Feather" ({ cls := "LaneCymbals$Aunt", name := "kind", desc := "()I" } : Jvm.MethodName) ({ cls := "LaneCymbals$Feather", name := "kind", desc := "()I" } : Jvm.MethodName)) ∈ lw_all := lw_g (lw_at lw_m3 143 rfl) rfl
theorem q684 : (Jvm.Cond.instanceMethod ({ cls := "LaneCymbals$Feather", name := "kind", desc := "()I" } : Jvm.MethodName)) ∈ lw_all := lw_g (lw_at lw_m3 144 rfl) rfl
theorem q685 : (Jvm.Cond.code ({ cls := "LaneCymbals$Feather", name := "kind", desc := "()I" } : Jvm.MethodName) prog_8_method_2_code (1 : Nat) (Option.some Jvm.ClassFile.FieldType.int)) ∈ lw_all := lw_g (lw_at lw_m3 145 rfl) rfl
theorem q1335 : (Jvm.Cond.initialized "LaneCymbals$Feather") ∈ lw_all := lw_g (lw_at lw_m6 75 rfl) rfl
theorem q1343 : (Jvm.Cond.castable "LaneCymbals$Feather" "LaneCymbals$Aunt") ∈ lw_tbl := lw_at lw_m6 83 rfl
/-! LaneCymbals$Great -/
set_option maxRecDepth 100000
def RX17 : String := "LaneCymbals$Great"
abbrev cX17_damps : ByteArray := prog_10_method_3_code
def yX17_damps : MethodName := ⟨RX17, "damps", "(II)I"⟩
def dkwX17_damps_0 : List UInt8 := [28, 7, 112, 154, 0, 7, 3, 167, 0, 9, 42, 27, 28, 183, 0, 7, 172]
abbrev dktX17_damps_0 : List UInt8 := dkwX17_damps_0 ++ []
theorem dksX17_damps_0 : cX17_damps.data.toList.drop 0 = dktX17_damps_0 := by decide +kernel
theorem dX17_damps_0 : decode cX17_damps 0 = .ok (.iload_n 2, 1) := dk_28 (dk_at dksX17_damps_0 0 rfl rfl)
theorem dX17_damps_1 : decode cX17_damps 1 = .ok (.iconst 4, 1) := dk_7 (dk_at dksX17_damps_0 1 rfl rfl)
theorem dX17_damps_2 : decode cX17_damps 2 = .ok (.irem, 1) := dk_112 (dk_at dksX17_damps_0 2 rfl rfl)
theorem dX17_damps_3 : decode cX17_damps 3 = .ok (.ifCond .ne 7, 3) := dk_154 0 7 (dk_at dksX17_damps_0 3 rfl rfl)
theorem dX17_damps_6 : decode cX17_damps 6 = .ok (.iconst 0, 1) := dk_3 (dk_at dksX17_damps_0 6 rfl rfl)
theorem dX17_damps_7 : decode cX17_damps 7 = .ok (.goto 9, 3) := dk_167 0 9 (dk_at dksX17_damps_0 7 rfl rfl)
theorem dX17_damps_10 : decode cX17_damps 10 = .ok (.aload_n 0, 1) := dk_42 (dk_at dksX17_damps_0 10 rfl rfl)
theorem dX17_damps_11 : decode cX17_damps 11 = .ok (.iload_n 1, 1) := dk_27 (dk_at dksX17_damps_0 11 rfl rfl)
theorem dX17_damps_12 : decode cX17_damps 12 = .ok (.iload_n 2, 1) := dk_28 (dk_at dksX17_damps_0 12 rfl rfl)
theorem dX17_damps_13 : decode cX17_damps 13 = .ok (.invokespecial 7, 3) := dk_183 0 7 (dk_at dksX17_damps_0 13 rfl rfl)
theorem dX17_damps_16 : decode cX17_damps 16 = .ok (.ireturn, 1) := dk_172 (dk_at dksX17_damps_0 16 rfl rfl)
abbrev cX17_kind : ByteArray := prog_10_method_2_code
def yX17_kind : MethodName := ⟨RX17, "kind", "()I"⟩
theorem dX17_kind_0 : decode cX17_kind 0 = .ok (.iconst 5, 1) := by decide +kernel
theorem dX17_kind_1 : decode cX17_kind 1 = .ok (.ireturn, 1) := by decide +kernel
theorem q588 : (Jvm.Cond.selects "LaneCymbals$Great" ({ cls := "LaneCymbals$Aunt", name := "damps", desc := "(II)I" } : Jvm.MethodName) ({ cls := "LaneCymbals$Great", name := "damps", desc := "(II)I" } : Jvm.MethodName)) ∈ lw_all := lw_g (lw_at lw_m3 48 rfl) rfl
theorem q589 : (Jvm.Cond.instanceMethod ({ cls := "LaneCymbals$Great", name := "damps", desc := "(II)I" } : Jvm.MethodName)) ∈ lw_all := lw_g (lw_at lw_m3 49 rfl) rfl
theorem q590 : (Jvm.Cond.code ({ cls := "LaneCymbals$Great", name := "damps", desc := "(II)I" } : Jvm.MethodName) prog_10_method_3_code (3 : Nat) (Option.some Jvm.ClassFile.FieldType.int)) ∈ lw_all := lw_g (lw_at lw_m3 50 rfl) rfl
theorem q591 : (Jvm.Cond.methodLink "LaneCymbals$Great" (7 : Nat) ({ cls := "LaneCymbals$Strict", name := "damps", desc := "(II)I" } : Jvm.MethodName)) ∈ lw_all := lw_g (lw_at lw_m3 51 rfl) rfl
theorem q592 : (Jvm.Cond.superclass "LaneCymbals$Great" "LaneCymbals$Strict") ∈ lw_all := lw_g (lw_at lw_m3 52 rfl) rfl
theorem q686 : (Jvm.Cond.selects "LaneCymbals$Great" ({ cls := "LaneCymbals$Aunt", name := "kind", desc := "()I" } : Jvm.MethodName) ({ cls := "LaneCymbals$Great", name := "kind", desc := "()I" } : Jvm.MethodName)) ∈ lw_all := lw_g (lw_at lw_m3 146 rfl) rfl
theorem q687 : (Jvm.Cond.instanceMethod ({ cls := "LaneCymbals$Great", name := "kind", desc := "()I" } : Jvm.MethodName)) ∈ lw_all := lw_g (lw_at lw_m3 147 rfl) rfl
theorem q688 : (Jvm.Cond.code ({ cls := "LaneCymbals$Great", name := "kind", desc := "()I" } : Jvm.MethodName) prog_10_method_2_code (1 : Nat) (Option.some Jvm.ClassFile.FieldType.int)) ∈ lw_all := lw_g (lw_at lw_m3 148 rfl) rfl
theorem q1336 : (Jvm.Cond.initialized "LaneCymbals$Great") ∈ lw_all := lw_g (lw_at lw_m6 76 rfl) rfl
theorem q1347 : (Jvm.Cond.castable "LaneCymbals$Great" "LaneCymbals$Aunt") ∈ lw_tbl := lw_at lw_m6 87 rfl
/-! LaneCymbals$Strict -/
set_option maxRecDepth 100000
def RX18 : String := "LaneCymbals$Strict"
abbrev cX18_damps : ByteArray := prog_16_method_3_code
def yX18_damps : MethodName := ⟨RX18, "damps", "(II)I"⟩
def dkwX18_damps_0 : List UInt8 := [42, 42, 27, 28, 183, 0, 7, 28, 183, 0, 7, 172]
abbrev dktX18_damps_0 : List UInt8 := dkwX18_damps_0 ++ []
theorem dksX18_damps_0 : cX18_damps.data.toList.drop 0 = dktX18_damps_0 := by decide +kernel
theorem dX18_damps_0 : decode cX18_damps 0 = .ok (.aload_n 0, 1) := dk_42 (dk_at dksX18_damps_0 0 rfl rfl)
theorem dX18_damps_1 : decode cX18_damps 1 = .ok (.aload_n 0, 1) := dk_42 (dk_at dksX18_damps_0 1 rfl rfl)
theorem dX18_damps_2 : decode cX18_damps 2 = .ok (.iload_n 1, 1) := dk_27 (dk_at dksX18_damps_0 2 rfl rfl)
theorem dX18_damps_3 : decode cX18_damps 3 = .ok (.iload_n 2, 1) := dk_28 (dk_at dksX18_damps_0 3 rfl rfl)
theorem dX18_damps_4 : decode cX18_damps 4 = .ok (.invokespecial 7, 3) := dk_183 0 7 (dk_at dksX18_damps_0 4 rfl rfl)
theorem dX18_damps_7 : decode cX18_damps 7 = .ok (.iload_n 2, 1) := dk_28 (dk_at dksX18_damps_0 7 rfl rfl)
theorem dX18_damps_8 : decode cX18_damps 8 = .ok (.invokespecial 7, 3) := dk_183 0 7 (dk_at dksX18_damps_0 8 rfl rfl)
theorem dX18_damps_11 : decode cX18_damps 11 = .ok (.ireturn, 1) := dk_172 (dk_at dksX18_damps_0 11 rfl rfl)
abbrev cX18_kind : ByteArray := prog_16_method_2_code
def yX18_kind : MethodName := ⟨RX18, "kind", "()I"⟩
theorem dX18_kind_0 : decode cX18_kind 0 = .ok (.iconst 2, 1) := by decide +kernel
theorem dX18_kind_1 : decode cX18_kind 1 = .ok (.ireturn, 1) := by decide +kernel
theorem q593 : (Jvm.Cond.instanceMethod ({ cls := "LaneCymbals$Strict", name := "damps", desc := "(II)I" } : Jvm.MethodName)) ∈ lw_all := lw_g (lw_at lw_m3 53 rfl) rfl
theorem q594 : (Jvm.Cond.code ({ cls := "LaneCymbals$Strict", name := "damps", desc := "(II)I" } : Jvm.MethodName) prog_16_method_3_code (3 : Nat) (Option.some Jvm.ClassFile.FieldType.int)) ∈ lw_all := lw_g (lw_at lw_m3 54 rfl) rfl
theorem q595 : (Jvm.Cond.methodLink "LaneCymbals$Strict" (7 : Nat) ({ cls := "LaneCymbals$Aunt", name := "damps", desc := "(II)I" } : Jvm.MethodName)) ∈ lw_all := lw_g (lw_at lw_m3 55 rfl) rfl
theorem q596 : (Jvm.Cond.superclass "LaneCymbals$Strict" "LaneCymbals$Aunt") ∈ lw_all := lw_g (lw_at lw_m3 56 rfl) rfl
theorem q598 : (Jvm.Cond.selects "LaneCymbals$Strict" ({ cls := "LaneCymbals$Aunt", name := "damps", desc := "(II)I" } : Jvm.MethodName) ({ cls := "LaneCymbals$Strict", name := "damps", desc := "(II)I" } : Jvm.MethodName)) ∈ lw_all := lw_g (lw_at lw_m3 58 rfl) rfl
theorem q692 : (Jvm.Cond.selects "LaneCymbals$Strict" ({ cls := "LaneCymbals$Aunt", name := "kind", desc := "()I" } : Jvm.MethodName) ({ cls := "LaneCymbals$Strict", name := "kind", desc := "()I" } : Jvm.MethodName)) ∈ lw_all := lw_g (lw_at lw_m3 152 rfl) rfl
theorem q693 : (Jvm.Cond.instanceMethod ({ cls := "LaneCymbals$Strict", name := "kind", desc := "()I" } : Jvm.MethodName)) ∈ lw_all := lw_g (lw_at lw_m3 153 rfl) rfl
theorem q694 : (Jvm.Cond.code ({ cls := "LaneCymbals$Strict", name := "kind", desc := "()I" } : Jvm.MethodName) prog_16_method_2_code (1 : Nat) (Option.some Jvm.ClassFile.FieldType.int)) ∈ lw_all := lw_g (lw_at lw_m3 154 rfl) rfl
theorem q1325 : (Jvm.Cond.sameMethod "LaneCymbals$Strict" "LaneCymbals$Strict" "damps" "(II)I") ∈ lw_all := lw_g (lw_at lw_m6 65 rfl) rfl
theorem q1337 : (Jvm.Cond.initialized "LaneCymbals$Strict") ∈ lw_all := lw_g (lw_at lw_m6 77 rfl) rfl
theorem q1344 : (Jvm.Cond.castable "LaneCymbals$Strict" "LaneCymbals$Aunt") ∈ lw_tbl := lw_at lw_m6 84 rfl
/-! java/lang/Throwable -/
set_option maxRecDepth 100000
def RJ0 : String := "java/lang/Throwable"
def TJ0 : u_T := fun k => match k with
  | 0 => ("java/lang/Throwable", "cause", "Ljava/lang/Throwable;", false)
  | 1 => ("java/lang/Throwable", "stackTrace", "[Ljava/lang/StackTraceElement;", false)
  | 2 => ("java/lang/Throwable", "suppressedExceptions", "Ljava/util/List;", false)
  | 3 => ("java/lang/Throwable", "detailMessage", "Ljava/lang/String;", false)
  | _ => ("java/lang/Throwable", "backtrace", "Ljava/lang/Object;", false)
def tyJ0 : Nat → FieldType := fun k => match k with
  | 0 => .object "java/lang/Throwable"
  | 1 => .array (.object "java/lang/StackTraceElement")
  | 2 => .object "java/util/List"
  | 3 => .object "java/lang/String"
  | _ => .object "java/lang/Object"
abbrev wsJ00 : List Cond := u_ws RJ0 TJ0 5
theorem nmJ0 : ∀ a, a < 5 → ∀ b, b < 5 → a ≠ b → (TJ0 a).2.1 ≠ (TJ0 b).2.1 := by decide +kernel
theorem tyJ0_ok : ∀ k, k < 5 → parseFieldDescriptor (TJ0 k).2.2.1 = some (tyJ0 k) := by decide +kernel
abbrev cJ0_init : ByteArray := prog_28_method_1_code
def yJ0_init : MethodName := ⟨RJ0, "<init>", "()V"⟩
def dkwJ0_init_1 : List UInt8 := [182, 0, 27, 87, 177]
abbrev dktJ0_init_1 : List UInt8 := dkwJ0_init_1 ++ []
def dkwJ0_init_0 : List UInt8 := [42, 183, 0, 1, 42, 42, 181, 0, 7, 42, 178, 0, 13, 181, 0, 17, 42, 178, 0, 20, 181, 0, 24, 42]
abbrev dktJ0_init_0 : List UInt8 := dkwJ0_init_0 ++ dktJ0_init_1
theorem dksJ0_init_0 : cJ0_init.data.toList.drop 0 = dktJ0_init_0 := by decide +kernel
theorem dksJ0_init_1 : cJ0_init.data.toList.drop 24 = dktJ0_init_1 := dk_seg dksJ0_init_0 24 rfl rfl
theorem dJ0_init_0 : decode cJ0_init 0 = .ok (.aload_n 0, 1) := dk_42 (dk_at dksJ0_init_0 0 rfl rfl)
theorem dJ0_init_1 : decode cJ0_init 1 = .ok (.invokespecial 1, 3) := dk_183 0 1 (dk_at dksJ0_init_0 1 rfl rfl)
theorem dJ0_init_4 : decode cJ0_init 4 = .ok (.aload_n 0, 1) := dk_42 (dk_at dksJ0_init_0 4 rfl rfl)
theorem dJ0_init_5 : decode cJ0_init 5 = .ok (.aload_n 0, 1) := dk_42 (dk_at dksJ0_init_0 5 rfl rfl)
theorem dJ0_init_6 : decode cJ0_init 6 = .ok (.putfield 7, 3) := dk_181 0 7 (dk_at dksJ0_init_0 6 rfl rfl)
theorem dJ0_init_9 : decode cJ0_init 9 = .ok (.aload_n 0, 1) := dk_42 (dk_at dksJ0_init_0 9 rfl rfl)
theorem dJ0_init_10 : decode cJ0_init 10 = .ok (.getstatic 13, 3) := dk_178 0 13 (dk_at dksJ0_init_0 10 rfl rfl)
theorem dJ0_init_13 : decode cJ0_init 13 = .ok (.putfield 17, 3) := dk_181 0 17 (dk_at dksJ0_init_0 13 rfl rfl)
theorem dJ0_init_16 : decode cJ0_init 16 = .ok (.aload_n 0, 1) := dk_42 (dk_at dksJ0_init_0 16 rfl rfl)
theorem dJ0_init_17 : decode cJ0_init 17 = .ok (.getstatic 20, 3) := dk_178 0 20 (dk_at dksJ0_init_0 17 rfl rfl)
theorem dJ0_init_20 : decode cJ0_init 20 = .ok (.putfield 24, 3) := dk_181 0 24 (dk_at dksJ0_init_0 20 rfl rfl)
theorem dJ0_init_23 : decode cJ0_init 23 = .ok (.aload_n 0, 1) := dk_42 (dk_at dksJ0_init_0 23 rfl rfl)
theorem dJ0_init_24 : decode cJ0_init 24 = .ok (.invokevirtual 27, 3) := dk_182 0 27 (dk_at dksJ0_init_1 0 rfl rfl)
theorem dJ0_init_27 : decode cJ0_init 27 = .ok (.pop, 1) := dk_87 (dk_at dksJ0_init_1 3 rfl rfl)
theorem dJ0_init_28 : decode cJ0_init 28 = .ok (.return_, 1) := dk_177 (dk_at dksJ0_init_1 4 rfl rfl)
abbrev cJ0_init_2 : ByteArray := prog_28_method_5_code
def yJ0_init_2 : MethodName := ⟨RJ0, "<init>", "(Ljava/lang/String;Ljava/lang/Throwable;ZZ)V"⟩
def dkwJ0_init_2_2 : List UInt8 := [44, 181, 0, 7, 29, 154, 0, 8, 42, 1, 181, 0, 24, 177]
abbrev dktJ0_init_2_2 : List UInt8 := dkwJ0_init_2_2 ++ []
def dkwJ0_init_2_1 : List UInt8 := [21, 4, 153, 0, 11, 42, 182, 0, 27, 87, 167, 0, 8, 42, 1, 181, 0, 17, 42, 43, 181, 0, 31, 42]
abbrev dktJ0_init_2_1 : List UInt8 := dkwJ0_init_2_1 ++ dktJ0_init_2_2
def dkwJ0_init_2_0 : List UInt8 := [42, 183, 0, 1, 42, 42, 181, 0, 7, 42, 178, 0, 13, 181, 0, 17, 42, 178, 0, 20, 181, 0, 24]
abbrev dktJ0_init_2_0 : List UInt8 := dkwJ0_init_2_0 ++ dktJ0_init_2_1
theorem dksJ0_init_2_0 : cJ0_init_2.data.toList.drop 0 = dktJ0_init_2_0 := by decide +kernel
theorem dksJ0_init_2_1 : cJ0_init_2.data.toList.drop 23 = dktJ0_init_2_1 := dk_seg dksJ0_init_2_0 23 rfl rfl
theorem dksJ0_init_2_2 : cJ0_init_2.data.toList.drop 47 = dktJ0_init_2_2 := dk_seg dksJ0_init_2_1 24 rfl rfl
theorem dJ0_init_2_0 : decode cJ0_init_2 0 = .ok (.aload_n 0, 1) := dk_42 (dk_at dksJ0_init_2_0 0 rfl rfl)
theorem dJ0_init_2_1 : decode cJ0_init_2 1 = .ok (.invokespecial 1, 3) := dk_183 0 1 (dk_at dksJ0_init_2_0 1 rfl rfl)
theorem dJ0_init_2_4 : decode cJ0_init_2 4 = .ok (.aload_n 0, 1) := dk_42 (dk_at dksJ0_init_2_0 4 rfl rfl)
theorem dJ0_init_2_5 : decode cJ0_init_2 5 = .ok (.aload_n 0, 1) := dk_42 (dk_at dksJ0_init_2_0 5 rfl rfl)
theorem dJ0_init_2_6 : decode cJ0_init_2 6 = .ok (.putfield 7, 3) := dk_181 0 7 (dk_at dksJ0_init_2_0 6 rfl rfl)
theorem dJ0_init_2_9 : decode cJ0_init_2 9 = .ok (.aload_n 0, 1) := dk_42 (dk_at dksJ0_init_2_0 9 rfl rfl)
theorem dJ0_init_2_10 : decode cJ0_init_2 10 = .ok (.getstatic 13, 3) := dk_178 0 13 (dk_at dksJ0_init_2_0 10 rfl rfl)
theorem dJ0_init_2_13 : decode cJ0_init_2 13 = .ok (.putfield 17, 3) := dk_181 0 17 (dk_at dksJ0_init_2_0 13 rfl rfl)
theorem dJ0_init_2_16 : decode cJ0_init_2 16 = .ok (.aload_n 0, 1) := dk_42 (dk_at dksJ0_init_2_0 16 rfl rfl)
theorem dJ0_init_2_17 : decode cJ0_init_2 17 = .ok (.getstatic 20, 3) := dk_178 0 20 (dk_at dksJ0_init_2_0 17 rfl rfl)
theorem dJ0_init_2_20 : decode cJ0_init_2 20 = .ok (.putfield 24, 3) := dk_181 0 24 (dk_at dksJ0_init_2_0 20 rfl rfl)
theorem dJ0_init_2_23 : decode cJ0_init_2 23 = .ok (.iload 4, 2) := dk_21 4 (dk_at dksJ0_init_2_1 0 rfl rfl)
theorem dJ0_init_2_25 : decode cJ0_init_2 25 = .ok (.ifCond .eq 11, 3) := dk_153 0 11 (dk_at dksJ0_init_2_1 2 rfl rfl)
theorem dJ0_init_2_28 : decode cJ0_init_2 28 = .ok (.aload_n 0, 1) := dk_42 (dk_at dksJ0_init_2_1 5 rfl rfl)
theorem dJ0_init_2_29 : decode cJ0_init_2 29 = .ok (.invokevirtual 27, 3) := dk_182 0 27 (dk_at dksJ0_init_2_1 6 rfl rfl)
theorem dJ0_init_2_32 : decode cJ0_init_2 32 = .ok (.pop, 1) := dk_87 (dk_at dksJ0_init_2_1 9 rfl rfl)
theorem dJ0_init_2_33 : decode cJ0_init_2 33 = .ok (.goto 8, 3) := dk_167 0 8 (dk_at dksJ0_init_2_1 10 rfl rfl)
theorem dJ0_init_2_36 : decode cJ0_init_2 36 = .ok (.aload_n 0, 1) := dk_42 (dk_at dksJ0_init_2_1 13 rfl rfl)
theorem dJ0_init_2_37 : decode cJ0_init_2 37 = .ok (.aconst_null, 1) := dk_1 (dk_at dksJ0_init_2_1 14 rfl rfl)
theorem dJ0_init_2_38 : decode cJ0_init_2 38 = .ok (.putfield 17, 3) := dk_181 0 17 (dk_at dksJ0_init_2_1 15 rfl rfl)
theorem dJ0_init_2_41 : decode cJ0_init_2 41 = .ok (.aload_n 0, 1) := dk_42 (dk_at dksJ0_init_2_1 18 rfl rfl)
theorem dJ0_init_2_42 : decode cJ0_init_2 42 = .ok (.aload_n 1, 1) := dk_43 (dk_at dksJ0_init_2_1 19 rfl rfl)
theorem dJ0_init_2_43 : decode cJ0_init_2 43 = .ok (.putfield 31, 3) := dk_181 0 31 (dk_at dksJ0_init_2_1 20 rfl rfl)
theorem dJ0_init_2_46 : decode cJ0_init_2 46 = .ok (.aload_n 0, 1) := dk_42 (dk_at dksJ0_init_2_1 23 rfl rfl)
theorem dJ0_init_2_47 : decode cJ0_init_2 47 = .ok (.aload_n 2, 1) := dk_44 (dk_at dksJ0_init_2_2 0 rfl rfl)
theorem dJ0_init_2_48 : decode cJ0_init_2 48 = .ok (.putfield 7, 3) := dk_181 0 7 (dk_at dksJ0_init_2_2 1 rfl rfl)
theorem dJ0_init_2_51 : decode cJ0_init_2 51 = .ok (.iload_n 3, 1) := dk_29 (dk_at dksJ0_init_2_2 4 rfl rfl)
theorem dJ0_init_2_52 : decode cJ0_init_2 52 = .ok (.ifCond .ne 8, 3) := dk_154 0 8 (dk_at dksJ0_init_2_2 5 rfl rfl)
theorem dJ0_init_2_55 : decode cJ0_init_2 55 = .ok (.aload_n 0, 1) := dk_42 (dk_at dksJ0_init_2_2 8 rfl rfl)
theorem dJ0_init_2_56 : decode cJ0_init_2 56 = .ok (.aconst_null, 1) := dk_1 (dk_at dksJ0_init_2_2 9 rfl rfl)
theorem dJ0_init_2_57 : decode cJ0_init_2 57 = .ok (.putfield 24, 3) := dk_181 0 24 (dk_at dksJ0_init_2_2 10 rfl rfl)
theorem dJ0_init_2_60 : decode cJ0_init_2 60 = .ok (.return_, 1) := dk_177 (dk_at dksJ0_init_2_2 13 rfl rfl)
theorem q67 : (Jvm.Cond.initialized "java/lang/Throwable") ∈ lw_all := lw_g (lw_at lw_m1 7 rfl) rfl
theorem q390 : (Jvm.Cond.declares ({ cls := "java/lang/Throwable", name := "<init>", desc := "()V" } : Jvm.MethodName)) ∈ lw_tbl := lw_at lw_m2 90 rfl
theorem q391 : (Jvm.Cond.declares ({ cls := "java/lang/Throwable", name := "<init>", desc := "(Ljava/lang/String;)V" } : Jvm.MethodName)) ∈ lw_tbl := lw_at lw_m2 91 rfl
theorem q395 : (Jvm.Cond.lays "java/lang/Throwable" "java/lang/Throwable" "cause" "Ljava/lang/Throwable;") ∈ lw_all := lw_g (lw_at lw_m2 95 rfl) rfl
theorem q397 : (Jvm.Cond.lays "java/lang/Throwable" "java/lang/Throwable" "stackTrace" "[Ljava/lang/StackTraceElement;") ∈ lw_all := lw_g (lw_at lw_m2 97 rfl) rfl
theorem q399 : (Jvm.Cond.lays "java/lang/Throwable" "java/lang/Throwable" "suppressedExceptions" "Ljava/util/List;") ∈ lw_all := lw_g (lw_at lw_m2 99 rfl) rfl
theorem q401 : (Jvm.Cond.lays "java/lang/Throwable" "java/lang/Throwable" "detailMessage" "Ljava/lang/String;") ∈ lw_all := lw_g (lw_at lw_m2 101 rfl) rfl
theorem q403 : (Jvm.Cond.lays "java/lang/Throwable" "java/lang/Throwable" "backtrace" "Ljava/lang/Object;") ∈ lw_all := lw_g (lw_at lw_m2 103 rfl) rfl
theorem q404 : (Jvm.Cond.fieldLink "java/lang/Throwable" (198 : Nat) "java/lang/Throwable" "backtrace" "Ljava/lang/Object;") ∈ lw_all := lw_g (lw_at lw_m2 104 rfl) rfl
theorem q405 : (Jvm.Cond.superclass "java/lang/Throwable" "java/lang/Object") ∈ lw_all := lw_g (lw_at lw_m2 105 rfl) rfl
theorem q406 : (Jvm.Cond.instanceMethod ({ cls := "java/lang/Throwable", name := "<init>", desc := "()V" } : Jvm.MethodName)) ∈ lw_all := lw_g (lw_at lw_m2 106 rfl) rfl
theorem q407 : (Jvm.Cond.code ({ cls := "java/lang/Throwable", name := "<init>", desc := "()V" } : Jvm.MethodName) prog_28_method_1_code (1 : Nat) (Option.none : Option Jvm.ClassFile.FieldType)) ∈ lw_all := lw_g (lw_at lw_m2 107 rfl) rfl
theorem q408 : (Jvm.Cond.methodLink "java/lang/Throwable" (1 : Nat) ({ cls := "java/lang/Object", name := "<init>", desc := "()V" } : Jvm.MethodName)) ∈ lw_all := lw_g (lw_at lw_m2 108 rfl) rfl
theorem q409 : (Jvm.Cond.fieldLink "java/lang/Throwable" (13 : Nat) "java/lang/Throwable" "UNASSIGNED_STACK" "[Ljava/lang/StackTraceElement;") ∈ lw_all := lw_g (lw_at lw_m2 109 rfl) rfl
theorem q410 : (Jvm.Cond.laysStatic "java/lang/Throwable" "UNASSIGNED_STACK" "[Ljava/lang/StackTraceElement;") ∈ lw_tbl := lw_at lw_m2 110 rfl
theorem q411 : (Jvm.Cond.fieldLink "java/lang/Throwable" (20 : Nat) "java/lang/Throwable" "SUPPRESSED_SENTINEL" "Ljava/util/List;") ∈ lw_all := lw_g (lw_at lw_m2 111 rfl) rfl
theorem q412 : (Jvm.Cond.laysStatic "java/lang/Throwable" "SUPPRESSED_SENTINEL" "Ljava/util/List;") ∈ lw_tbl := lw_at lw_m2 112 rfl
theorem q413 : (Jvm.Cond.methodLink "java/lang/Throwable" (27 : Nat) ({ cls := "java/lang/Throwable", name := "fillInStackTrace", desc := "()Ljava/lang/Throwable;" } : Jvm.MethodName)) ∈ lw_all := lw_g (lw_at lw_m2 113 rfl) rfl
theorem q414 : (Jvm.Cond.instanceMethod ({ cls := "java/lang/Throwable", name := "fillInStackTrace", desc := "()Ljava/lang/Throwable;" } : Jvm.MethodName)) ∈ lw_all := lw_g (lw_at lw_m2 114 rfl) rfl
theorem q415 : (Jvm.Cond.sameMethod "java/lang/Throwable" "java/lang/Throwable" "fillInStackTrace" "()Ljava/lang/Throwable;") ∈ lw_all := lw_g (lw_at lw_m2 115 rfl) rfl
theorem q416 : (Jvm.Cond.codeSync ({ cls := "java/lang/Throwable", name := "fillInStackTrace", desc := "()Ljava/lang/Throwable;" } : Jvm.MethodName) prog_28_method_18_code (1 : Nat) (Option.some (Jvm.ClassFile.FieldType.object "java/lang/Throwable"))) ∈ lw_all := lw_g (lw_at lw_m2 116 rfl) rfl
theorem q417 : (Jvm.Cond.methodLink "java/lang/Throwable" (202 : Nat) ({ cls := "java/lang/Throwable", name := "fillInStackTrace", desc := "(I)Ljava/lang/Throwable;" } : Jvm.MethodName)) ∈ lw_all := lw_g (lw_at lw_m2 117 rfl) rfl
theorem q418 : (Jvm.Cond.privateMethod ({ cls := "java/lang/Throwable", name := "fillInStackTrace", desc := "(I)Ljava/lang/Throwable;" } : Jvm.MethodName)) ∈ lw_tbl := lw_at lw_m2 118 rfl
theorem q419 : (Jvm.Cond.instanceMethod ({ cls := "java/lang/Throwable", name := "fillInStackTrace", desc := "(I)Ljava/lang/Throwable;" } : Jvm.MethodName)) ∈ lw_all := lw_g (lw_at lw_m2 119 rfl) rfl
theorem q420 : (Jvm.Cond.instantiable "java/lang/Throwable" (6 : Nat)) ∈ lw_all := lw_g (lw_at lw_m2 120 rfl) rfl
theorem q421 : (Jvm.Cond.native ({ cls := "java/lang/Throwable", name := "fillInStackTrace", desc := "(I)Ljava/lang/Throwable;" } : Jvm.MethodName)) ∈ lw_all := lw_g (lw_at lw_m2 121 rfl) rfl
theorem q429 : (Jvm.Cond.instanceMethod ({ cls := "java/lang/Throwable", name := "<init>", desc := "(Ljava/lang/String;Ljava/lang/Throwable;ZZ)V" } : Jvm.MethodName)) ∈ lw_all := lw_g (lw_at lw_m2 129 rfl) rfl
theorem q430 : (Jvm.Cond.code ({ cls := "java/lang/Throwable", name := "<init>", desc := "(Ljava/lang/String;Ljava/lang/Throwable;ZZ)V" } : Jvm.MethodName) prog_28_method_5_code (5 : Nat) (Option.none : Option Jvm.ClassFile.FieldType)) ∈ lw_all := lw_g (lw_at lw_m2 130 rfl) rfl
theorem q433 : (Jvm.Cond.fieldLink "java/lang/Throwable" (198 : Nat) "java/lang/Throwable" "backtrace" "Ljava/lang/Object;") ∈ lw_all := lw_g (lw_at lw_m2 133 rfl) rfl
theorem q434 : (Jvm.Cond.fieldLink "java/lang/Throwable" (31 : Nat) "java/lang/Throwable" "detailMessage" "Ljava/lang/String;") ∈ lw_all := lw_g (lw_at lw_m2 134 rfl) rfl
theorem q435 : (Jvm.Cond.fieldLink "java/lang/Throwable" (7 : Nat) "java/lang/Throwable" "cause" "Ljava/lang/Throwable;") ∈ lw_all := lw_g (lw_at lw_m2 135 rfl) rfl
theorem q436 : (Jvm.Cond.fieldLink "java/lang/Throwable" (17 : Nat) "java/lang/Throwable" "stackTrace" "[Ljava/lang/StackTraceElement;") ∈ lw_all := lw_g (lw_at lw_m2 136 rfl) rfl
theorem q437 : (Jvm.Cond.fieldLink "java/lang/Throwable" (24 : Nat) "java/lang/Throwable" "suppressedExceptions" "Ljava/util/List;") ∈ lw_all := lw_g (lw_at lw_m2 137 rfl) rfl
theorem q440 : (Jvm.Cond.soleField "java/lang/Throwable" "backtrace") ∈ lw_all := lw_g (lw_at lw_m2 140 rfl) rfl
theorem q441 : (Jvm.Cond.soleField "java/lang/Throwable" "detailMessage") ∈ lw_all := lw_g (lw_at lw_m2 141 rfl) rfl
theorem q442 : (Jvm.Cond.soleField "java/lang/Throwable" "cause") ∈ lw_all := lw_g (lw_at lw_m2 142 rfl) rfl
theorem q443 : (Jvm.Cond.soleField "java/lang/Throwable" "stackTrace") ∈ lw_all := lw_g (lw_at lw_m2 143 rfl) rfl
theorem q445 : (Jvm.Cond.soleField "java/lang/Throwable" "depth") ∈ lw_all := lw_g (lw_at lw_m2 145 rfl) rfl
theorem q446 : (Jvm.Cond.soleField "java/lang/Throwable" "suppressedExceptions") ∈ lw_all := lw_g (lw_at lw_m2 146 rfl) rfl
theorem q1321 : (Jvm.Cond.sameMethod "java/lang/Throwable" "java/lang/Throwable" "fillInStackTrace" "(I)Ljava/lang/Throwable;") ∈ lw_all := lw_g (lw_at lw_m6 61 rfl) rfl
theorem in_J0 : ∀ w ∈ wsJ00, w ∈ lw_all := lw_in wsJ00 [395, 397, 399, 401, 403] (by decide +kernel) (by decide +kernel)
/-! java/lang/Exception -/
set_option maxRecDepth 100000
def RJ1 : String := "java/lang/Exception"
abbrev cJ1_init : ByteArray := prog_21_method_5_code
def yJ1_init : MethodName := ⟨RJ1, "<init>", "(Ljava/lang/String;Ljava/lang/Throwable;ZZ)V"⟩
def dkwJ1_init_0 : List UInt8 := [42, 43, 44, 29, 21, 4, 183, 0, 16, 177]
abbrev dktJ1_init_0 : List UInt8 := dkwJ1_init_0 ++ []
theorem dksJ1_init_0 : cJ1_init.data.toList.drop 0 = dktJ1_init_0 := by decide +kernel
theorem dJ1_init_0 : decode cJ1_init 0 = .ok (.aload_n 0, 1) := dk_42 (dk_at dksJ1_init_0 0 rfl rfl)
theorem dJ1_init_1 : decode cJ1_init 1 = .ok (.aload_n 1, 1) := dk_43 (dk_at dksJ1_init_0 1 rfl rfl)
theorem dJ1_init_2 : decode cJ1_init 2 = .ok (.aload_n 2, 1) := dk_44 (dk_at dksJ1_init_0 2 rfl rfl)
theorem dJ1_init_3 : decode cJ1_init 3 = .ok (.iload_n 3, 1) := dk_29 (dk_at dksJ1_init_0 3 rfl rfl)
theorem dJ1_init_4 : decode cJ1_init 4 = .ok (.iload 4, 2) := dk_21 4 (dk_at dksJ1_init_0 4 rfl rfl)
theorem dJ1_init_6 : decode cJ1_init 6 = .ok (.invokespecial 16, 3) := dk_183 0 16 (dk_at dksJ1_init_0 6 rfl rfl)
theorem dJ1_init_9 : decode cJ1_init 9 = .ok (.return_, 1) := dk_177 (dk_at dksJ1_init_0 9 rfl rfl)
theorem q68 : (Jvm.Cond.initialized "java/lang/Exception") ∈ lw_all := lw_g (lw_at lw_m1 8 rfl) rfl
theorem q388 : (Jvm.Cond.declares ({ cls := "java/lang/Exception", name := "<init>", desc := "()V" } : Jvm.MethodName)) ∈ lw_tbl := lw_at lw_m2 88 rfl
theorem q389 : (Jvm.Cond.declares ({ cls := "java/lang/Exception", name := "<init>", desc := "(Ljava/lang/String;)V" } : Jvm.MethodName)) ∈ lw_tbl := lw_at lw_m2 89 rfl
theorem q426 : (Jvm.Cond.instanceMethod ({ cls := "java/lang/Exception", name := "<init>", desc := "(Ljava/lang/String;Ljava/lang/Throwable;ZZ)V" } : Jvm.MethodName)) ∈ lw_all := lw_g (lw_at lw_m2 126 rfl) rfl
theorem q427 : (Jvm.Cond.code ({ cls := "java/lang/Exception", name := "<init>", desc := "(Ljava/lang/String;Ljava/lang/Throwable;ZZ)V" } : Jvm.MethodName) prog_21_method_5_code (5 : Nat) (Option.none : Option Jvm.ClassFile.FieldType)) ∈ lw_all := lw_g (lw_at lw_m2 127 rfl) rfl
theorem q428 : (Jvm.Cond.methodLink "java/lang/Exception" (16 : Nat) ({ cls := "java/lang/Throwable", name := "<init>", desc := "(Ljava/lang/String;Ljava/lang/Throwable;ZZ)V" } : Jvm.MethodName)) ∈ lw_all := lw_g (lw_at lw_m2 128 rfl) rfl
/-! java/lang/String -/
set_option maxRecDepth 100000
def RJ2 : String := "java/lang/String"
abbrev cJ2_length : ByteArray := prog_24_method_54_code
def yJ2_length : MethodName := ⟨RJ2, "length", "()I"⟩
def dkwJ2_length_0 : List UInt8 := [42, 180, 0, 9, 190, 42, 182, 1, 79, 122, 172]
abbrev dktJ2_length_0 : List UInt8 := dkwJ2_length_0 ++ []
theorem dksJ2_length_0 : cJ2_length.data.toList.drop 0 = dktJ2_length_0 := by decide +kernel
theorem dJ2_length_0 : decode cJ2_length 0 = .ok (.aload_n 0, 1) := dk_42 (dk_at dksJ2_length_0 0 rfl rfl)
theorem dJ2_length_1 : decode cJ2_length 1 = .ok (.getfield 9, 3) := dk_180 0 9 (dk_at dksJ2_length_0 1 rfl rfl)
theorem dJ2_length_4 : decode cJ2_length 4 = .ok (.arraylength, 1) := dk_190 (dk_at dksJ2_length_0 4 rfl rfl)
theorem dJ2_length_5 : decode cJ2_length 5 = .ok (.aload_n 0, 1) := dk_42 (dk_at dksJ2_length_0 5 rfl rfl)
theorem dJ2_length_6 : decode cJ2_length 6 = .ok (.invokevirtual 335, 3) := dk_182 1 79 (dk_at dksJ2_length_0 6 rfl rfl)
theorem dJ2_length_9 : decode cJ2_length 9 = .ok (.ishr, 1) := dk_122 (dk_at dksJ2_length_0 9 rfl rfl)
theorem dJ2_length_10 : decode cJ2_length 10 = .ok (.ireturn, 1) := dk_172 (dk_at dksJ2_length_0 10 rfl rfl)
abbrev cJ2_coder : ByteArray := prog_24_method_152_code
def yJ2_coder : MethodName := ⟨RJ2, "coder", "()B"⟩
def dkwJ2_coder_0 : List UInt8 := [178, 0, 38, 153, 0, 10, 42, 180, 0, 15, 167, 0, 4, 4, 172]
abbrev dktJ2_coder_0 : List UInt8 := dkwJ2_coder_0 ++ []
theorem dksJ2_coder_0 : cJ2_coder.data.toList.drop 0 = dktJ2_coder_0 := by decide +kernel
theorem dJ2_coder_0 : decode cJ2_coder 0 = .ok (.getstatic 38, 3) := dk_178 0 38 (dk_at dksJ2_coder_0 0 rfl rfl)
theorem dJ2_coder_3 : decode cJ2_coder 3 = .ok (.ifCond .eq 10, 3) := dk_153 0 10 (dk_at dksJ2_coder_0 3 rfl rfl)
theorem dJ2_coder_6 : decode cJ2_coder 6 = .ok (.aload_n 0, 1) := dk_42 (dk_at dksJ2_coder_0 6 rfl rfl)
theorem dJ2_coder_7 : decode cJ2_coder 7 = .ok (.getfield 15, 3) := dk_180 0 15 (dk_at dksJ2_coder_0 7 rfl rfl)
theorem dJ2_coder_10 : decode cJ2_coder 10 = .ok (.goto 4, 3) := dk_167 0 4 (dk_at dksJ2_coder_0 10 rfl rfl)
theorem dJ2_coder_13 : decode cJ2_coder 13 = .ok (.iconst 1, 1) := dk_4 (dk_at dksJ2_coder_0 13 rfl rfl)
theorem dJ2_coder_14 : decode cJ2_coder 14 = .ok (.ireturn, 1) := dk_172 (dk_at dksJ2_coder_0 14 rfl rfl)
abbrev cJ2_charAt : ByteArray := prog_24_method_56_code
def yJ2_charAt : MethodName := ⟨RJ2, "charAt", "(I)C"⟩
def dkwJ2_charAt_1 : List UInt8 := [172]
abbrev dktJ2_charAt_1 : List UInt8 := dkwJ2_charAt_1 ++ []
def dkwJ2_charAt_0 : List UInt8 := [42, 182, 1, 236, 153, 0, 12, 42, 180, 0, 9, 27, 184, 1, 239, 172, 42, 180, 0, 9, 27, 184, 1, 242]
abbrev dktJ2_charAt_0 : List UInt8 := dkwJ2_charAt_0 ++ dktJ2_charAt_1
theorem dksJ2_charAt_0 : cJ2_charAt.data.toList.drop 0 = dktJ2_charAt_0 := by decide +kernel
theorem dksJ2_charAt_1 : cJ2_charAt.data.toList.drop 24 = dktJ2_charAt_1 := dk_seg dksJ2_charAt_0 24 rfl rfl
theorem dJ2_charAt_0 : decode cJ2_charAt 0 = .ok (.aload_n 0, 1) := dk_42 (dk_at dksJ2_charAt_0 0 rfl rfl)
theorem dJ2_charAt_1 : decode cJ2_charAt 1 = .ok (.invokevirtual 492, 3) := dk_182 1 236 (dk_at dksJ2_charAt_0 1 rfl rfl)
theorem dJ2_charAt_4 : decode cJ2_charAt 4 = .ok (.ifCond .eq 12, 3) := dk_153 0 12 (dk_at dksJ2_charAt_0 4 rfl rfl)
theorem dJ2_charAt_7 : decode cJ2_charAt 7 = .ok (.aload_n 0, 1) := dk_42 (dk_at dksJ2_charAt_0 7 rfl rfl)
theorem dJ2_charAt_8 : decode cJ2_charAt 8 = .ok (.getfield 9, 3) := dk_180 0 9 (dk_at dksJ2_charAt_0 8 rfl rfl)
theorem dJ2_charAt_11 : decode cJ2_charAt 11 = .ok (.iload_n 1, 1) := dk_27 (dk_at dksJ2_charAt_0 11 rfl rfl)
theorem dJ2_charAt_12 : decode cJ2_charAt 12 = .ok (.invokestatic 495, 3) := dk_184 1 239 (dk_at dksJ2_charAt_0 12 rfl rfl)
theorem dJ2_charAt_15 : decode cJ2_charAt 15 = .ok (.ireturn, 1) := dk_172 (dk_at dksJ2_charAt_0 15 rfl rfl)
theorem dJ2_charAt_16 : decode cJ2_charAt 16 = .ok (.aload_n 0, 1) := dk_42 (dk_at dksJ2_charAt_0 16 rfl rfl)
theorem dJ2_charAt_17 : decode cJ2_charAt 17 = .ok (.getfield 9, 3) := dk_180 0 9 (dk_at dksJ2_charAt_0 17 rfl rfl)
theorem dJ2_charAt_20 : decode cJ2_charAt 20 = .ok (.iload_n 1, 1) := dk_27 (dk_at dksJ2_charAt_0 20 rfl rfl)
theorem dJ2_charAt_21 : decode cJ2_charAt 21 = .ok (.invokestatic 498, 3) := dk_184 1 242 (dk_at dksJ2_charAt_0 21 rfl rfl)
theorem dJ2_charAt_24 : decode cJ2_charAt 24 = .ok (.ireturn, 1) := dk_172 (dk_at dksJ2_charAt_1 0 rfl rfl)
abbrev cJ2_isLatin1 : ByteArray := prog_24_method_154_code
def yJ2_isLatin1 : MethodName := ⟨RJ2, "isLatin1", "()Z"⟩
def dkwJ2_isLatin1_0 : List UInt8 := [178, 0, 38, 153, 0, 14, 42, 180, 0, 15, 154, 0, 7, 4, 167, 0, 4, 3, 172]
abbrev dktJ2_isLatin1_0 : List UInt8 := dkwJ2_isLatin1_0 ++ []
theorem dksJ2_isLatin1_0 : cJ2_isLatin1.data.toList.drop 0 = dktJ2_isLatin1_0 := by decide +kernel
theorem dJ2_isLatin1_0 : decode cJ2_isLatin1 0 = .ok (.getstatic 38, 3) := dk_178 0 38 (dk_at dksJ2_isLatin1_0 0 rfl rfl)
theorem dJ2_isLatin1_3 : decode cJ2_isLatin1 3 = .ok (.ifCond .eq 14, 3) := dk_153 0 14 (dk_at dksJ2_isLatin1_0 3 rfl rfl)
theorem dJ2_isLatin1_6 : decode cJ2_isLatin1 6 = .ok (.aload_n 0, 1) := dk_42 (dk_at dksJ2_isLatin1_0 6 rfl rfl)
theorem dJ2_isLatin1_7 : decode cJ2_isLatin1 7 = .ok (.getfield 15, 3) := dk_180 0 15 (dk_at dksJ2_isLatin1_0 7 rfl rfl)
theorem dJ2_isLatin1_10 : decode cJ2_isLatin1 10 = .ok (.ifCond .ne 7, 3) := dk_154 0 7 (dk_at dksJ2_isLatin1_0 10 rfl rfl)
theorem dJ2_isLatin1_13 : decode cJ2_isLatin1 13 = .ok (.iconst 1, 1) := dk_4 (dk_at dksJ2_isLatin1_0 13 rfl rfl)
theorem dJ2_isLatin1_14 : decode cJ2_isLatin1 14 = .ok (.goto 4, 3) := dk_167 0 4 (dk_at dksJ2_isLatin1_0 14 rfl rfl)
theorem dJ2_isLatin1_17 : decode cJ2_isLatin1 17 = .ok (.iconst 0, 1) := dk_3 (dk_at dksJ2_isLatin1_0 17 rfl rfl)
theorem dJ2_isLatin1_18 : decode cJ2_isLatin1 18 = .ok (.ireturn, 1) := dk_172 (dk_at dksJ2_isLatin1_0 18 rfl rfl)
abbrev cJ2_checkIndex : ByteArray := prog_24_method_155_code
def yJ2_checkIndex : MethodName := ⟨RJ2, "checkIndex", "(II)V"⟩
def dkwJ2_checkIndex_0 : List UInt8 := [26, 27, 178, 4, 29, 184, 4, 35, 87, 177]
abbrev dktJ2_checkIndex_0 : List UInt8 := dkwJ2_checkIndex_0 ++ []
theorem dksJ2_checkIndex_0 : cJ2_checkIndex.data.toList.drop 0 = dktJ2_checkIndex_0 := by decide +kernel
theorem dJ2_checkIndex_0 : decode cJ2_checkIndex 0 = .ok (.iload_n 0, 1) := dk_26 (dk_at dksJ2_checkIndex_0 0 rfl rfl)
theorem dJ2_checkIndex_1 : decode cJ2_checkIndex 1 = .ok (.iload_n 1, 1) := dk_27 (dk_at dksJ2_checkIndex_0 1 rfl rfl)
theorem dJ2_checkIndex_2 : decode cJ2_checkIndex 2 = .ok (.getstatic 1053, 3) := dk_178 4 29 (dk_at dksJ2_checkIndex_0 2 rfl rfl)
theorem dJ2_checkIndex_5 : decode cJ2_checkIndex 5 = .ok (.invokestatic 1059, 3) := dk_184 4 35 (dk_at dksJ2_checkIndex_0 5 rfl rfl)
theorem dJ2_checkIndex_8 : decode cJ2_checkIndex 8 = .ok (.pop, 1) := dk_87 (dk_at dksJ2_checkIndex_0 8 rfl rfl)
theorem dJ2_checkIndex_9 : decode cJ2_checkIndex 9 = .ok (.return_, 1) := dk_177 (dk_at dksJ2_checkIndex_0 9 rfl rfl)
theorem q70 : (Jvm.Cond.initialized "java/lang/String") ∈ lw_all := lw_g (lw_at lw_m1 10 rfl) rfl
theorem q458 : (Jvm.Cond.instanceMethod ({ cls := "java/lang/String", name := "length", desc := "()I" } : Jvm.MethodName)) ∈ lw_all := lw_g (lw_at lw_m2 158 rfl) rfl
theorem q459 : (Jvm.Cond.selects "java/lang/String" ({ cls := "java/lang/String", name := "length", desc := "()I" } : Jvm.MethodName) ({ cls := "java/lang/String", name := "length", desc := "()I" } : Jvm.MethodName)) ∈ lw_all := lw_g (lw_at lw_m2 159 rfl) rfl
theorem q460 : (Jvm.Cond.code ({ cls := "java/lang/String", name := "length", desc := "()I" } : Jvm.MethodName) prog_24_method_54_code (1 : Nat) (Option.some Jvm.ClassFile.FieldType.int)) ∈ lw_all := lw_g (lw_at lw_m2 160 rfl) rfl
theorem q461 : (Jvm.Cond.methodLink "java/lang/String" (335 : Nat) ({ cls := "java/lang/String", name := "coder", desc := "()B" } : Jvm.MethodName)) ∈ lw_all := lw_g (lw_at lw_m2 161 rfl) rfl
theorem q462 : (Jvm.Cond.instanceMethod ({ cls := "java/lang/String", name := "coder", desc := "()B" } : Jvm.MethodName)) ∈ lw_all := lw_g (lw_at lw_m2 162 rfl) rfl
theorem q463 : (Jvm.Cond.selects "java/lang/String" ({ cls := "java/lang/String", name := "coder", desc := "()B" } : Jvm.MethodName) ({ cls := "java/lang/String", name := "coder", desc := "()B" } : Jvm.MethodName)) ∈ lw_all := lw_g (lw_at lw_m2 163 rfl) rfl
theorem q464 : (Jvm.Cond.code ({ cls := "java/lang/String", name := "coder", desc := "()B" } : Jvm.MethodName) prog_24_method_152_code (1 : Nat) (Option.some Jvm.ClassFile.FieldType.byte)) ∈ lw_all := lw_g (lw_at lw_m2 164 rfl) rfl
theorem q465 : (Jvm.Cond.fieldLink "java/lang/String" (38 : Nat) "java/lang/String" "COMPACT_STRINGS" "Z") ∈ lw_all := lw_g (lw_at lw_m2 165 rfl) rfl
theorem q466 : (Jvm.Cond.laysStatic "java/lang/String" "COMPACT_STRINGS" "Z") ∈ lw_tbl := lw_at lw_m2 166 rfl
theorem q468 : (Jvm.Cond.instanceMethod ({ cls := "java/lang/String", name := "charAt", desc := "(I)C" } : Jvm.MethodName)) ∈ lw_all := lw_g (lw_at lw_m2 168 rfl) rfl
theorem q469 : (Jvm.Cond.selects "java/lang/String" ({ cls := "java/lang/String", name := "charAt", desc := "(I)C" } : Jvm.MethodName) ({ cls := "java/lang/String", name := "charAt", desc := "(I)C" } : Jvm.MethodName)) ∈ lw_all := lw_g (lw_at lw_m2 169 rfl) rfl
theorem q470 : (Jvm.Cond.code ({ cls := "java/lang/String", name := "charAt", desc := "(I)C" } : Jvm.MethodName) prog_24_method_56_code (2 : Nat) (Option.some Jvm.ClassFile.FieldType.char)) ∈ lw_all := lw_g (lw_at lw_m2 170 rfl) rfl
theorem q471 : (Jvm.Cond.methodLink "java/lang/String" (492 : Nat) ({ cls := "java/lang/String", name := "isLatin1", desc := "()Z" } : Jvm.MethodName)) ∈ lw_all := lw_g (lw_at lw_m2 171 rfl) rfl
theorem q472 : (Jvm.Cond.instanceMethod ({ cls := "java/lang/String", name := "isLatin1", desc := "()Z" } : Jvm.MethodName)) ∈ lw_all := lw_g (lw_at lw_m2 172 rfl) rfl
theorem q473 : (Jvm.Cond.selects "java/lang/String" ({ cls := "java/lang/String", name := "isLatin1", desc := "()Z" } : Jvm.MethodName) ({ cls := "java/lang/String", name := "isLatin1", desc := "()Z" } : Jvm.MethodName)) ∈ lw_all := lw_g (lw_at lw_m2 173 rfl) rfl
theorem q474 : (Jvm.Cond.code ({ cls := "java/lang/String", name := "isLatin1", desc := "()Z" } : Jvm.MethodName) prog_24_method_154_code (1 : Nat) (Option.some Jvm.ClassFile.FieldType.boolean)) ∈ lw_all := lw_g (lw_at lw_m2 174 rfl) rfl
theorem q475 : (Jvm.Cond.methodLink "java/lang/String" (495 : Nat) ({ cls := "java/lang/StringLatin1", name := "charAt", desc := "([BI)C" } : Jvm.MethodName)) ∈ lw_all := lw_g (lw_at lw_m2 175 rfl) rfl
theorem q479 : (Jvm.Cond.static ({ cls := "java/lang/String", name := "checkIndex", desc := "(II)V" } : Jvm.MethodName)) ∈ lw_all := lw_g (lw_at lw_m2 179 rfl) rfl
theorem q480 : (Jvm.Cond.code ({ cls := "java/lang/String", name := "checkIndex", desc := "(II)V" } : Jvm.MethodName) prog_24_method_155_code (2 : Nat) (Option.none : Option Jvm.ClassFile.FieldType)) ∈ lw_all := lw_g (lw_at lw_m2 180 rfl) rfl
theorem q481 : (Jvm.Cond.fieldLink "java/lang/String" (1053 : Nat) "jdk/internal/util/Preconditions" "SIOOBE_FORMATTER" "Ljava/util/function/BiFunction;") ∈ lw_all := lw_g (lw_at lw_m2 181 rfl) rfl
theorem q483 : (Jvm.Cond.methodLink "java/lang/String" (1059 : Nat) ({ cls := "jdk/internal/util/Preconditions", name := "checkIndex", desc := "(IILjava/util/function/BiFunction;)I" } : Jvm.MethodName)) ∈ lw_all := lw_g (lw_at lw_m2 183 rfl) rfl
theorem q486 : (Jvm.Cond.methodLink "java/lang/String" (498 : Nat) ({ cls := "java/lang/StringUTF16", name := "charAt", desc := "([BI)C" } : Jvm.MethodName)) ∈ lw_all := lw_g (lw_at lw_m2 186 rfl) rfl
theorem q1348 : (Jvm.Cond.fieldLink "java/lang/String" (9 : Nat) "java/lang/String" "value" "[B") ∈ lw_all := lw_g (lw_at lw_m6 88 rfl) rfl
theorem q1349 : (Jvm.Cond.fieldLink "java/lang/String" (15 : Nat) "java/lang/String" "coder" "B") ∈ lw_all := lw_g (lw_at lw_m6 89 rfl) rfl
/-! java/lang/StringLatin1 -/
set_option maxRecDepth 100000
def RJ3 : String := "java/lang/StringLatin1"
abbrev cJ3_charAt : ByteArray := prog_25_method_2_code
def yJ3_charAt : MethodName := ⟨RJ3, "charAt", "([BI)C"⟩
def dkwJ3_charAt_0 : List UInt8 := [27, 42, 190, 184, 0, 9, 42, 27, 51, 17, 0, 255, 126, 146, 172]
abbrev dktJ3_charAt_0 : List UInt8 := dkwJ3_charAt_0 ++ []
theorem dksJ3_charAt_0 : cJ3_charAt.data.toList.drop 0 = dktJ3_charAt_0 := by decide +kernel
theorem dJ3_charAt_0 : decode cJ3_charAt 0 = .ok (.iload_n 1, 1) := dk_27 (dk_at dksJ3_charAt_0 0 rfl rfl)
theorem dJ3_charAt_1 : decode cJ3_charAt 1 = .ok (.aload_n 0, 1) := dk_42 (dk_at dksJ3_charAt_0 1 rfl rfl)
theorem dJ3_charAt_2 : decode cJ3_charAt 2 = .ok (.arraylength, 1) := dk_190 (dk_at dksJ3_charAt_0 2 rfl rfl)
theorem dJ3_charAt_3 : decode cJ3_charAt 3 = .ok (.invokestatic 9, 3) := dk_184 0 9 (dk_at dksJ3_charAt_0 3 rfl rfl)
theorem dJ3_charAt_6 : decode cJ3_charAt 6 = .ok (.aload_n 0, 1) := dk_42 (dk_at dksJ3_charAt_0 6 rfl rfl)
theorem dJ3_charAt_7 : decode cJ3_charAt 7 = .ok (.iload_n 1, 1) := dk_27 (dk_at dksJ3_charAt_0 7 rfl rfl)
theorem dJ3_charAt_8 : decode cJ3_charAt 8 = .ok (.baload, 1) := dk_51 (dk_at dksJ3_charAt_0 8 rfl rfl)
theorem dJ3_charAt_9 : decode cJ3_charAt 9 = .ok (.sipush 255, 3) := dk_17 0 255 (dk_at dksJ3_charAt_0 9 rfl rfl)
theorem dJ3_charAt_12 : decode cJ3_charAt 12 = .ok (.iand, 1) := dk_126 (dk_at dksJ3_charAt_0 12 rfl rfl)
theorem dJ3_charAt_13 : decode cJ3_charAt 13 = .ok (.i2c, 1) := dk_146 (dk_at dksJ3_charAt_0 13 rfl rfl)
theorem dJ3_charAt_14 : decode cJ3_charAt 14 = .ok (.ireturn, 1) := dk_172 (dk_at dksJ3_charAt_0 14 rfl rfl)
theorem q71 : (Jvm.Cond.initialized "java/lang/StringLatin1") ∈ lw_all := lw_g (lw_at lw_m1 11 rfl) rfl
theorem q476 : (Jvm.Cond.static ({ cls := "java/lang/StringLatin1", name := "charAt", desc := "([BI)C" } : Jvm.MethodName)) ∈ lw_all := lw_g (lw_at lw_m2 176 rfl) rfl
theorem q477 : (Jvm.Cond.code ({ cls := "java/lang/StringLatin1", name := "charAt", desc := "([BI)C" } : Jvm.MethodName) prog_25_method_2_code (2 : Nat) (Option.some Jvm.ClassFile.FieldType.char)) ∈ lw_all := lw_g (lw_at lw_m2 177 rfl) rfl
theorem q478 : (Jvm.Cond.methodLink "java/lang/StringLatin1" (9 : Nat) ({ cls := "java/lang/String", name := "checkIndex", desc := "(II)V" } : Jvm.MethodName)) ∈ lw_all := lw_g (lw_at lw_m2 178 rfl) rfl
/-! jdk/internal/util/Preconditions -/
set_option maxRecDepth 100000
def RJ4 : String := "jdk/internal/util/Preconditions"
abbrev cJ4_checkIndex : ByteArray := prog_29_method_11_code
def yJ4_checkIndex : MethodName := ⟨RJ4, "checkIndex", "(IILjava/util/function/BiFunction;)I"⟩
def dkwJ4_checkIndex_0 : List UInt8 := [26, 155, 0, 8, 26, 27, 161, 0, 10, 44, 26, 27, 184, 0, 95, 191, 26, 172]
abbrev dktJ4_checkIndex_0 : List UInt8 := dkwJ4_checkIndex_0 ++ []
theorem dksJ4_checkIndex_0 : cJ4_checkIndex.data.toList.drop 0 = dktJ4_checkIndex_0 := by decide +kernel
theorem dJ4_checkIndex_0 : decode cJ4_checkIndex 0 = .ok (.iload_n 0, 1) := dk_26 (dk_at dksJ4_checkIndex_0 0 rfl rfl)
theorem dJ4_checkIndex_1 : decode cJ4_checkIndex 1 = .ok (.ifCond .lt 8, 3) := dk_155 0 8 (dk_at dksJ4_checkIndex_0 1 rfl rfl)
theorem dJ4_checkIndex_4 : decode cJ4_checkIndex 4 = .ok (.iload_n 0, 1) := dk_26 (dk_at dksJ4_checkIndex_0 4 rfl rfl)
theorem dJ4_checkIndex_5 : decode cJ4_checkIndex 5 = .ok (.iload_n 1, 1) := dk_27 (dk_at dksJ4_checkIndex_0 5 rfl rfl)
theorem dJ4_checkIndex_6 : decode cJ4_checkIndex 6 = .ok (.if_icmp .lt 10, 3) := dk_161 0 10 (dk_at dksJ4_checkIndex_0 6 rfl rfl)
theorem dJ4_checkIndex_9 : decode cJ4_checkIndex 9 = .ok (.aload_n 2, 1) := dk_44 (dk_at dksJ4_checkIndex_0 9 rfl rfl)
theorem dJ4_checkIndex_10 : decode cJ4_checkIndex 10 = .ok (.iload_n 0, 1) := dk_26 (dk_at dksJ4_checkIndex_0 10 rfl rfl)
theorem dJ4_checkIndex_11 : decode cJ4_checkIndex 11 = .ok (.iload_n 1, 1) := dk_27 (dk_at dksJ4_checkIndex_0 11 rfl rfl)
theorem dJ4_checkIndex_12 : decode cJ4_checkIndex 12 = .ok (.invokestatic 95, 3) := dk_184 0 95 (dk_at dksJ4_checkIndex_0 12 rfl rfl)
theorem dJ4_checkIndex_15 : decode cJ4_checkIndex 15 = .ok (.athrow, 1) := dk_191 (dk_at dksJ4_checkIndex_0 15 rfl rfl)
theorem dJ4_checkIndex_16 : decode cJ4_checkIndex 16 = .ok (.iload_n 0, 1) := dk_26 (dk_at dksJ4_checkIndex_0 16 rfl rfl)
theorem dJ4_checkIndex_17 : decode cJ4_checkIndex 17 = .ok (.ireturn, 1) := dk_172 (dk_at dksJ4_checkIndex_0 17 rfl rfl)
theorem q72 : (Jvm.Cond.initialized "jdk/internal/util/Preconditions") ∈ lw_all := lw_g (lw_at lw_m1 12 rfl) rfl
theorem q482 : (Jvm.Cond.laysStatic "jdk/internal/util/Preconditions" "SIOOBE_FORMATTER" "Ljava/util/function/BiFunction;") ∈ lw_tbl := lw_at lw_m2 182 rfl
theorem q484 : (Jvm.Cond.static ({ cls := "jdk/internal/util/Preconditions", name := "checkIndex", desc := "(IILjava/util/function/BiFunction;)I" } : Jvm.MethodName)) ∈ lw_all := lw_g (lw_at lw_m2 184 rfl) rfl
theorem q485 : (Jvm.Cond.code ({ cls := "jdk/internal/util/Preconditions", name := "checkIndex", desc := "(IILjava/util/function/BiFunction;)I" } : Jvm.MethodName) prog_29_method_11_code (3 : Nat) (Option.some Jvm.ClassFile.FieldType.int)) ∈ lw_all := lw_g (lw_at lw_m2 185 rfl) rfl
/-! java/lang/StringUTF16 -/
set_option maxRecDepth 100000
def RJ5 : String := "java/lang/StringUTF16"
abbrev cJ5_charAt : ByteArray := prog_26_method_83_code
def yJ5_charAt : MethodName := ⟨RJ5, "charAt", "([BI)C"⟩
def dkwJ5_charAt_0 : List UInt8 := [27, 42, 184, 0, 67, 42, 27, 184, 0, 71, 172]
abbrev dktJ5_charAt_0 : List UInt8 := dkwJ5_charAt_0 ++ []
theorem dksJ5_charAt_0 : cJ5_charAt.data.toList.drop 0 = dktJ5_charAt_0 := by decide +kernel
theorem dJ5_charAt_0 : decode cJ5_charAt 0 = .ok (.iload_n 1, 1) := dk_27 (dk_at dksJ5_charAt_0 0 rfl rfl)
theorem dJ5_charAt_1 : decode cJ5_charAt 1 = .ok (.aload_n 0, 1) := dk_42 (dk_at dksJ5_charAt_0 1 rfl rfl)
theorem dJ5_charAt_2 : decode cJ5_charAt 2 = .ok (.invokestatic 67, 3) := dk_184 0 67 (dk_at dksJ5_charAt_0 2 rfl rfl)
theorem dJ5_charAt_5 : decode cJ5_charAt 5 = .ok (.aload_n 0, 1) := dk_42 (dk_at dksJ5_charAt_0 5 rfl rfl)
theorem dJ5_charAt_6 : decode cJ5_charAt 6 = .ok (.iload_n 1, 1) := dk_27 (dk_at dksJ5_charAt_0 6 rfl rfl)
theorem dJ5_charAt_7 : decode cJ5_charAt 7 = .ok (.invokestatic 71, 3) := dk_184 0 71 (dk_at dksJ5_charAt_0 7 rfl rfl)
theorem dJ5_charAt_10 : decode cJ5_charAt 10 = .ok (.ireturn, 1) := dk_172 (dk_at dksJ5_charAt_0 10 rfl rfl)
abbrev cJ5_checkIndex : ByteArray := prog_26_method_91_code
def yJ5_checkIndex : MethodName := ⟨RJ5, "checkIndex", "(I[B)V"⟩
def dkwJ5_checkIndex_0 : List UInt8 := [26, 43, 184, 0, 48, 184, 1, 158, 177]
abbrev dktJ5_checkIndex_0 : List UInt8 := dkwJ5_checkIndex_0 ++ []
theorem dksJ5_checkIndex_0 : cJ5_checkIndex.data.toList.drop 0 = dktJ5_checkIndex_0 := by decide +kernel
theorem dJ5_checkIndex_0 : decode cJ5_checkIndex 0 = .ok (.iload_n 0, 1) := dk_26 (dk_at dksJ5_checkIndex_0 0 rfl rfl)
theorem dJ5_checkIndex_1 : decode cJ5_checkIndex 1 = .ok (.aload_n 1, 1) := dk_43 (dk_at dksJ5_checkIndex_0 1 rfl rfl)
theorem dJ5_checkIndex_2 : decode cJ5_checkIndex 2 = .ok (.invokestatic 48, 3) := dk_184 0 48 (dk_at dksJ5_checkIndex_0 2 rfl rfl)
theorem dJ5_checkIndex_5 : decode cJ5_checkIndex 5 = .ok (.invokestatic 414, 3) := dk_184 1 158 (dk_at dksJ5_checkIndex_0 5 rfl rfl)
theorem dJ5_checkIndex_8 : decode cJ5_checkIndex 8 = .ok (.return_, 1) := dk_177 (dk_at dksJ5_checkIndex_0 8 rfl rfl)
abbrev cJ5_length : ByteArray := prog_26_method_6_code
def yJ5_length : MethodName := ⟨RJ5, "length", "([B)I"⟩
def dkwJ5_length_0 : List UInt8 := [42, 190, 4, 122, 172]
abbrev dktJ5_length_0 : List UInt8 := dkwJ5_length_0 ++ []
theorem dksJ5_length_0 : cJ5_length.data.toList.drop 0 = dktJ5_length_0 := by decide +kernel
theorem dJ5_length_0 : decode cJ5_length 0 = .ok (.aload_n 0, 1) := dk_42 (dk_at dksJ5_length_0 0 rfl rfl)
theorem dJ5_length_1 : decode cJ5_length 1 = .ok (.arraylength, 1) := dk_190 (dk_at dksJ5_length_0 1 rfl rfl)
theorem dJ5_length_2 : decode cJ5_length 2 = .ok (.iconst 1, 1) := dk_4 (dk_at dksJ5_length_0 2 rfl rfl)
theorem dJ5_length_3 : decode cJ5_length 3 = .ok (.ishr, 1) := dk_122 (dk_at dksJ5_length_0 3 rfl rfl)
theorem dJ5_length_4 : decode cJ5_length 4 = .ok (.ireturn, 1) := dk_172 (dk_at dksJ5_length_0 4 rfl rfl)
abbrev cJ5_getChar : ByteArray := prog_26_method_5_code
def yJ5_getChar : MethodName := ⟨RJ5, "getChar", "([BI)C"⟩
def dkwJ5_getChar_2 : List UInt8 := [51, 17, 0, 255, 126, 178, 0, 63, 120, 128, 146, 172]
abbrev dktJ5_getChar_2 : List UInt8 := dkwJ5_getChar_2 ++ []
def dkwJ5_getChar_1 : List UInt8 := [183, 0, 56, 191, 27, 4, 120, 60, 42, 27, 132, 1, 1, 51, 17, 0, 255, 126, 178, 0, 59, 120, 42, 27]
abbrev dktJ5_getChar_1 : List UInt8 := dkwJ5_getChar_1 ++ dktJ5_getChar_2
def dkwJ5_getChar_0 : List UInt8 := [178, 0, 44, 154, 0, 25, 27, 155, 0, 11, 27, 42, 184, 0, 48, 161, 0, 13, 187, 0, 52, 89, 18, 54]
abbrev dktJ5_getChar_0 : List UInt8 := dkwJ5_getChar_0 ++ dktJ5_getChar_1
theorem dksJ5_getChar_0 : cJ5_getChar.data.toList.drop 0 = dktJ5_getChar_0 := by decide +kernel
theorem dksJ5_getChar_1 : cJ5_getChar.data.toList.drop 24 = dktJ5_getChar_1 := dk_seg dksJ5_getChar_0 24 rfl rfl
theorem dksJ5_getChar_2 : cJ5_getChar.data.toList.drop 48 = dktJ5_getChar_2 := dk_seg dksJ5_getChar_1 24 rfl rfl
theorem dJ5_getChar_0 : decode cJ5_getChar 0 = .ok (.getstatic 44, 3) := dk_178 0 44 (dk_at dksJ5_getChar_0 0 rfl rfl)
theorem dJ5_getChar_3 : decode cJ5_getChar 3 = .ok (.ifCond .ne 25, 3) := dk_154 0 25 (dk_at dksJ5_getChar_0 3 rfl rfl)
theorem dJ5_getChar_6 : decode cJ5_getChar 6 = .ok (.iload_n 1, 1) := dk_27 (dk_at dksJ5_getChar_0 6 rfl rfl)
theorem dJ5_getChar_7 : decode cJ5_getChar 7 = .ok (.ifCond .lt 11, 3) := dk_155 0 11 (dk_at dksJ5_getChar_0 7 rfl rfl)
theorem dJ5_getChar_10 : decode cJ5_getChar 10 = .ok (.iload_n 1, 1) := dk_27 (dk_at dksJ5_getChar_0 10 rfl rfl)
theorem dJ5_getChar_11 : decode cJ5_getChar 11 = .ok (.aload_n 0, 1) := dk_42 (dk_at dksJ5_getChar_0 11 rfl rfl)
theorem dJ5_getChar_12 : decode cJ5_getChar 12 = .ok (.invokestatic 48, 3) := dk_184 0 48 (dk_at dksJ5_getChar_0 12 rfl rfl)
theorem dJ5_getChar_15 : decode cJ5_getChar 15 = .ok (.if_icmp .lt 13, 3) := dk_161 0 13 (dk_at dksJ5_getChar_0 15 rfl rfl)
theorem dJ5_getChar_18 : decode cJ5_getChar 18 = .ok (.new 52, 3) := dk_187 0 52 (dk_at dksJ5_getChar_0 18 rfl rfl)
theorem dJ5_getChar_21 : decode cJ5_getChar 21 = .ok (.dup, 1) := dk_89 (dk_at dksJ5_getChar_0 21 rfl rfl)
theorem dJ5_getChar_22 : decode cJ5_getChar 22 = .ok (.ldc 54, 2) := dk_18 54 (dk_at dksJ5_getChar_0 22 rfl rfl)
theorem dJ5_getChar_24 : decode cJ5_getChar 24 = .ok (.invokespecial 56, 3) := dk_183 0 56 (dk_at dksJ5_getChar_1 0 rfl rfl)
theorem dJ5_getChar_27 : decode cJ5_getChar 27 = .ok (.athrow, 1) := dk_191 (dk_at dksJ5_getChar_1 3 rfl rfl)
theorem dJ5_getChar_28 : decode cJ5_getChar 28 = .ok (.iload_n 1, 1) := dk_27 (dk_at dksJ5_getChar_1 4 rfl rfl)
theorem dJ5_getChar_29 : decode cJ5_getChar 29 = .ok (.iconst 1, 1) := dk_4 (dk_at dksJ5_getChar_1 5 rfl rfl)
theorem dJ5_getChar_30 : decode cJ5_getChar 30 = .ok (.ishl, 1) := dk_120 (dk_at dksJ5_getChar_1 6 rfl rfl)
theorem dJ5_getChar_31 : decode cJ5_getChar 31 = .ok (.istore_n 1, 1) := dk_60 (dk_at dksJ5_getChar_1 7 rfl rfl)
theorem dJ5_getChar_32 : decode cJ5_getChar 32 = .ok (.aload_n 0, 1) := dk_42 (dk_at dksJ5_getChar_1 8 rfl rfl)
theorem dJ5_getChar_33 : decode cJ5_getChar 33 = .ok (.iload_n 1, 1) := dk_27 (dk_at dksJ5_getChar_1 9 rfl rfl)
theorem dJ5_getChar_34 : decode cJ5_getChar 34 = .ok (.iinc 1 1, 3) := dk_132 1 1 (dk_at dksJ5_getChar_1 10 rfl rfl)
theorem dJ5_getChar_37 : decode cJ5_getChar 37 = .ok (.baload, 1) := dk_51 (dk_at dksJ5_getChar_1 13 rfl rfl)
theorem dJ5_getChar_38 : decode cJ5_getChar 38 = .ok (.sipush 255, 3) := dk_17 0 255 (dk_at dksJ5_getChar_1 14 rfl rfl)
theorem dJ5_getChar_41 : decode cJ5_getChar 41 = .ok (.iand, 1) := dk_126 (dk_at dksJ5_getChar_1 17 rfl rfl)
theorem dJ5_getChar_42 : decode cJ5_getChar 42 = .ok (.getstatic 59, 3) := dk_178 0 59 (dk_at dksJ5_getChar_1 18 rfl rfl)
theorem dJ5_getChar_45 : decode cJ5_getChar 45 = .ok (.ishl, 1) := dk_120 (dk_at dksJ5_getChar_1 21 rfl rfl)
theorem dJ5_getChar_46 : decode cJ5_getChar 46 = .ok (.aload_n 0, 1) := dk_42 (dk_at dksJ5_getChar_1 22 rfl rfl)
theorem dJ5_getChar_47 : decode cJ5_getChar 47 = .ok (.iload_n 1, 1) := dk_27 (dk_at dksJ5_getChar_1 23 rfl rfl)
theorem dJ5_getChar_48 : decode cJ5_getChar 48 = .ok (.baload, 1) := dk_51 (dk_at dksJ5_getChar_2 0 rfl rfl)
theorem dJ5_getChar_49 : decode cJ5_getChar 49 = .ok (.sipush 255, 3) := dk_17 0 255 (dk_at dksJ5_getChar_2 1 rfl rfl)
theorem dJ5_getChar_52 : decode cJ5_getChar 52 = .ok (.iand, 1) := dk_126 (dk_at dksJ5_getChar_2 4 rfl rfl)
theorem dJ5_getChar_53 : decode cJ5_getChar 53 = .ok (.getstatic 63, 3) := dk_178 0 63 (dk_at dksJ5_getChar_2 5 rfl rfl)
theorem dJ5_getChar_56 : decode cJ5_getChar 56 = .ok (.ishl, 1) := dk_120 (dk_at dksJ5_getChar_2 8 rfl rfl)
theorem dJ5_getChar_57 : decode cJ5_getChar 57 = .ok (.ior, 1) := dk_128 (dk_at dksJ5_getChar_2 9 rfl rfl)
theorem dJ5_getChar_58 : decode cJ5_getChar 58 = .ok (.i2c, 1) := dk_146 (dk_at dksJ5_getChar_2 10 rfl rfl)
theorem dJ5_getChar_59 : decode cJ5_getChar 59 = .ok (.ireturn, 1) := dk_172 (dk_at dksJ5_getChar_2 11 rfl rfl)
theorem q73 : (Jvm.Cond.initialized "java/lang/StringUTF16") ∈ lw_all := lw_g (lw_at lw_m1 13 rfl) rfl
theorem q487 : (Jvm.Cond.static ({ cls := "java/lang/StringUTF16", name := "charAt", desc := "([BI)C" } : Jvm.MethodName)) ∈ lw_all := lw_g (lw_at lw_m2 187 rfl) rfl
theorem q488 : (Jvm.Cond.code ({ cls := "java/lang/StringUTF16", name := "charAt", desc := "([BI)C" } : Jvm.MethodName) prog_26_method_83_code (2 : Nat) (Option.some Jvm.ClassFile.FieldType.char)) ∈ lw_all := lw_g (lw_at lw_m2 188 rfl) rfl
theorem q489 : (Jvm.Cond.methodLink "java/lang/StringUTF16" (67 : Nat) ({ cls := "java/lang/StringUTF16", name := "checkIndex", desc := "(I[B)V" } : Jvm.MethodName)) ∈ lw_all := lw_g (lw_at lw_m2 189 rfl) rfl
theorem q490 : (Jvm.Cond.static ({ cls := "java/lang/StringUTF16", name := "checkIndex", desc := "(I[B)V" } : Jvm.MethodName)) ∈ lw_all := lw_g (lw_at lw_m2 190 rfl) rfl
theorem q491 : (Jvm.Cond.code ({ cls := "java/lang/StringUTF16", name := "checkIndex", desc := "(I[B)V" } : Jvm.MethodName) prog_26_method_91_code (2 : Nat) (Option.none : Option Jvm.ClassFile.FieldType)) ∈ lw_all := lw_g (lw_at lw_m2 191 rfl) rfl
theorem q492 : (Jvm.Cond.methodLink "java/lang/StringUTF16" (48 : Nat) ({ cls := "java/lang/StringUTF16", name := "length", desc := "([B)I" } : Jvm.MethodName)) ∈ lw_all := lw_g (lw_at lw_m2 192 rfl) rfl
theorem q493 : (Jvm.Cond.static ({ cls := "java/lang/StringUTF16", name := "length", desc := "([B)I" } : Jvm.MethodName)) ∈ lw_all := lw_g (lw_at lw_m2 193 rfl) rfl
theorem q494 : (Jvm.Cond.code ({ cls := "java/lang/StringUTF16", name := "length", desc := "([B)I" } : Jvm.MethodName) prog_26_method_6_code (1 : Nat) (Option.some Jvm.ClassFile.FieldType.int)) ∈ lw_all := lw_g (lw_at lw_m2 194 rfl) rfl
theorem q495 : (Jvm.Cond.methodLink "java/lang/StringUTF16" (414 : Nat) ({ cls := "java/lang/String", name := "checkIndex", desc := "(II)V" } : Jvm.MethodName)) ∈ lw_all := lw_g (lw_at lw_m2 195 rfl) rfl
theorem q496 : (Jvm.Cond.methodLink "java/lang/StringUTF16" (71 : Nat) ({ cls := "java/lang/StringUTF16", name := "getChar", desc := "([BI)C" } : Jvm.MethodName)) ∈ lw_all := lw_g (lw_at lw_m2 196 rfl) rfl
theorem q497 : (Jvm.Cond.static ({ cls := "java/lang/StringUTF16", name := "getChar", desc := "([BI)C" } : Jvm.MethodName)) ∈ lw_all := lw_g (lw_at lw_m2 197 rfl) rfl
theorem q498 : (Jvm.Cond.code ({ cls := "java/lang/StringUTF16", name := "getChar", desc := "([BI)C" } : Jvm.MethodName) prog_26_method_5_code (2 : Nat) (Option.some Jvm.ClassFile.FieldType.char)) ∈ lw_all := lw_g (lw_at lw_m2 198 rfl) rfl
theorem q499 : (Jvm.Cond.fieldLink "java/lang/StringUTF16" (44 : Nat) "java/lang/StringUTF16" "$assertionsDisabled" "Z") ∈ lw_all := lw_g (lw_at lw_m2 199 rfl) rfl
theorem q500 : (Jvm.Cond.laysStatic "java/lang/StringUTF16" "$assertionsDisabled" "Z") ∈ lw_tbl := lw_at lw_m2 200 rfl
theorem q501 : (Jvm.Cond.fieldLink "java/lang/StringUTF16" (59 : Nat) "java/lang/StringUTF16" "HI_BYTE_SHIFT" "I") ∈ lw_all := lw_g (lw_at lw_m2 201 rfl) rfl
theorem q502 : (Jvm.Cond.laysStatic "java/lang/StringUTF16" "HI_BYTE_SHIFT" "I") ∈ lw_tbl := lw_at lw_m2 202 rfl
theorem q503 : (Jvm.Cond.fieldLink "java/lang/StringUTF16" (63 : Nat) "java/lang/StringUTF16" "LO_BYTE_SHIFT" "I") ∈ lw_all := lw_g (lw_at lw_m2 203 rfl) rfl
theorem q504 : (Jvm.Cond.laysStatic "java/lang/StringUTF16" "LO_BYTE_SHIFT" "I") ∈ lw_tbl := lw_at lw_m2 204 rfl
/-! java/lang/Math -/
set_option maxRecDepth 100000
def RJ6 : String := "java/lang/Math"
abbrev cJ6_min : ByteArray := prog_23_method_69_code
def yJ6_min : MethodName := ⟨RJ6, "min", "(II)I"⟩
def dkwJ6_min_0 : List UInt8 := [26, 27, 163, 0, 7, 26, 167, 0, 4, 27, 172]
abbrev dktJ6_min_0 : List UInt8 := dkwJ6_min_0 ++ []
theorem dksJ6_min_0 : cJ6_min.data.toList.drop 0 = dktJ6_min_0 := by decide +kernel
theorem dJ6_min_0 : decode cJ6_min 0 = .ok (.iload_n 0, 1) := dk_26 (dk_at dksJ6_min_0 0 rfl rfl)
theorem dJ6_min_1 : decode cJ6_min 1 = .ok (.iload_n 1, 1) := dk_27 (dk_at dksJ6_min_0 1 rfl rfl)
theorem dJ6_min_2 : decode cJ6_min 2 = .ok (.if_icmp .gt 7, 3) := dk_163 0 7 (dk_at dksJ6_min_0 2 rfl rfl)
theorem dJ6_min_5 : decode cJ6_min 5 = .ok (.iload_n 0, 1) := dk_26 (dk_at dksJ6_min_0 5 rfl rfl)
theorem dJ6_min_6 : decode cJ6_min 6 = .ok (.goto 4, 3) := dk_167 0 4 (dk_at dksJ6_min_0 6 rfl rfl)
theorem dJ6_min_9 : decode cJ6_min 9 = .ok (.iload_n 1, 1) := dk_27 (dk_at dksJ6_min_0 9 rfl rfl)
theorem dJ6_min_10 : decode cJ6_min 10 = .ok (.ireturn, 1) := dk_172 (dk_at dksJ6_min_0 10 rfl rfl)
abbrev cJ6_abs : ByteArray := prog_23_method_59_code
def yJ6_abs : MethodName := ⟨RJ6, "abs", "(I)I"⟩
def dkwJ6_abs_0 : List UInt8 := [26, 156, 0, 8, 26, 116, 167, 0, 4, 26, 172]
abbrev dktJ6_abs_0 : List UInt8 := dkwJ6_abs_0 ++ []
theorem dksJ6_abs_0 : cJ6_abs.data.toList.drop 0 = dktJ6_abs_0 := by decide +kernel
theorem dJ6_abs_0 : decode cJ6_abs 0 = .ok (.iload_n 0, 1) := dk_26 (dk_at dksJ6_abs_0 0 rfl rfl)
theorem dJ6_abs_1 : decode cJ6_abs 1 = .ok (.ifCond .ge 8, 3) := dk_156 0 8 (dk_at dksJ6_abs_0 1 rfl rfl)
theorem dJ6_abs_4 : decode cJ6_abs 4 = .ok (.iload_n 0, 1) := dk_26 (dk_at dksJ6_abs_0 4 rfl rfl)
theorem dJ6_abs_5 : decode cJ6_abs 5 = .ok (.ineg, 1) := dk_116 (dk_at dksJ6_abs_0 5 rfl rfl)
theorem dJ6_abs_6 : decode cJ6_abs 6 = .ok (.goto 4, 3) := dk_167 0 4 (dk_at dksJ6_abs_0 6 rfl rfl)
theorem dJ6_abs_9 : decode cJ6_abs 9 = .ok (.iload_n 0, 1) := dk_26 (dk_at dksJ6_abs_0 9 rfl rfl)
theorem dJ6_abs_10 : decode cJ6_abs 10 = .ok (.ireturn, 1) := dk_172 (dk_at dksJ6_abs_0 10 rfl rfl)
abbrev cJ6_max : ByteArray := prog_23_method_65_code
def yJ6_max : MethodName := ⟨RJ6, "max", "(II)I"⟩
def dkwJ6_max_0 : List UInt8 := [26, 27, 161, 0, 7, 26, 167, 0, 4, 27, 172]
abbrev dktJ6_max_0 : List UInt8 := dkwJ6_max_0 ++ []
theorem dksJ6_max_0 : cJ6_max.data.toList.drop 0 = dktJ6_max_0 := by decide +kernel
theorem dJ6_max_0 : decode cJ6_max 0 = .ok (.iload_n 0, 1) := dk_26 (dk_at dksJ6_max_0 0 rfl rfl)
theorem dJ6_max_1 : decode cJ6_max 1 = .ok (.iload_n 1, 1) := dk_27 (dk_at dksJ6_max_0 1 rfl rfl)
theorem dJ6_max_2 : decode cJ6_max 2 = .ok (.if_icmp .lt 7, 3) := dk_161 0 7 (dk_at dksJ6_max_0 2 rfl rfl)
theorem dJ6_max_5 : decode cJ6_max 5 = .ok (.iload_n 0, 1) := dk_26 (dk_at dksJ6_max_0 5 rfl rfl)
theorem dJ6_max_6 : decode cJ6_max 6 = .ok (.goto 4, 3) := dk_167 0 4 (dk_at dksJ6_max_0 6 rfl rfl)
theorem dJ6_max_9 : decode cJ6_max 9 = .ok (.iload_n 1, 1) := dk_27 (dk_at dksJ6_max_0 9 rfl rfl)
theorem dJ6_max_10 : decode cJ6_max 10 = .ok (.ireturn, 1) := dk_172 (dk_at dksJ6_max_0 10 rfl rfl)
theorem q74 : (Jvm.Cond.initialized "java/lang/Math") ∈ lw_all := lw_g (lw_at lw_m1 14 rfl) rfl
theorem q581 : (Jvm.Cond.static ({ cls := "java/lang/Math", name := "min", desc := "(II)I" } : Jvm.MethodName)) ∈ lw_all := lw_g (lw_at lw_m3 41 rfl) rfl
theorem q582 : (Jvm.Cond.code ({ cls := "java/lang/Math", name := "min", desc := "(II)I" } : Jvm.MethodName) prog_23_method_69_code (2 : Nat) (Option.some Jvm.ClassFile.FieldType.int)) ∈ lw_all := lw_g (lw_at lw_m3 42 rfl) rfl
theorem q769 : (Jvm.Cond.static ({ cls := "java/lang/Math", name := "abs", desc := "(I)I" } : Jvm.MethodName)) ∈ lw_all := lw_g (lw_at lw_m3 229 rfl) rfl
theorem q770 : (Jvm.Cond.code ({ cls := "java/lang/Math", name := "abs", desc := "(I)I" } : Jvm.MethodName) prog_23_method_59_code (1 : Nat) (Option.some Jvm.ClassFile.FieldType.int)) ∈ lw_all := lw_g (lw_at lw_m3 230 rfl) rfl
theorem q794 : (Jvm.Cond.static ({ cls := "java/lang/Math", name := "max", desc := "(II)I" } : Jvm.MethodName)) ∈ lw_all := lw_g (lw_at lw_m4 14 rfl) rfl
theorem q795 : (Jvm.Cond.code ({ cls := "java/lang/Math", name := "max", desc := "(II)I" } : Jvm.MethodName) prog_23_method_65_code (2 : Nat) (Option.some Jvm.ClassFile.FieldType.int)) ∈ lw_all := lw_g (lw_at lw_m4 15 rfl) rfl
/-! java/lang/Integer -/
set_option maxRecDepth 100000
def RJ7 : String := "java/lang/Integer"
abbrev cJ7_bitCount : ByteArray := prog_22_method_49_code
def yJ7_bitCount : MethodName := ⟨RJ7, "bitCount", "(I)I"⟩
def dkwJ7_bitCount_2 : List UInt8 := [26, 16, 63, 126, 172]
abbrev dktJ7_bitCount_2 : List UInt8 := dkwJ7_bitCount_2 ++ []
def dkwJ7_bitCount_1 : List UInt8 := [26, 26, 7, 124, 96, 19, 1, 11, 126, 59, 26, 26, 16, 8, 124, 96, 59, 26, 26, 16, 16, 124, 96, 59]
abbrev dktJ7_bitCount_1 : List UInt8 := dkwJ7_bitCount_1 ++ dktJ7_bitCount_2
def dkwJ7_bitCount_0 : List UInt8 := [26, 26, 4, 124, 19, 1, 9, 126, 100, 59, 26, 19, 1, 10, 126, 26, 5, 124, 19, 1, 10, 126, 96, 59]
abbrev dktJ7_bitCount_0 : List UInt8 := dkwJ7_bitCount_0 ++ dktJ7_bitCount_1
theorem dksJ7_bitCount_0 : cJ7_bitCount.data.toList.drop 0 = dktJ7_bitCount_0 := by decide +kernel
theorem dksJ7_bitCount_1 : cJ7_bitCount.data.toList.drop 24 = dktJ7_bitCount_1 := dk_seg dksJ7_bitCount_0 24 rfl rfl
theorem dksJ7_bitCount_2 : cJ7_bitCount.data.toList.drop 48 = dktJ7_bitCount_2 := dk_seg dksJ7_bitCount_1 24 rfl rfl
theorem dJ7_bitCount_0 : decode cJ7_bitCount 0 = .ok (.iload_n 0, 1) := dk_26 (dk_at dksJ7_bitCount_0 0 rfl rfl)
theorem dJ7_bitCount_1 : decode cJ7_bitCount 1 = .ok (.iload_n 0, 1) := dk_26 (dk_at dksJ7_bitCount_0 1 rfl rfl)
theorem dJ7_bitCount_2 : decode cJ7_bitCount 2 = .ok (.iconst 1, 1) := dk_4 (dk_at dksJ7_bitCount_0 2 rfl rfl)
theorem dJ7_bitCount_3 : decode cJ7_bitCount 3 = .ok (.iushr, 1) := dk_124 (dk_at dksJ7_bitCount_0 3 rfl rfl)
theorem dJ7_bitCount_4 : decode cJ7_bitCount 4 = .ok (.ldc_w 265, 3) := dk_19 1 9 (dk_at dksJ7_bitCount_0 4 rfl rfl)
theorem dJ7_bitCount_7 : decode cJ7_bitCount 7 = .ok (.iand, 1) := dk_126 (dk_at dksJ7_bitCount_0 7 rfl rfl)
theorem dJ7_bitCount_8 : decode cJ7_bitCount 8 = .ok (.isub, 1) := dk_100 (dk_at dksJ7_bitCount_0 8 rfl rfl)
theorem dJ7_bitCount_9 : decode cJ7_bitCount 9 = .ok (.istore_n 0, 1) := dk_59 (dk_at dksJ7_bitCount_0 9 rfl rfl)
theorem dJ7_bitCount_10 : decode cJ7_bitCount 10 = .ok (.iload_n 0, 1) := dk_26 (dk_at dksJ7_bitCount_0 10 rfl rfl)
theorem dJ7_bitCount_11 : decode cJ7_bitCount 11 = .ok (.ldc_w 266, 3) := dk_19 1 10 (dk_at dksJ7_bitCount_0 11 rfl rfl)
theorem dJ7_bitCount_14 : decode cJ7_bitCount 14 = .ok (.iand, 1) := dk_126 (dk_at dksJ7_bitCount_0 14 rfl rfl)
theorem dJ7_bitCount_15 : decode cJ7_bitCount 15 = .ok (.iload_n 0, 1) := dk_26 (dk_at dksJ7_bitCount_0 15 rfl rfl)
theorem dJ7_bitCount_16 : decode cJ7_bitCount 16 = .ok (.iconst 2, 1) := dk_5 (dk_at dksJ7_bitCount_0 16 rfl rfl)
theorem dJ7_bitCount_17 : decode cJ7_bitCount 17 = .ok (.iushr, 1) := dk_124 (dk_at dksJ7_bitCount_0 17 rfl rfl)
theorem dJ7_bitCount_18 : decode cJ7_bitCount 18 = .ok (.ldc_w 266, 3) := dk_19 1 10 (dk_at dksJ7_bitCount_0 18 rfl rfl)
theorem dJ7_bitCount_21 : decode cJ7_bitCount 21 = .ok (.iand, 1) := dk_126 (dk_at dksJ7_bitCount_0 21 rfl rfl)
theorem dJ7_bitCount_22 : decode cJ7_bitCount 22 = .ok (.iadd, 1) := dk_96 (dk_at dksJ7_bitCount_0 22 rfl rfl)
theorem dJ7_bitCount_23 : decode cJ7_bitCount 23 = .ok (.istore_n 0, 1) := dk_59 (dk_at dksJ7_bitCount_0 23 rfl rfl)
theorem dJ7_bitCount_24 : decode cJ7_bitCount 24 = .ok (.iload_n 0, 1) := dk_26 (dk_at dksJ7_bitCount_1 0 rfl rfl)
theorem dJ7_bitCount_25 : decode cJ7_bitCount 25 = .ok (.iload_n 0, 1) := dk_26 (dk_at dksJ7_bitCount_1 1 rfl rfl)
theorem dJ7_bitCount_26 : decode cJ7_bitCount 26 = .ok (.iconst 4, 1) := dk_7 (dk_at dksJ7_bitCount_1 2 rfl rfl)
theorem dJ7_bitCount_27 : decode cJ7_bitCount 27 = .ok (.iushr, 1) := dk_124 (dk_at dksJ7_bitCount_1 3 rfl rfl)
theorem dJ7_bitCount_28 : decode cJ7_bitCount 28 = .ok (.iadd, 1) := dk_96 (dk_at dksJ7_bitCount_1 4 rfl rfl)
theorem dJ7_bitCount_29 : decode cJ7_bitCount 29 = .ok (.ldc_w 267, 3) := dk_19 1 11 (dk_at dksJ7_bitCount_1 5 rfl rfl)
theorem dJ7_bitCount_32 : decode cJ7_bitCount 32 = .ok (.iand, 1) := dk_126 (dk_at dksJ7_bitCount_1 8 rfl rfl)
theorem dJ7_bitCount_33 : decode cJ7_bitCount 33 = .ok (.istore_n 0, 1) := dk_59 (dk_at dksJ7_bitCount_1 9 rfl rfl)
theorem dJ7_bitCount_34 : decode cJ7_bitCount 34 = .ok (.iload_n 0, 1) := dk_26 (dk_at dksJ7_bitCount_1 10 rfl rfl)
theorem dJ7_bitCount_35 : decode cJ7_bitCount 35 = .ok (.iload_n 0, 1) := dk_26 (dk_at dksJ7_bitCount_1 11 rfl rfl)
theorem dJ7_bitCount_36 : decode cJ7_bitCount 36 = .ok (.bipush 8, 2) := dk_16 8 (dk_at dksJ7_bitCount_1 12 rfl rfl)
theorem dJ7_bitCount_38 : decode cJ7_bitCount 38 = .ok (.iushr, 1) := dk_124 (dk_at dksJ7_bitCount_1 14 rfl rfl)
theorem dJ7_bitCount_39 : decode cJ7_bitCount 39 = .ok (.iadd, 1) := dk_96 (dk_at dksJ7_bitCount_1 15 rfl rfl)
theorem dJ7_bitCount_40 : decode cJ7_bitCount 40 = .ok (.istore_n 0, 1) := dk_59 (dk_at dksJ7_bitCount_1 16 rfl rfl)
theorem dJ7_bitCount_41 : decode cJ7_bitCount 41 = .ok (.iload_n 0, 1) := dk_26 (dk_at dksJ7_bitCount_1 17 rfl rfl)
theorem dJ7_bitCount_42 : decode cJ7_bitCount 42 = .ok (.iload_n 0, 1) := dk_26 (dk_at dksJ7_bitCount_1 18 rfl rfl)
theorem dJ7_bitCount_43 : decode cJ7_bitCount 43 = .ok (.bipush 16, 2) := dk_16 16 (dk_at dksJ7_bitCount_1 19 rfl rfl)
theorem dJ7_bitCount_45 : decode cJ7_bitCount 45 = .ok (.iushr, 1) := dk_124 (dk_at dksJ7_bitCount_1 21 rfl rfl)
theorem dJ7_bitCount_46 : decode cJ7_bitCount 46 = .ok (.iadd, 1) := dk_96 (dk_at dksJ7_bitCount_1 22 rfl rfl)
theorem dJ7_bitCount_47 : decode cJ7_bitCount 47 = .ok (.istore_n 0, 1) := dk_59 (dk_at dksJ7_bitCount_1 23 rfl rfl)
theorem dJ7_bitCount_48 : decode cJ7_bitCount 48 = .ok (.iload_n 0, 1) := dk_26 (dk_at dksJ7_bitCount_2 0 rfl rfl)
theorem dJ7_bitCount_49 : decode cJ7_bitCount 49 = .ok (.bipush 63, 2) := dk_16 63 (dk_at dksJ7_bitCount_2 1 rfl rfl)
theorem dJ7_bitCount_51 : decode cJ7_bitCount 51 = .ok (.iand, 1) := dk_126 (dk_at dksJ7_bitCount_2 3 rfl rfl)
theorem dJ7_bitCount_52 : decode cJ7_bitCount 52 = .ok (.ireturn, 1) := dk_172 (dk_at dksJ7_bitCount_2 4 rfl rfl)
theorem q76 : (Jvm.Cond.initialized "java/lang/Integer") ∈ lw_all := lw_g (lw_at lw_m1 16 rfl) rfl
theorem q724 : (Jvm.Cond.static ({ cls := "java/lang/Integer", name := "bitCount", desc := "(I)I" } : Jvm.MethodName)) ∈ lw_all := lw_g (lw_at lw_m3 184 rfl) rfl
theorem q725 : (Jvm.Cond.code ({ cls := "java/lang/Integer", name := "bitCount", desc := "(I)I" } : Jvm.MethodName) prog_22_method_49_code (1 : Nat) (Option.some Jvm.ClassFile.FieldType.int)) ∈ lw_all := lw_g (lw_at lw_m3 185 rfl) rfl
theorem q726 : (Jvm.Cond.constant "java/lang/Integer" (265 : Nat) (1431655765 : Int32)) ∈ lw_all := lw_g (lw_at lw_m3 186 rfl) rfl
theorem q727 : (Jvm.Cond.constant "java/lang/Integer" (266 : Nat) (858993459 : Int32)) ∈ lw_all := lw_g (lw_at lw_m3 187 rfl) rfl
theorem q728 : (Jvm.Cond.constant "java/lang/Integer" (267 : Nat) (252645135 : Int32)) ∈ lw_all := lw_g (lw_at lw_m3 188 rfl) rfl
/-! java/lang/Object -/
set_option maxRecDepth 100000
def RJ8 : String := "java/lang/Object"
abbrev cJ8_init : ByteArray := object_method_1_code
def yJ8_init : MethodName := ⟨RJ8, "<init>", "()V"⟩
theorem dJ8_init_0 : decode cJ8_init 0 = .ok (.return_, 1) := by decide +kernel
theorem q83 : (Jvm.Cond.instanceMethod ({ cls := "java/lang/Object", name := "<init>", desc := "()V" } : Jvm.MethodName)) ∈ lw_all := lw_g (lw_at lw_m1 23 rfl) rfl
theorem q84 : (Jvm.Cond.code ({ cls := "java/lang/Object", name := "<init>", desc := "()V" } : Jvm.MethodName) object_method_1_code (1 : Nat) (Option.none : Option Jvm.ClassFile.FieldType)) ∈ lw_all := lw_g (lw_at lw_m1 24 rfl) rfl
theorem q60 : (Jvm.Cond.initialized "LaneCymbalsLaw") ∈ lw_all := lw_g (lw_at lw_m1 0 rfl) rfl
set_option maxRecDepth 100000
theorem q77 : (Jvm.Cond.classLink "LaneCymbalsLaw" (7 : Nat) "LaneCymbals") ∈ lw_all := lw_g (lw_at lw_m1 17 rfl) rfl
theorem q79 : (Jvm.Cond.methodLink "LaneCymbalsLaw" (9 : Nat) ({ cls := "LaneCymbals", name := "<init>", desc := "()V" } : Jvm.MethodName)) ∈ lw_all := lw_g (lw_at lw_m1 19 rfl) rfl
theorem q291 : (Jvm.Cond.methodLink "LaneCymbalsLaw" (13 : Nat) ({ cls := "LaneCymbals", name := "lane", desc := "(I)I" } : Jvm.MethodName)) ∈ lw_all := lw_g (lw_at lw_m1 231 rfl) rfl
theorem q311 : (Jvm.Cond.methodLink "LaneCymbalsLaw" (18 : Nat) ({ cls := "LaneCymbals", name := "wide", desc := "(I)I" } : Jvm.MethodName)) ∈ lw_all := lw_g (lw_at lw_m2 11 rfl) rfl
theorem q315 : (Jvm.Cond.methodLink "LaneCymbalsLaw" (22 : Nat) ({ cls := "LaneCymbals", name := "one", desc := "(III)I" } : Jvm.MethodName)) ∈ lw_all := lw_g (lw_at lw_m2 15 rfl) rfl
theorem q340 : (Jvm.Cond.methodLink "LaneCymbalsLaw" (27 : Nat) ({ cls := "LaneCymbals", name := "aunt", desc := "(II)I" } : Jvm.MethodName)) ∈ lw_all := lw_g (lw_at lw_m2 40 rfl) rfl
theorem q350 : (Jvm.Cond.methodLink "LaneCymbalsLaw" (32 : Nat) ({ cls := "LaneCymbals", name := "type", desc := "(I)I" } : Jvm.MethodName)) ∈ lw_all := lw_g (lw_at lw_m2 50 rfl) rfl
theorem q355 : (Jvm.Cond.methodLink "LaneCymbalsLaw" (36 : Nat) ({ cls := "LaneCymbals", name := "clear", desc := "()I" } : Jvm.MethodName)) ∈ lw_all := lw_g (lw_at lw_m2 55 rfl) rfl
theorem q359 : (Jvm.Cond.methodLink "LaneCymbalsLaw" (41 : Nat) ({ cls := "LaneCymbals", name := "read", desc := "()I" } : Jvm.MethodName)) ∈ lw_all := lw_g (lw_at lw_m2 59 rfl) rfl
theorem q612 : (Jvm.Cond.methodLink "LaneCymbalsLaw" (45 : Nat) ({ cls := "LaneCymbals", name := "counts", desc := "(I)I" } : Jvm.MethodName)) ∈ lw_all := lw_g (lw_at lw_m3 72 rfl) rfl
theorem q622 : (Jvm.Cond.methodLink "LaneCymbalsLaw" (49 : Nat) ({ cls := "LaneCymbals", name := "swings", desc := "(II)I" } : Jvm.MethodName)) ∈ lw_all := lw_g (lw_at lw_m3 82 rfl) rfl
theorem q634 : (Jvm.Cond.methodLink "LaneCymbalsLaw" (53 : Nat) ({ cls := "LaneCymbals", name := "sends", desc := "(II)I" } : Jvm.MethodName)) ∈ lw_all := lw_g (lw_at lw_m3 94 rfl) rfl
theorem q642 : (Jvm.Cond.methodLink "LaneCymbalsLaw" (57 : Nat) ({ cls := "LaneCymbals", name := "undo", desc := "()I" } : Jvm.MethodName)) ∈ lw_all := lw_g (lw_at lw_m3 102 rfl) rfl
theorem q647 : (Jvm.Cond.methodLink "LaneCymbalsLaw" (61 : Nat) ({ cls := "LaneCymbals", name := "of", desc := "(II)I" } : Jvm.MethodName)) ∈ lw_all := lw_g (lw_at lw_m3 107 rfl) rfl
theorem q672 : (Jvm.Cond.methodLink "LaneCymbalsLaw" (65 : Nat) ({ cls := "LaneCymbals", name := "about", desc := "(II)I" } : Jvm.MethodName)) ∈ lw_all := lw_g (lw_at lw_m3 132 rfl) rfl
theorem q696 : (Jvm.Cond.methodLink "LaneCymbalsLaw" (69 : Nat) ({ cls := "LaneCymbals", name := "leans", desc := "(III)I" } : Jvm.MethodName)) ∈ lw_all := lw_g (lw_at lw_m3 156 rfl) rfl
theorem q705 : (Jvm.Cond.methodLink "LaneCymbalsLaw" (73 : Nat) ({ cls := "LaneCymbals", name := "sound", desc := "(I)I" } : Jvm.MethodName)) ∈ lw_all := lw_g (lw_at lw_m3 165 rfl) rfl
theorem q710 : (Jvm.Cond.methodLink "LaneCymbalsLaw" (77 : Nat) ({ cls := "LaneCymbals", name := "entry", desc := "()I" } : Jvm.MethodName)) ∈ lw_all := lw_g (lw_at lw_m3 170 rfl) rfl
theorem q714 : (Jvm.Cond.methodLink "LaneCymbalsLaw" (81 : Nat) ({ cls := "LaneCymbals", name := "then", desc := "(I)I" } : Jvm.MethodName)) ∈ lw_all := lw_g (lw_at lw_m3 174 rfl) rfl
theorem q719 : (Jvm.Cond.methodLink "LaneCymbalsLaw" (85 : Nat) ({ cls := "LaneCymbals", name := "still", desc := "(I)I" } : Jvm.MethodName)) ∈ lw_all := lw_g (lw_at lw_m3 179 rfl) rfl
theorem q734 : (Jvm.Cond.methodLink "LaneCymbalsLaw" (89 : Nat) ({ cls := "LaneCymbals", name := "push", desc := "(II)I" } : Jvm.MethodName)) ∈ lw_all := lw_g (lw_at lw_m3 194 rfl) rfl
theorem q738 : (Jvm.Cond.methodLink "LaneCymbalsLaw" (93 : Nat) ({ cls := "LaneCymbals", name := "widest", desc := "()I" } : Jvm.MethodName)) ∈ lw_all := lw_g (lw_at lw_m3 198 rfl) rfl
theorem q742 : (Jvm.Cond.methodLink "LaneCymbalsLaw" (97 : Nat) ({ cls := "LaneCymbals", name := "wrong", desc := "(I)I" } : Jvm.MethodName)) ∈ lw_all := lw_g (lw_at lw_m3 202 rfl) rfl
theorem q746 : (Jvm.Cond.methodLink "LaneCymbalsLaw" (101 : Nat) ({ cls := "LaneCymbals", name := "marry", desc := "(I)I" } : Jvm.MethodName)) ∈ lw_all := lw_g (lw_at lw_m3 206 rfl) rfl
theorem q771 : (Jvm.Cond.methodLink "LaneCymbalsLaw" (105 : Nat) ({ cls := "LaneCymbals", name := "heard", desc := "(II)I" } : Jvm.MethodName)) ∈ lw_all := lw_g (lw_at lw_m3 231 rfl) rfl
theorem q775 : (Jvm.Cond.methodLink "LaneCymbalsLaw" (109 : Nat) ({ cls := "LaneCymbals", name := "lanes", desc := "()I" } : Jvm.MethodName)) ∈ lw_all := lw_g (lw_at lw_m3 235 rfl) rfl
theorem q783 : (Jvm.Cond.methodLink "LaneCymbalsLaw" (113 : Nat) ({ cls := "LaneCymbals", name := "swung", desc := "(I)I" } : Jvm.MethodName)) ∈ lw_all := lw_g (lw_at lw_m4 3 rfl) rfl
theorem q787 : (Jvm.Cond.methodLink "LaneCymbalsLaw" (117 : Nat) ({ cls := "LaneCymbals", name := "hear", desc := "()I" } : Jvm.MethodName)) ∈ lw_all := lw_g (lw_at lw_m4 7 rfl) rfl
theorem q797 : (Jvm.Cond.methodLink "LaneCymbalsLaw" (121 : Nat) ({ cls := "LaneCymbals", name := "note", desc := "(IIII)I" } : Jvm.MethodName)) ∈ lw_all := lw_g (lw_at lw_m4 17 rfl) rfl
theorem q806 : (Jvm.Cond.methodLink "LaneCymbalsLaw" (126 : Nat) ({ cls := "LaneCymbals", name := "mark", desc := "(IIII)I" } : Jvm.MethodName)) ∈ lw_all := lw_g (lw_at lw_m4 26 rfl) rfl
theorem q810 : (Jvm.Cond.methodLink "LaneCymbalsLaw" (130 : Nat) ({ cls := "LaneCymbals", name := "forget", desc := "(I)I" } : Jvm.MethodName)) ∈ lw_all := lw_g (lw_at lw_m4 30 rfl) rfl
theorem q814 : (Jvm.Cond.methodLink "LaneCymbalsLaw" (134 : Nat) ({ cls := "LaneCymbals", name := "is", desc := "(I)I" } : Jvm.MethodName)) ∈ lw_all := lw_g (lw_at lw_m4 34 rfl) rfl
theorem q824 : (Jvm.Cond.methodLink "LaneCymbalsLaw" (138 : Nat) ({ cls := "LaneCymbals", name := "look", desc := "(I)I" } : Jvm.MethodName)) ∈ lw_all := lw_g (lw_at lw_m4 44 rfl) rfl
theorem q828 : (Jvm.Cond.methodLink "LaneCymbalsLaw" (142 : Nat) ({ cls := "LaneCymbals", name := "kinds", desc := "(I)I" } : Jvm.MethodName)) ∈ lw_all := lw_g (lw_at lw_m4 48 rfl) rfl
theorem q838 : (Jvm.Cond.methodLink "LaneCymbalsLaw" (146 : Nat) ({ cls := "LaneCymbals", name := "ask", desc := "(I)I" } : Jvm.MethodName)) ∈ lw_all := lw_g (lw_at lw_m4 58 rfl) rfl
theorem q845 : (Jvm.Cond.methodLink "LaneCymbalsLaw" (150 : Nat) ({ cls := "LaneCymbals", name := "game", desc := "(IIII)I" } : Jvm.MethodName)) ∈ lw_all := lw_g (lw_at lw_m4 65 rfl) rfl
theorem q853 : (Jvm.Cond.methodLink "LaneCymbalsLaw" (154 : Nat) ({ cls := "LaneCymbals", name := "slips", desc := "(II)I" } : Jvm.MethodName)) ∈ lw_all := lw_g (lw_at lw_m4 73 rfl) rfl
theorem q861 : (Jvm.Cond.methodLink "LaneCymbalsLaw" (158 : Nat) ({ cls := "LaneCymbals", name := "reigns", desc := "(II)I" } : Jvm.MethodName)) ∈ lw_all := lw_g (lw_at lw_m4 81 rfl) rfl
theorem q872 : (Jvm.Cond.methodLink "LaneCymbalsLaw" (162 : Nat) ({ cls := "LaneCymbals", name := "part", desc := "(I)J" } : Jvm.MethodName)) ∈ lw_all := lw_g (lw_at lw_m4 92 rfl) rfl
theorem q876 : (Jvm.Cond.methodLink "LaneCymbalsLaw" (167 : Nat) ({ cls := "LaneCymbals", name := "image", desc := "(I)I" } : Jvm.MethodName)) ∈ lw_all := lw_g (lw_at lw_m4 96 rfl) rfl
theorem q880 : (Jvm.Cond.methodLink "LaneCymbalsLaw" (171 : Nat) ({ cls := "LaneCymbals", name := "from", desc := "(I)I" } : Jvm.MethodName)) ∈ lw_all := lw_g (lw_at lw_m4 100 rfl) rfl
theorem q884 : (Jvm.Cond.methodLink "LaneCymbalsLaw" (175 : Nat) ({ cls := "LaneCymbals", name := "status", desc := "(I)I" } : Jvm.MethodName)) ∈ lw_all := lw_g (lw_at lw_m4 104 rfl) rfl
theorem q888 : (Jvm.Cond.methodLink "LaneCymbalsLaw" (179 : Nat) ({ cls := "LaneCymbals", name := "count", desc := "(I)I" } : Jvm.MethodName)) ∈ lw_all := lw_g (lw_at lw_m4 108 rfl) rfl
theorem q896 : (Jvm.Cond.methodLink "LaneCymbalsLaw" (183 : Nat) ({ cls := "LaneCymbals", name := "digest", desc := "()J" } : Jvm.MethodName)) ∈ lw_all := lw_g (lw_at lw_m4 116 rfl) rfl
theorem q902 : (Jvm.Cond.classLink "LaneCymbalsLaw" (10 : Nat) "LaneCymbalsModel") ∈ lw_all := lw_g (lw_at lw_m4 122 rfl) rfl
theorem q904 : (Jvm.Cond.methodLink "LaneCymbalsLaw" (12 : Nat) ({ cls := "LaneCymbalsModel", name := "<init>", desc := "()V" } : Jvm.MethodName)) ∈ lw_all := lw_g (lw_at lw_m4 124 rfl) rfl
theorem q976 : (Jvm.Cond.methodLink "LaneCymbalsLaw" (17 : Nat) ({ cls := "LaneCymbalsModel", name := "lane", desc := "(I)I" } : Jvm.MethodName)) ∈ lw_all := lw_g (lw_at lw_m4 196 rfl) rfl
theorem q991 : (Jvm.Cond.methodLink "LaneCymbalsLaw" (21 : Nat) ({ cls := "LaneCymbalsModel", name := "wide", desc := "(I)I" } : Jvm.MethodName)) ∈ lw_all := lw_g (lw_at lw_m4 211 rfl) rfl
theorem q995 : (Jvm.Cond.methodLink "LaneCymbalsLaw" (26 : Nat) ({ cls := "LaneCymbalsModel", name := "one", desc := "(III)I" } : Jvm.MethodName)) ∈ lw_all := lw_g (lw_at lw_m4 215 rfl) rfl
theorem q1003 : (Jvm.Cond.methodLink "LaneCymbalsLaw" (31 : Nat) ({ cls := "LaneCymbalsModel", name := "aunt", desc := "(II)I" } : Jvm.MethodName)) ∈ lw_all := lw_g (lw_at lw_m4 223 rfl) rfl
theorem q1011 : (Jvm.Cond.methodLink "LaneCymbalsLaw" (35 : Nat) ({ cls := "LaneCymbalsModel", name := "type", desc := "(I)I" } : Jvm.MethodName)) ∈ lw_all := lw_g (lw_at lw_m4 231 rfl) rfl
theorem q1015 : (Jvm.Cond.methodLink "LaneCymbalsLaw" (40 : Nat) ({ cls := "LaneCymbalsModel", name := "clear", desc := "()I" } : Jvm.MethodName)) ∈ lw_all := lw_g (lw_at lw_m4 235 rfl) rfl
theorem q1019 : (Jvm.Cond.methodLink "LaneCymbalsLaw" (44 : Nat) ({ cls := "LaneCymbalsModel", name := "read", desc := "()I" } : Jvm.MethodName)) ∈ lw_all := lw_g (lw_at lw_m4 239 rfl) rfl
theorem q1095 : (Jvm.Cond.methodLink "LaneCymbalsLaw" (48 : Nat) ({ cls := "LaneCymbalsModel", name := "counts", desc := "(I)I" } : Jvm.MethodName)) ∈ lw_all := lw_g (lw_at lw_m5 75 rfl) rfl
theorem q1103 : (Jvm.Cond.methodLink "LaneCymbalsLaw" (52 : Nat) ({ cls := "LaneCymbalsModel", name := "swings", desc := "(II)I" } : Jvm.MethodName)) ∈ lw_all := lw_g (lw_at lw_m5 83 rfl) rfl
theorem q1111 : (Jvm.Cond.methodLink "LaneCymbalsLaw" (56 : Nat) ({ cls := "LaneCymbalsModel", name := "sends", desc := "(II)I" } : Jvm.MethodName)) ∈ lw_all := lw_g (lw_at lw_m5 91 rfl) rfl
theorem q1119 : (Jvm.Cond.methodLink "LaneCymbalsLaw" (60 : Nat) ({ cls := "LaneCymbalsModel", name := "undo", desc := "()I" } : Jvm.MethodName)) ∈ lw_all := lw_g (lw_at lw_m5 99 rfl) rfl
theorem q1123 : (Jvm.Cond.methodLink "LaneCymbalsLaw" (64 : Nat) ({ cls := "LaneCymbalsModel", name := "of", desc := "(II)I" } : Jvm.MethodName)) ∈ lw_all := lw_g (lw_at lw_m5 103 rfl) rfl
theorem q1127 : (Jvm.Cond.methodLink "LaneCymbalsLaw" (68 : Nat) ({ cls := "LaneCymbalsModel", name := "about", desc := "(II)I" } : Jvm.MethodName)) ∈ lw_all := lw_g (lw_at lw_m5 107 rfl) rfl
theorem q1131 : (Jvm.Cond.methodLink "LaneCymbalsLaw" (72 : Nat) ({ cls := "LaneCymbalsModel", name := "leans", desc := "(III)I" } : Jvm.MethodName)) ∈ lw_all := lw_g (lw_at lw_m5 111 rfl) rfl
theorem q1139 : (Jvm.Cond.methodLink "LaneCymbalsLaw" (76 : Nat) ({ cls := "LaneCymbalsModel", name := "sound", desc := "(I)I" } : Jvm.MethodName)) ∈ lw_all := lw_g (lw_at lw_m5 119 rfl) rfl
theorem q1143 : (Jvm.Cond.methodLink "LaneCymbalsLaw" (80 : Nat) ({ cls := "LaneCymbalsModel", name := "entry", desc := "()I" } : Jvm.MethodName)) ∈ lw_all := lw_g (lw_at lw_m5 123 rfl) rfl
theorem q1147 : (Jvm.Cond.methodLink "LaneCymbalsLaw" (84 : Nat) ({ cls := "LaneCymbalsModel", name := "then", desc := "(I)I" } : Jvm.MethodName)) ∈ lw_all := lw_g (lw_at lw_m5 127 rfl) rfl
theorem q1155 : (Jvm.Cond.methodLink "LaneCymbalsLaw" (88 : Nat) ({ cls := "LaneCymbalsModel", name := "still", desc := "(I)I" } : Jvm.MethodName)) ∈ lw_all := lw_g (lw_at lw_m5 135 rfl) rfl
theorem q1166 : (Jvm.Cond.methodLink "LaneCymbalsLaw" (92 : Nat) ({ cls := "LaneCymbalsModel", name := "push", desc := "(II)I" } : Jvm.MethodName)) ∈ lw_all := lw_g (lw_at lw_m5 146 rfl) rfl
theorem q1170 : (Jvm.Cond.methodLink "LaneCymbalsLaw" (96 : Nat) ({ cls := "LaneCymbalsModel", name := "widest", desc := "()I" } : Jvm.MethodName)) ∈ lw_all := lw_g (lw_at lw_m5 150 rfl) rfl
theorem q1174 : (Jvm.Cond.methodLink "LaneCymbalsLaw" (100 : Nat) ({ cls := "LaneCymbalsModel", name := "wrong", desc := "(I)I" } : Jvm.MethodName)) ∈ lw_all := lw_g (lw_at lw_m5 154 rfl) rfl
theorem q1178 : (Jvm.Cond.methodLink "LaneCymbalsLaw" (104 : Nat) ({ cls := "LaneCymbalsModel", name := "marry", desc := "(I)I" } : Jvm.MethodName)) ∈ lw_all := lw_g (lw_at lw_m5 158 rfl) rfl
theorem q1198 : (Jvm.Cond.methodLink "LaneCymbalsLaw" (108 : Nat) ({ cls := "LaneCymbalsModel", name := "heard", desc := "(II)I" } : Jvm.MethodName)) ∈ lw_all := lw_g (lw_at lw_m5 178 rfl) rfl
theorem q1202 : (Jvm.Cond.methodLink "LaneCymbalsLaw" (112 : Nat) ({ cls := "LaneCymbalsModel", name := "lanes", desc := "()I" } : Jvm.MethodName)) ∈ lw_all := lw_g (lw_at lw_m5 182 rfl) rfl
theorem q1210 : (Jvm.Cond.methodLink "LaneCymbalsLaw" (116 : Nat) ({ cls := "LaneCymbalsModel", name := "swung", desc := "(I)I" } : Jvm.MethodName)) ∈ lw_all := lw_g (lw_at lw_m5 190 rfl) rfl
theorem q1214 : (Jvm.Cond.methodLink "LaneCymbalsLaw" (120 : Nat) ({ cls := "LaneCymbalsModel", name := "hear", desc := "()I" } : Jvm.MethodName)) ∈ lw_all := lw_g (lw_at lw_m5 194 rfl) rfl
theorem q1219 : (Jvm.Cond.methodLink "LaneCymbalsLaw" (125 : Nat) ({ cls := "LaneCymbalsModel", name := "note", desc := "(IIII)I" } : Jvm.MethodName)) ∈ lw_all := lw_g (lw_at lw_m5 199 rfl) rfl
theorem q1223 : (Jvm.Cond.methodLink "LaneCymbalsLaw" (129 : Nat) ({ cls := "LaneCymbalsModel", name := "mark", desc := "(IIII)I" } : Jvm.MethodName)) ∈ lw_all := lw_g (lw_at lw_m5 203 rfl) rfl
theorem q1227 : (Jvm.Cond.methodLink "LaneCymbalsLaw" (133 : Nat) ({ cls := "LaneCymbalsModel", name := "forget", desc := "(I)I" } : Jvm.MethodName)) ∈ lw_all := lw_g (lw_at lw_m5 207 rfl) rfl
theorem q1231 : (Jvm.Cond.methodLink "LaneCymbalsLaw" (137 : Nat) ({ cls := "LaneCymbalsModel", name := "is", desc := "(I)I" } : Jvm.MethodName)) ∈ lw_all := lw_g (lw_at lw_m5 211 rfl) rfl
theorem q1239 : (Jvm.Cond.methodLink "LaneCymbalsLaw" (141 : Nat) ({ cls := "LaneCymbalsModel", name := "look", desc := "(I)I" } : Jvm.MethodName)) ∈ lw_all := lw_g (lw_at lw_m5 219 rfl) rfl
theorem q1247 : (Jvm.Cond.methodLink "LaneCymbalsLaw" (145 : Nat) ({ cls := "LaneCymbalsModel", name := "kinds", desc := "(I)I" } : Jvm.MethodName)) ∈ lw_all := lw_g (lw_at lw_m5 227 rfl) rfl
theorem q1255 : (Jvm.Cond.methodLink "LaneCymbalsLaw" (149 : Nat) ({ cls := "LaneCymbalsModel", name := "ask", desc := "(I)I" } : Jvm.MethodName)) ∈ lw_all := lw_g (lw_at lw_m5 235 rfl) rfl
theorem q1259 : (Jvm.Cond.methodLink "LaneCymbalsLaw" (153 : Nat) ({ cls := "LaneCymbalsModel", name := "game", desc := "(IIII)I" } : Jvm.MethodName)) ∈ lw_all := lw_g (lw_at lw_m5 239 rfl) rfl
theorem q1267 : (Jvm.Cond.methodLink "LaneCymbalsLaw" (157 : Nat) ({ cls := "LaneCymbalsModel", name := "slips", desc := "(II)I" } : Jvm.MethodName)) ∈ lw_all := lw_g (lw_at lw_m6 7 rfl) rfl
theorem q1275 : (Jvm.Cond.methodLink "LaneCymbalsLaw" (161 : Nat) ({ cls := "LaneCymbalsModel", name := "reigns", desc := "(II)I" } : Jvm.MethodName)) ∈ lw_all := lw_g (lw_at lw_m6 15 rfl) rfl
theorem q1287 : (Jvm.Cond.methodLink "LaneCymbalsLaw" (166 : Nat) ({ cls := "LaneCymbalsModel", name := "part", desc := "(I)J" } : Jvm.MethodName)) ∈ lw_all := lw_g (lw_at lw_m6 27 rfl) rfl
theorem q1291 : (Jvm.Cond.methodLink "LaneCymbalsLaw" (170 : Nat) ({ cls := "LaneCymbalsModel", name := "image", desc := "(I)I" } : Jvm.MethodName)) ∈ lw_all := lw_g (lw_at lw_m6 31 rfl) rfl
theorem q1295 : (Jvm.Cond.methodLink "LaneCymbalsLaw" (174 : Nat) ({ cls := "LaneCymbalsModel", name := "from", desc := "(I)I" } : Jvm.MethodName)) ∈ lw_all := lw_g (lw_at lw_m6 35 rfl) rfl
theorem q1299 : (Jvm.Cond.methodLink "LaneCymbalsLaw" (178 : Nat) ({ cls := "LaneCymbalsModel", name := "status", desc := "(I)I" } : Jvm.MethodName)) ∈ lw_all := lw_g (lw_at lw_m6 39 rfl) rfl
theorem q1303 : (Jvm.Cond.methodLink "LaneCymbalsLaw" (182 : Nat) ({ cls := "LaneCymbalsModel", name := "count", desc := "(I)I" } : Jvm.MethodName)) ∈ lw_all := lw_g (lw_at lw_m6 43 rfl) rfl
theorem q1311 : (Jvm.Cond.methodLink "LaneCymbalsLaw" (187 : Nat) ({ cls := "LaneCymbalsModel", name := "digest", desc := "()J" } : Jvm.MethodName)) ∈ lw_all := lw_g (lw_at lw_m6 51 rfl) rfl
theorem q75 : (Jvm.Cond.initialized "java/lang/System") ∈ lw_all := lw_g (lw_at lw_m1 15 rfl) rfl
set_option maxRecDepth 100000
theorem q605 : (Jvm.Cond.static ({ cls := "java/lang/System", name := "arraycopy", desc := "(Ljava/lang/Object;ILjava/lang/Object;II)V" } : Jvm.MethodName)) ∈ lw_all := lw_g (lw_at lw_m3 65 rfl) rfl
theorem q606 : (Jvm.Cond.native ({ cls := "java/lang/System", name := "arraycopy", desc := "(Ljava/lang/Object;ILjava/lang/Object;II)V" } : Jvm.MethodName)) ∈ lw_all := lw_g (lw_at lw_m3 66 rfl) rfl
theorem q92 : (Jvm.Cond.arrayOver (Jvm.ClassFile.FieldType.object "LaneCymbals$One")) ∈ lw_tbl := lw_at lw_m1 32 rfl
set_option maxRecDepth 100000
theorem q94 : (Jvm.Cond.arrayOver (Jvm.ClassFile.FieldType.object "LaneCymbals$Aunt")) ∈ lw_tbl := lw_at lw_m1 34 rfl
theorem q123 : (Jvm.Cond.arrayClass Jvm.ClassFile.FieldType.int) ∈ lw_all := lw_g (lw_at lw_m1 63 rfl) rfl
theorem q124 : (Jvm.Cond.arrayOver (Jvm.ClassFile.FieldType.object "LaneCymbals$State")) ∈ lw_tbl := lw_at lw_m1 64 rfl
theorem q196 : (Jvm.Cond.arrayOver (Jvm.ClassFile.FieldType.object "LaneCymbals$Lane")) ∈ lw_tbl := lw_at lw_m1 136 rfl
theorem q224 : (Jvm.Cond.arrayClass Jvm.ClassFile.FieldType.byte) ∈ lw_all := lw_g (lw_at lw_m1 164 rfl) rfl
theorem q975 : (Jvm.Cond.arrayClass Jvm.ClassFile.FieldType.boolean) ∈ lw_all := lw_g (lw_at lw_m4 195 rfl) rfl
