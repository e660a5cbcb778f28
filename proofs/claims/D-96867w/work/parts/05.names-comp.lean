/-! TwoGuilds -/
set_option maxRecDepth 100000
def RX0 : String := "TwoGuilds"
def TX0 : u_T := fun k => match k with
  | 0 => ("TwoGuilds", "now", "LTwoGuilds$Table;", false)
  | 1 => ("TwoGuilds", "spare", "LTwoGuilds$Table;", true)
  | 2 => ("TwoGuilds", "image", "LTwoGuilds$Table;", true)
  | 3 => ("TwoGuilds", "hasImage", "Z", false)
  | 4 => ("TwoGuilds", "values", "[I", true)
  | 5 => ("TwoGuilds", "bests", "[I", true)
  | 6 => ("TwoGuilds", "partners", "[I", true)
  | 7 => ("TwoGuilds", "gives", "[I", true)
  | 8 => ("TwoGuilds", "join", "[I", true)
  | 9 => ("TwoGuilds", "joinN", "I", false)
  | 10 => ("TwoGuilds", "named", "[I", true)
  | 11 => ("TwoGuilds", "tape", "[B", true)
  | 12 => ("TwoGuilds", "taped", "I", false)
  | 13 => ("TwoGuilds", "token", "I", false)
  | 14 => ("TwoGuilds", "begin", "I", false)
  | 15 => ("TwoGuilds", "behind", "I", false)
  | 16 => ("TwoGuilds", "value", "I", false)
  | 17 => ("TwoGuilds", "parens", "I", false)
  | 18 => ("TwoGuilds", "nots", "I", false)
  | 19 => ("TwoGuilds", "words", "I", false)
  | 20 => ("TwoGuilds", "key", "I", false)
  | 21 => ("TwoGuilds", "sheets", "[LTwoGuilds$Holder;", true)
  | 22 => ("TwoGuilds", "slots", "[LTwoGuilds$Holder;", true)
  | 23 => ("TwoGuilds", "waits", "[I", true)
  | 24 => ("TwoGuilds", "waiting", "I", false)
  | 25 => ("TwoGuilds", "asked", "I", false)
  | _ => ("TwoGuilds", "isLike", "Z", false)
def tyX0 : Nat → FieldType := fun k => match k with
  | 0 => .object "TwoGuilds$Table"
  | 1 => .object "TwoGuilds$Table"
  | 2 => .object "TwoGuilds$Table"
  | 3 => .boolean
  | 4 => .array .int
  | 5 => .array .int
  | 6 => .array .int
  | 7 => .array .int
  | 8 => .array .int
  | 9 => .int
  | 10 => .array .int
  | 11 => .array .byte
  | 12 => .int
  | 13 => .int
  | 14 => .int
  | 15 => .int
  | 16 => .int
  | 17 => .int
  | 18 => .int
  | 19 => .int
  | 20 => .int
  | 21 => .array (.object "TwoGuilds$Holder")
  | 22 => .array (.object "TwoGuilds$Holder")
  | 23 => .array .int
  | 24 => .int
  | 25 => .int
  | _ => .boolean
abbrev wsX00 : List Cond := u_ws RX0 TX0 27
set_option maxRecDepth 100000 in
theorem nmX0 : ∀ a, a < 27 → ∀ b, b < 27 → a ≠ b → (TX0 a).2.1 ≠ (TX0 b).2.1 := by decide +kernel
set_option maxRecDepth 100000 in
theorem tyX0_ok : ∀ k, k < 27 → parseFieldDescriptor (TX0 k).2.2.1 = some (tyX0 k) := by decide +kernel
abbrev cX0_init : ByteArray := prog_1_method_8_code
def yX0_init : MethodName := ⟨RX0, "<init>", "()V"⟩
def dkwX0_init_7 : List UInt8 := [183, 0, 113, 83, 132, 1, 1, 167, 255, 235, 177]
abbrev dktX0_init_7 : List UInt8 := dkwX0_init_7 ++ []
def dkwX0_init_6 : List UInt8 := [83, 132, 1, 1, 167, 255, 235, 3, 60, 27, 8, 162, 0, 22, 42, 180, 0, 107, 27, 187, 0, 101, 89]
abbrev dktX0_init_6 : List UInt8 := dkwX0_init_6 ++ dktX0_init_7
def dkwX0_init_5 : List UInt8 := [188, 10, 181, 0, 110, 3, 60, 27, 7, 162, 0, 22, 42, 180, 0, 103, 27, 187, 0, 101, 89, 183, 0, 113]
abbrev dktX0_init_5 : List UInt8 := dkwX0_init_5 ++ dktX0_init_6
def dkwX0_init_4 : List UInt8 := [188, 8, 181, 0, 97, 42, 7, 189, 0, 101, 181, 0, 103, 42, 8, 189, 0, 101, 181, 0, 107, 42, 16, 60]
abbrev dktX0_init_4 : List UInt8 := dkwX0_init_4 ++ dktX0_init_5
def dkwX0_init_3 : List UInt8 := [188, 10, 181, 0, 91, 42, 8, 188, 10, 181, 0, 94, 42, 17, 0, 128, 188, 10, 181, 0, 50, 42, 16, 96]
abbrev dktX0_init_3 : List UInt8 := dkwX0_init_3 ++ dktX0_init_4
def dkwX0_init_2 : List UInt8 := [181, 0, 82, 42, 17, 4, 0, 188, 10, 181, 0, 85, 42, 16, 10, 188, 10, 181, 0, 88, 42, 16, 25]
abbrev dktX0_init_2 : List UInt8 := dkwX0_init_2 ++ dktX0_init_3
def dkwX0_init_1 : List UInt8 := [183, 0, 71, 181, 0, 76, 42, 187, 0, 69, 89, 42, 183, 0, 71, 181, 0, 79, 42, 16, 100, 188, 10]
abbrev dktX0_init_1 : List UInt8 := dkwX0_init_1 ++ dktX0_init_2
def dkwX0_init_0 : List UInt8 := [42, 183, 0, 64, 42, 187, 0, 69, 89, 42, 183, 0, 71, 181, 0, 72, 42, 187, 0, 69, 89, 42]
abbrev dktX0_init_0 : List UInt8 := dkwX0_init_0 ++ dktX0_init_1
theorem dksX0_init_0 : cX0_init.data.toList.drop 0 = dktX0_init_0 := by decide +kernel
theorem dksX0_init_1 : cX0_init.data.toList.drop 22 = dktX0_init_1 := dk_seg dksX0_init_0 22 rfl rfl
theorem dksX0_init_2 : cX0_init.data.toList.drop 45 = dktX0_init_2 := dk_seg dksX0_init_1 23 rfl rfl
theorem dksX0_init_3 : cX0_init.data.toList.drop 68 = dktX0_init_3 := dk_seg dksX0_init_2 23 rfl rfl
theorem dksX0_init_4 : cX0_init.data.toList.drop 92 = dktX0_init_4 := dk_seg dksX0_init_3 24 rfl rfl
theorem dksX0_init_5 : cX0_init.data.toList.drop 116 = dktX0_init_5 := dk_seg dksX0_init_4 24 rfl rfl
theorem dksX0_init_6 : cX0_init.data.toList.drop 140 = dktX0_init_6 := dk_seg dksX0_init_5 24 rfl rfl
theorem dksX0_init_7 : cX0_init.data.toList.drop 163 = dktX0_init_7 := dk_seg dksX0_init_6 23 rfl rfl
theorem dX0_init_0 : decode cX0_init 0 = .ok (.aload_n 0, 1) := dk_42 (dk_at dksX0_init_0 0 rfl rfl)
theorem dX0_init_1 : decode cX0_init 1 = .ok (.invokespecial 64, 3) := dk_183 0 64 (dk_at dksX0_init_0 1 rfl rfl)
theorem dX0_init_4 : decode cX0_init 4 = .ok (.aload_n 0, 1) := dk_42 (dk_at dksX0_init_0 4 rfl rfl)
theorem dX0_init_5 : decode cX0_init 5 = .ok (.new 69, 3) := dk_187 0 69 (dk_at dksX0_init_0 5 rfl rfl)
theorem dX0_init_8 : decode cX0_init 8 = .ok (.dup, 1) := dk_89 (dk_at dksX0_init_0 8 rfl rfl)
theorem dX0_init_9 : decode cX0_init 9 = .ok (.aload_n 0, 1) := dk_42 (dk_at dksX0_init_0 9 rfl rfl)
theorem dX0_init_10 : decode cX0_init 10 = .ok (.invokespecial 71, 3) := dk_183 0 71 (dk_at dksX0_init_0 10 rfl rfl)
theorem dX0_init_13 : decode cX0_init 13 = .ok (.putfield 72, 3) := dk_181 0 72 (dk_at dksX0_init_0 13 rfl rfl)
theorem dX0_init_16 : decode cX0_init 16 = .ok (.aload_n 0, 1) := dk_42 (dk_at dksX0_init_0 16 rfl rfl)
theorem dX0_init_17 : decode cX0_init 17 = .ok (.new 69, 3) := dk_187 0 69 (dk_at dksX0_init_0 17 rfl rfl)
theorem dX0_init_20 : decode cX0_init 20 = .ok (.dup, 1) := dk_89 (dk_at dksX0_init_0 20 rfl rfl)
theorem dX0_init_21 : decode cX0_init 21 = .ok (.aload_n 0, 1) := dk_42 (dk_at dksX0_init_0 21 rfl rfl)
theorem dX0_init_22 : decode cX0_init 22 = .ok (.invokespecial 71, 3) := dk_183 0 71 (dk_at dksX0_init_1 0 rfl rfl)
theorem dX0_init_25 : decode cX0_init 25 = .ok (.putfield 76, 3) := dk_181 0 76 (dk_at dksX0_init_1 3 rfl rfl)
theorem dX0_init_28 : decode cX0_init 28 = .ok (.aload_n 0, 1) := dk_42 (dk_at dksX0_init_1 6 rfl rfl)
theorem dX0_init_29 : decode cX0_init 29 = .ok (.new 69, 3) := dk_187 0 69 (dk_at dksX0_init_1 7 rfl rfl)
theorem dX0_init_32 : decode cX0_init 32 = .ok (.dup, 1) := dk_89 (dk_at dksX0_init_1 10 rfl rfl)
theorem dX0_init_33 : decode cX0_init 33 = .ok (.aload_n 0, 1) := dk_42 (dk_at dksX0_init_1 11 rfl rfl)
theorem dX0_init_34 : decode cX0_init 34 = .ok (.invokespecial 71, 3) := dk_183 0 71 (dk_at dksX0_init_1 12 rfl rfl)
theorem dX0_init_37 : decode cX0_init 37 = .ok (.putfield 79, 3) := dk_181 0 79 (dk_at dksX0_init_1 15 rfl rfl)
theorem dX0_init_40 : decode cX0_init 40 = .ok (.aload_n 0, 1) := dk_42 (dk_at dksX0_init_1 18 rfl rfl)
theorem dX0_init_41 : decode cX0_init 41 = .ok (.bipush 100, 2) := dk_16 100 (dk_at dksX0_init_1 19 rfl rfl)
theorem dX0_init_43 : decode cX0_init 43 = .ok (.newarray .int, 2) := dk_188_10 (dk_at dksX0_init_1 21 rfl rfl)
theorem dX0_init_45 : decode cX0_init 45 = .ok (.putfield 82, 3) := dk_181 0 82 (dk_at dksX0_init_2 0 rfl rfl)
theorem dX0_init_48 : decode cX0_init 48 = .ok (.aload_n 0, 1) := dk_42 (dk_at dksX0_init_2 3 rfl rfl)
theorem dX0_init_49 : decode cX0_init 49 = .ok (.sipush 1024, 3) := dk_17 4 0 (dk_at dksX0_init_2 4 rfl rfl)
theorem dX0_init_52 : decode cX0_init 52 = .ok (.newarray .int, 2) := dk_188_10 (dk_at dksX0_init_2 7 rfl rfl)
theorem dX0_init_54 : decode cX0_init 54 = .ok (.putfield 85, 3) := dk_181 0 85 (dk_at dksX0_init_2 9 rfl rfl)
theorem dX0_init_57 : decode cX0_init 57 = .ok (.aload_n 0, 1) := dk_42 (dk_at dksX0_init_2 12 rfl rfl)
theorem dX0_init_58 : decode cX0_init 58 = .ok (.bipush 10, 2) := dk_16 10 (dk_at dksX0_init_2 13 rfl rfl)
theorem dX0_init_60 : decode cX0_init 60 = .ok (.newarray .int, 2) := dk_188_10 (dk_at dksX0_init_2 15 rfl rfl)
theorem dX0_init_62 : decode cX0_init 62 = .ok (.putfield 88, 3) := dk_181 0 88 (dk_at dksX0_init_2 17 rfl rfl)
theorem dX0_init_65 : decode cX0_init 65 = .ok (.aload_n 0, 1) := dk_42 (dk_at dksX0_init_2 20 rfl rfl)
theorem dX0_init_66 : decode cX0_init 66 = .ok (.bipush 25, 2) := dk_16 25 (dk_at dksX0_init_2 21 rfl rfl)
theorem dX0_init_68 : decode cX0_init 68 = .ok (.newarray .int, 2) := dk_188_10 (dk_at dksX0_init_3 0 rfl rfl)
theorem dX0_init_70 : decode cX0_init 70 = .ok (.putfield 91, 3) := dk_181 0 91 (dk_at dksX0_init_3 2 rfl rfl)
theorem dX0_init_73 : decode cX0_init 73 = .ok (.aload_n 0, 1) := dk_42 (dk_at dksX0_init_3 5 rfl rfl)
theorem dX0_init_74 : decode cX0_init 74 = .ok (.iconst 5, 1) := dk_8 (dk_at dksX0_init_3 6 rfl rfl)
theorem dX0_init_75 : decode cX0_init 75 = .ok (.newarray .int, 2) := dk_188_10 (dk_at dksX0_init_3 7 rfl rfl)
theorem dX0_init_77 : decode cX0_init 77 = .ok (.putfield 94, 3) := dk_181 0 94 (dk_at dksX0_init_3 9 rfl rfl)
theorem dX0_init_80 : decode cX0_init 80 = .ok (.aload_n 0, 1) := dk_42 (dk_at dksX0_init_3 12 rfl rfl)
theorem dX0_init_81 : decode cX0_init 81 = .ok (.sipush 128, 3) := dk_17 0 128 (dk_at dksX0_init_3 13 rfl rfl)
theorem dX0_init_84 : decode cX0_init 84 = .ok (.newarray .int, 2) := dk_188_10 (dk_at dksX0_init_3 16 rfl rfl)
theorem dX0_init_86 : decode cX0_init 86 = .ok (.putfield 50, 3) := dk_181 0 50 (dk_at dksX0_init_3 18 rfl rfl)
theorem dX0_init_89 : decode cX0_init 89 = .ok (.aload_n 0, 1) := dk_42 (dk_at dksX0_init_3 21 rfl rfl)
theorem dX0_init_90 : decode cX0_init 90 = .ok (.bipush 96, 2) := dk_16 96 (dk_at dksX0_init_3 22 rfl rfl)
theorem dX0_init_92 : decode cX0_init 92 = .ok (.newarray .byte, 2) := dk_188_8 (dk_at dksX0_init_4 0 rfl rfl)
theorem dX0_init_94 : decode cX0_init 94 = .ok (.putfield 97, 3) := dk_181 0 97 (dk_at dksX0_init_4 2 rfl rfl)
theorem dX0_init_97 : decode cX0_init 97 = .ok (.aload_n 0, 1) := dk_42 (dk_at dksX0_init_4 5 rfl rfl)
theorem dX0_init_98 : decode cX0_init 98 = .ok (.iconst 4, 1) := dk_7 (dk_at dksX0_init_4 6 rfl rfl)
theorem dX0_init_99 : decode cX0_init 99 = .ok (.anewarray 101, 3) := dk_189 0 101 (dk_at dksX0_init_4 7 rfl rfl)
theorem dX0_init_102 : decode cX0_init 102 = .ok (.putfield 103, 3) := dk_181 0 103 (dk_at dksX0_init_4 10 rfl rfl)
theorem dX0_init_105 : decode cX0_init 105 = .ok (.aload_n 0, 1) := dk_42 (dk_at dksX0_init_4 13 rfl rfl)
theorem dX0_init_106 : decode cX0_init 106 = .ok (.iconst 5, 1) := dk_8 (dk_at dksX0_init_4 14 rfl rfl)
theorem dX0_init_107 : decode cX0_init 107 = .ok (.anewarray 101, 3) := dk_189 0 101 (dk_at dksX0_init_4 15 rfl rfl)
theorem dX0_init_110 : decode cX0_init 110 = .ok (.putfield 107, 3) := dk_181 0 107 (dk_at dksX0_init_4 18 rfl rfl)
theorem dX0_init_113 : decode cX0_init 113 = .ok (.aload_n 0, 1) := dk_42 (dk_at dksX0_init_4 21 rfl rfl)
theorem dX0_init_114 : decode cX0_init 114 = .ok (.bipush 60, 2) := dk_16 60 (dk_at dksX0_init_4 22 rfl rfl)
theorem dX0_init_116 : decode cX0_init 116 = .ok (.newarray .int, 2) := dk_188_10 (dk_at dksX0_init_5 0 rfl rfl)
theorem dX0_init_118 : decode cX0_init 118 = .ok (.putfield 110, 3) := dk_181 0 110 (dk_at dksX0_init_5 2 rfl rfl)
theorem dX0_init_121 : decode cX0_init 121 = .ok (.iconst 0, 1) := dk_3 (dk_at dksX0_init_5 5 rfl rfl)
theorem dX0_init_122 : decode cX0_init 122 = .ok (.istore_n 1, 1) := dk_60 (dk_at dksX0_init_5 6 rfl rfl)
theorem dX0_init_123 : decode cX0_init 123 = .ok (.iload_n 1, 1) := dk_27 (dk_at dksX0_init_5 7 rfl rfl)
theorem dX0_init_124 : decode cX0_init 124 = .ok (.iconst 4, 1) := dk_7 (dk_at dksX0_init_5 8 rfl rfl)
theorem dX0_init_125 : decode cX0_init 125 = .ok (.if_icmp .ge 22, 3) := dk_162 0 22 (dk_at dksX0_init_5 9 rfl rfl)
theorem dX0_init_128 : decode cX0_init 128 = .ok (.aload_n 0, 1) := dk_42 (dk_at dksX0_init_5 12 rfl rfl)
theorem dX0_init_129 : decode cX0_init 129 = .ok (.getfield 103, 3) := dk_180 0 103 (dk_at dksX0_init_5 13 rfl rfl)
theorem dX0_init_132 : decode cX0_init 132 = .ok (.iload_n 1, 1) := dk_27 (dk_at dksX0_init_5 16 rfl rfl)
theorem dX0_init_133 : decode cX0_init 133 = .ok (.new 101, 3) := dk_187 0 101 (dk_at dksX0_init_5 17 rfl rfl)
theorem dX0_init_136 : decode cX0_init 136 = .ok (.dup, 1) := dk_89 (dk_at dksX0_init_5 20 rfl rfl)
theorem dX0_init_137 : decode cX0_init 137 = .ok (.invokespecial 113, 3) := dk_183 0 113 (dk_at dksX0_init_5 21 rfl rfl)
theorem dX0_init_140 : decode cX0_init 140 = .ok (.aastore, 1) := dk_83 (dk_at dksX0_init_6 0 rfl rfl)
theorem dX0_init_141 : decode cX0_init 141 = .ok (.iinc 1 1, 3) := dk_132 1 1 (dk_at dksX0_init_6 1 rfl rfl)
theorem dX0_init_144 : decode cX0_init 144 = .ok (.goto (-21), 3) := dk_167 255 235 (dk_at dksX0_init_6 4 rfl rfl)
theorem dX0_init_147 : decode cX0_init 147 = .ok (.iconst 0, 1) := dk_3 (dk_at dksX0_init_6 7 rfl rfl)
theorem dX0_init_148 : decode cX0_init 148 = .ok (.istore_n 1, 1) := dk_60 (dk_at dksX0_init_6 8 rfl rfl)
theorem dX0_init_149 : decode cX0_init 149 = .ok (.iload_n 1, 1) := dk_27 (dk_at dksX0_init_6 9 rfl rfl)
theorem dX0_init_150 : decode cX0_init 150 = .ok (.iconst 5, 1) := dk_8 (dk_at dksX0_init_6 10 rfl rfl)
theorem dX0_init_151 : decode cX0_init 151 = .ok (.if_icmp .ge 22, 3) := dk_162 0 22 (dk_at dksX0_init_6 11 rfl rfl)
theorem dX0_init_154 : decode cX0_init 154 = .ok (.aload_n 0, 1) := dk_42 (dk_at dksX0_init_6 14 rfl rfl)
theorem dX0_init_155 : decode cX0_init 155 = .ok (.getfield 107, 3) := dk_180 0 107 (dk_at dksX0_init_6 15 rfl rfl)
theorem dX0_init_158 : decode cX0_init 158 = .ok (.iload_n 1, 1) := dk_27 (dk_at dksX0_init_6 18 rfl rfl)
theorem dX0_init_159 : decode cX0_init 159 = .ok (.new 101, 3) := dk_187 0 101 (dk_at dksX0_init_6 19 rfl rfl)
theorem dX0_init_162 : decode cX0_init 162 = .ok (.dup, 1) := dk_89 (dk_at dksX0_init_6 22 rfl rfl)
theorem dX0_init_163 : decode cX0_init 163 = .ok (.invokespecial 113, 3) := dk_183 0 113 (dk_at dksX0_init_7 0 rfl rfl)
theorem dX0_init_166 : decode cX0_init 166 = .ok (.aastore, 1) := dk_83 (dk_at dksX0_init_7 3 rfl rfl)
theorem dX0_init_167 : decode cX0_init 167 = .ok (.iinc 1 1, 3) := dk_132 1 1 (dk_at dksX0_init_7 4 rfl rfl)
theorem dX0_init_170 : decode cX0_init 170 = .ok (.goto (-21), 3) := dk_167 255 235 (dk_at dksX0_init_7 7 rfl rfl)
theorem dX0_init_173 : decode cX0_init 173 = .ok (.return_, 1) := dk_177 (dk_at dksX0_init_7 10 rfl rfl)
abbrev cX0_glove : ByteArray := prog_1_method_12_code
def yX0_glove : MethodName := ⟨RX0, "glove", "(IIII)I"⟩
def dkwX0_glove_3 : List UInt8 := [182, 0, 137, 42, 180, 0, 72, 180, 0, 118, 4, 100, 172]
abbrev dktX0_glove_3 : List UInt8 := dkwX0_glove_3 ++ []
def dkwX0_glove_2 : List UInt8 := [18, 135, 172, 42, 180, 0, 72, 180, 0, 118, 16, 10, 160, 0, 6, 18, 136, 172, 42, 27, 28, 29, 21, 4]
abbrev dktX0_glove_2 : List UInt8 := dkwX0_glove_2 ++ dktX0_glove_3
def dkwX0_glove_1 : List UInt8 := [9, 20, 0, 131, 184, 0, 121, 153, 0, 16, 21, 4, 133, 9, 20, 0, 133, 184, 0, 121, 154, 0, 6]
abbrev dktX0_glove_1 : List UInt8 := dkwX0_glove_1 ++ dktX0_glove_2
def dkwX0_glove_0 : List UInt8 := [27, 133, 9, 20, 0, 129, 184, 0, 121, 153, 0, 38, 28, 133, 9, 10, 184, 0, 121, 153, 0, 28, 29, 133]
abbrev dktX0_glove_0 : List UInt8 := dkwX0_glove_0 ++ dktX0_glove_1
theorem dksX0_glove_0 : cX0_glove.data.toList.drop 0 = dktX0_glove_0 := by decide +kernel
theorem dksX0_glove_1 : cX0_glove.data.toList.drop 24 = dktX0_glove_1 := dk_seg dksX0_glove_0 24 rfl rfl
theorem dksX0_glove_2 : cX0_glove.data.toList.drop 47 = dktX0_glove_2 := dk_seg dksX0_glove_1 23 rfl rfl
theorem dksX0_glove_3 : cX0_glove.data.toList.drop 71 = dktX0_glove_3 := dk_seg dksX0_glove_2 24 rfl rfl
theorem dX0_glove_0 : decode cX0_glove 0 = .ok (.iload_n 1, 1) := dk_27 (dk_at dksX0_glove_0 0 rfl rfl)
theorem dX0_glove_1 : decode cX0_glove 1 = .ok (.i2l, 1) := dk_133 (dk_at dksX0_glove_0 1 rfl rfl)
theorem dX0_glove_2 : decode cX0_glove 2 = .ok (.lconst 0, 1) := dk_9 (dk_at dksX0_glove_0 2 rfl rfl)
theorem dX0_glove_3 : decode cX0_glove 3 = .ok (.ldc2_w 129, 3) := dk_20 0 129 (dk_at dksX0_glove_0 3 rfl rfl)
theorem dX0_glove_6 : decode cX0_glove 6 = .ok (.invokestatic 121, 3) := dk_184 0 121 (dk_at dksX0_glove_0 6 rfl rfl)
theorem dX0_glove_9 : decode cX0_glove 9 = .ok (.ifCond .eq 38, 3) := dk_153 0 38 (dk_at dksX0_glove_0 9 rfl rfl)
theorem dX0_glove_12 : decode cX0_glove 12 = .ok (.iload_n 2, 1) := dk_28 (dk_at dksX0_glove_0 12 rfl rfl)
theorem dX0_glove_13 : decode cX0_glove 13 = .ok (.i2l, 1) := dk_133 (dk_at dksX0_glove_0 13 rfl rfl)
theorem dX0_glove_14 : decode cX0_glove 14 = .ok (.lconst 0, 1) := dk_9 (dk_at dksX0_glove_0 14 rfl rfl)
theorem dX0_glove_15 : decode cX0_glove 15 = .ok (.lconst 1, 1) := dk_10 (dk_at dksX0_glove_0 15 rfl rfl)
theorem dX0_glove_16 : decode cX0_glove 16 = .ok (.invokestatic 121, 3) := dk_184 0 121 (dk_at dksX0_glove_0 16 rfl rfl)
theorem dX0_glove_19 : decode cX0_glove 19 = .ok (.ifCond .eq 28, 3) := dk_153 0 28 (dk_at dksX0_glove_0 19 rfl rfl)
theorem dX0_glove_22 : decode cX0_glove 22 = .ok (.iload_n 3, 1) := dk_29 (dk_at dksX0_glove_0 22 rfl rfl)
theorem dX0_glove_23 : decode cX0_glove 23 = .ok (.i2l, 1) := dk_133 (dk_at dksX0_glove_0 23 rfl rfl)
theorem dX0_glove_24 : decode cX0_glove 24 = .ok (.lconst 0, 1) := dk_9 (dk_at dksX0_glove_1 0 rfl rfl)
theorem dX0_glove_25 : decode cX0_glove 25 = .ok (.ldc2_w 131, 3) := dk_20 0 131 (dk_at dksX0_glove_1 1 rfl rfl)
theorem dX0_glove_28 : decode cX0_glove 28 = .ok (.invokestatic 121, 3) := dk_184 0 121 (dk_at dksX0_glove_1 4 rfl rfl)
theorem dX0_glove_31 : decode cX0_glove 31 = .ok (.ifCond .eq 16, 3) := dk_153 0 16 (dk_at dksX0_glove_1 7 rfl rfl)
theorem dX0_glove_34 : decode cX0_glove 34 = .ok (.iload 4, 2) := dk_21 4 (dk_at dksX0_glove_1 10 rfl rfl)
theorem dX0_glove_36 : decode cX0_glove 36 = .ok (.i2l, 1) := dk_133 (dk_at dksX0_glove_1 12 rfl rfl)
theorem dX0_glove_37 : decode cX0_glove 37 = .ok (.lconst 0, 1) := dk_9 (dk_at dksX0_glove_1 13 rfl rfl)
theorem dX0_glove_38 : decode cX0_glove 38 = .ok (.ldc2_w 133, 3) := dk_20 0 133 (dk_at dksX0_glove_1 14 rfl rfl)
theorem dX0_glove_41 : decode cX0_glove 41 = .ok (.invokestatic 121, 3) := dk_184 0 121 (dk_at dksX0_glove_1 17 rfl rfl)
theorem dX0_glove_44 : decode cX0_glove 44 = .ok (.ifCond .ne 6, 3) := dk_154 0 6 (dk_at dksX0_glove_1 20 rfl rfl)
theorem dX0_glove_47 : decode cX0_glove 47 = .ok (.ldc 135, 2) := dk_18 135 (dk_at dksX0_glove_2 0 rfl rfl)
theorem dX0_glove_49 : decode cX0_glove 49 = .ok (.ireturn, 1) := dk_172 (dk_at dksX0_glove_2 2 rfl rfl)
theorem dX0_glove_50 : decode cX0_glove 50 = .ok (.aload_n 0, 1) := dk_42 (dk_at dksX0_glove_2 3 rfl rfl)
theorem dX0_glove_51 : decode cX0_glove 51 = .ok (.getfield 72, 3) := dk_180 0 72 (dk_at dksX0_glove_2 4 rfl rfl)
theorem dX0_glove_54 : decode cX0_glove 54 = .ok (.getfield 118, 3) := dk_180 0 118 (dk_at dksX0_glove_2 7 rfl rfl)
theorem dX0_glove_57 : decode cX0_glove 57 = .ok (.bipush 10, 2) := dk_16 10 (dk_at dksX0_glove_2 10 rfl rfl)
theorem dX0_glove_59 : decode cX0_glove 59 = .ok (.if_icmp .ne 6, 3) := dk_160 0 6 (dk_at dksX0_glove_2 12 rfl rfl)
theorem dX0_glove_62 : decode cX0_glove 62 = .ok (.ldc 136, 2) := dk_18 136 (dk_at dksX0_glove_2 15 rfl rfl)
theorem dX0_glove_64 : decode cX0_glove 64 = .ok (.ireturn, 1) := dk_172 (dk_at dksX0_glove_2 17 rfl rfl)
theorem dX0_glove_65 : decode cX0_glove 65 = .ok (.aload_n 0, 1) := dk_42 (dk_at dksX0_glove_2 18 rfl rfl)
theorem dX0_glove_66 : decode cX0_glove 66 = .ok (.iload_n 1, 1) := dk_27 (dk_at dksX0_glove_2 19 rfl rfl)
theorem dX0_glove_67 : decode cX0_glove 67 = .ok (.iload_n 2, 1) := dk_28 (dk_at dksX0_glove_2 20 rfl rfl)
theorem dX0_glove_68 : decode cX0_glove 68 = .ok (.iload_n 3, 1) := dk_29 (dk_at dksX0_glove_2 21 rfl rfl)
theorem dX0_glove_69 : decode cX0_glove 69 = .ok (.iload 4, 2) := dk_21 4 (dk_at dksX0_glove_2 22 rfl rfl)
theorem dX0_glove_71 : decode cX0_glove 71 = .ok (.invokevirtual 137, 3) := dk_182 0 137 (dk_at dksX0_glove_3 0 rfl rfl)
theorem dX0_glove_74 : decode cX0_glove 74 = .ok (.aload_n 0, 1) := dk_42 (dk_at dksX0_glove_3 3 rfl rfl)
theorem dX0_glove_75 : decode cX0_glove 75 = .ok (.getfield 72, 3) := dk_180 0 72 (dk_at dksX0_glove_3 4 rfl rfl)
theorem dX0_glove_78 : decode cX0_glove 78 = .ok (.getfield 118, 3) := dk_180 0 118 (dk_at dksX0_glove_3 7 rfl rfl)
theorem dX0_glove_81 : decode cX0_glove 81 = .ok (.iconst 1, 1) := dk_4 (dk_at dksX0_glove_3 10 rfl rfl)
theorem dX0_glove_82 : decode cX0_glove 82 = .ok (.isub, 1) := dk_100 (dk_at dksX0_glove_3 11 rfl rfl)
theorem dX0_glove_83 : decode cX0_glove 83 = .ok (.ireturn, 1) := dk_172 (dk_at dksX0_glove_3 12 rfl rfl)
abbrev cX0_isIn : ByteArray := prog_1_method_1_code
def yX0_isIn : MethodName := ⟨RX0, "isIn", "(JJJ)Z"⟩
def dkwX0_isIn_0 : List UInt8 := [30, 32, 148, 155, 0, 14, 30, 22, 4, 148, 157, 0, 7, 4, 167, 0, 4, 3, 172]
abbrev dktX0_isIn_0 : List UInt8 := dkwX0_isIn_0 ++ []
theorem dksX0_isIn_0 : cX0_isIn.data.toList.drop 0 = dktX0_isIn_0 := by decide +kernel
theorem dX0_isIn_0 : decode cX0_isIn 0 = .ok (.lload_n 0, 1) := dk_30 (dk_at dksX0_isIn_0 0 rfl rfl)
theorem dX0_isIn_1 : decode cX0_isIn 1 = .ok (.lload_n 2, 1) := dk_32 (dk_at dksX0_isIn_0 1 rfl rfl)
theorem dX0_isIn_2 : decode cX0_isIn 2 = .ok (.lcmp, 1) := dk_148 (dk_at dksX0_isIn_0 2 rfl rfl)
theorem dX0_isIn_3 : decode cX0_isIn 3 = .ok (.ifCond .lt 14, 3) := dk_155 0 14 (dk_at dksX0_isIn_0 3 rfl rfl)
theorem dX0_isIn_6 : decode cX0_isIn 6 = .ok (.lload_n 0, 1) := dk_30 (dk_at dksX0_isIn_0 6 rfl rfl)
theorem dX0_isIn_7 : decode cX0_isIn 7 = .ok (.lload 4, 2) := dk_22 4 (dk_at dksX0_isIn_0 7 rfl rfl)
theorem dX0_isIn_9 : decode cX0_isIn 9 = .ok (.lcmp, 1) := dk_148 (dk_at dksX0_isIn_0 9 rfl rfl)
theorem dX0_isIn_10 : decode cX0_isIn 10 = .ok (.ifCond .gt 7, 3) := dk_157 0 7 (dk_at dksX0_isIn_0 10 rfl rfl)
theorem dX0_isIn_13 : decode cX0_isIn 13 = .ok (.iconst 1, 1) := dk_4 (dk_at dksX0_isIn_0 13 rfl rfl)
theorem dX0_isIn_14 : decode cX0_isIn 14 = .ok (.goto 4, 3) := dk_167 0 4 (dk_at dksX0_isIn_0 14 rfl rfl)
theorem dX0_isIn_17 : decode cX0_isIn 17 = .ok (.iconst 0, 1) := dk_3 (dk_at dksX0_isIn_0 17 rfl rfl)
theorem dX0_isIn_18 : decode cX0_isIn 18 = .ok (.ireturn, 1) := dk_172 (dk_at dksX0_isIn_0 18 rfl rfl)
abbrev cX0_comes : ByteArray := prog_1_method_13_code
def yX0_comes : MethodName := ⟨RX0, "comes", "(IIII)V"⟩
def dkwX0_comes_2 : List UInt8 := [89, 180, 0, 118, 4, 96, 181, 0, 118, 177]
abbrev dktX0_comes_2 : List UInt8 := dkwX0_comes_2 ++ []
def dkwX0_comes_1 : List UInt8 := [181, 0, 54, 42, 180, 0, 72, 180, 0, 147, 42, 180, 0, 72, 180, 0, 118, 25, 5, 83, 42, 180, 0, 72]
abbrev dktX0_comes_1 : List UInt8 := dkwX0_comes_1 ++ dktX0_comes_2
def dkwX0_comes_0 : List UInt8 := [42, 27, 182, 0, 38, 58, 5, 25, 5, 28, 181, 0, 141, 25, 5, 29, 181, 0, 144, 25, 5, 21, 4]
abbrev dktX0_comes_0 : List UInt8 := dkwX0_comes_0 ++ dktX0_comes_1
theorem dksX0_comes_0 : cX0_comes.data.toList.drop 0 = dktX0_comes_0 := by decide +kernel
theorem dksX0_comes_1 : cX0_comes.data.toList.drop 23 = dktX0_comes_1 := dk_seg dksX0_comes_0 23 rfl rfl
theorem dksX0_comes_2 : cX0_comes.data.toList.drop 47 = dktX0_comes_2 := dk_seg dksX0_comes_1 24 rfl rfl
theorem dX0_comes_0 : decode cX0_comes 0 = .ok (.aload_n 0, 1) := dk_42 (dk_at dksX0_comes_0 0 rfl rfl)
theorem dX0_comes_1 : decode cX0_comes 1 = .ok (.iload_n 1, 1) := dk_27 (dk_at dksX0_comes_0 1 rfl rfl)
theorem dX0_comes_2 : decode cX0_comes 2 = .ok (.invokevirtual 38, 3) := dk_182 0 38 (dk_at dksX0_comes_0 2 rfl rfl)
theorem dX0_comes_5 : decode cX0_comes 5 = .ok (.astore 5, 2) := dk_58 5 (dk_at dksX0_comes_0 5 rfl rfl)
theorem dX0_comes_7 : decode cX0_comes 7 = .ok (.aload 5, 2) := dk_25 5 (dk_at dksX0_comes_0 7 rfl rfl)
theorem dX0_comes_9 : decode cX0_comes 9 = .ok (.iload_n 2, 1) := dk_28 (dk_at dksX0_comes_0 9 rfl rfl)
theorem dX0_comes_10 : decode cX0_comes 10 = .ok (.putfield 141, 3) := dk_181 0 141 (dk_at dksX0_comes_0 10 rfl rfl)
theorem dX0_comes_13 : decode cX0_comes 13 = .ok (.aload 5, 2) := dk_25 5 (dk_at dksX0_comes_0 13 rfl rfl)
theorem dX0_comes_15 : decode cX0_comes 15 = .ok (.iload_n 3, 1) := dk_29 (dk_at dksX0_comes_0 15 rfl rfl)
theorem dX0_comes_16 : decode cX0_comes 16 = .ok (.putfield 144, 3) := dk_181 0 144 (dk_at dksX0_comes_0 16 rfl rfl)
theorem dX0_comes_19 : decode cX0_comes 19 = .ok (.aload 5, 2) := dk_25 5 (dk_at dksX0_comes_0 19 rfl rfl)
theorem dX0_comes_21 : decode cX0_comes 21 = .ok (.iload 4, 2) := dk_21 4 (dk_at dksX0_comes_0 21 rfl rfl)
theorem dX0_comes_23 : decode cX0_comes 23 = .ok (.putfield 54, 3) := dk_181 0 54 (dk_at dksX0_comes_1 0 rfl rfl)
theorem dX0_comes_26 : decode cX0_comes 26 = .ok (.aload_n 0, 1) := dk_42 (dk_at dksX0_comes_1 3 rfl rfl)
theorem dX0_comes_27 : decode cX0_comes 27 = .ok (.getfield 72, 3) := dk_180 0 72 (dk_at dksX0_comes_1 4 rfl rfl)
theorem dX0_comes_30 : decode cX0_comes 30 = .ok (.getfield 147, 3) := dk_180 0 147 (dk_at dksX0_comes_1 7 rfl rfl)
theorem dX0_comes_33 : decode cX0_comes 33 = .ok (.aload_n 0, 1) := dk_42 (dk_at dksX0_comes_1 10 rfl rfl)
theorem dX0_comes_34 : decode cX0_comes 34 = .ok (.getfield 72, 3) := dk_180 0 72 (dk_at dksX0_comes_1 11 rfl rfl)
theorem dX0_comes_37 : decode cX0_comes 37 = .ok (.getfield 118, 3) := dk_180 0 118 (dk_at dksX0_comes_1 14 rfl rfl)
theorem dX0_comes_40 : decode cX0_comes 40 = .ok (.aload 5, 2) := dk_25 5 (dk_at dksX0_comes_1 17 rfl rfl)
theorem dX0_comes_42 : decode cX0_comes 42 = .ok (.aastore, 1) := dk_83 (dk_at dksX0_comes_1 19 rfl rfl)
theorem dX0_comes_43 : decode cX0_comes 43 = .ok (.aload_n 0, 1) := dk_42 (dk_at dksX0_comes_1 20 rfl rfl)
theorem dX0_comes_44 : decode cX0_comes 44 = .ok (.getfield 72, 3) := dk_180 0 72 (dk_at dksX0_comes_1 21 rfl rfl)
theorem dX0_comes_47 : decode cX0_comes 47 = .ok (.dup, 1) := dk_89 (dk_at dksX0_comes_2 0 rfl rfl)
theorem dX0_comes_48 : decode cX0_comes 48 = .ok (.getfield 118, 3) := dk_180 0 118 (dk_at dksX0_comes_2 1 rfl rfl)
theorem dX0_comes_51 : decode cX0_comes 51 = .ok (.iconst 1, 1) := dk_4 (dk_at dksX0_comes_2 4 rfl rfl)
theorem dX0_comes_52 : decode cX0_comes 52 = .ok (.iadd, 1) := dk_96 (dk_at dksX0_comes_2 5 rfl rfl)
theorem dX0_comes_53 : decode cX0_comes 53 = .ok (.putfield 118, 3) := dk_181 0 118 (dk_at dksX0_comes_2 6 rfl rfl)
theorem dX0_comes_56 : decode cX0_comes 56 = .ok (.return_, 1) := dk_177 (dk_at dksX0_comes_2 9 rfl rfl)
abbrev cX0_made : ByteArray := prog_1_method_5_code
def yX0_made : MethodName := ⟨RX0, "made", "(I)LTwoGuilds$Glove;"⟩
def dkwX0_made_4 : List UInt8 := [187, 0, 31, 89, 42, 183, 0, 33, 176]
abbrev dktX0_made_4 : List UInt8 := dkwX0_made_4 ++ []
def dkwX0_made_3 : List UInt8 := [183, 0, 24, 176, 187, 0, 25, 89, 42, 183, 0, 27, 176, 187, 0, 28, 89, 42, 183, 0, 30, 176]
abbrev dktX0_made_3 : List UInt8 := dkwX0_made_3 ++ dktX0_made_4
def dkwX0_made_2 : List UInt8 := [187, 0, 13, 89, 42, 183, 0, 15, 176, 187, 0, 19, 89, 42, 183, 0, 21, 176, 187, 0, 22, 89, 42]
abbrev dktX0_made_2 : List UInt8 := dkwX0_made_2 ++ dktX0_made_3
def dkwX0_made_1 : List UInt8 := [170, 0, 0, 0, 0, 0, 80, 0, 0, 0, 0, 0, 0, 0, 4, 0, 0, 0, 35, 0, 0, 0, 44, 0, 0, 0, 53, 0, 0, 0, 62, 0, 0, 0, 71]
abbrev dktX0_made_1 : List UInt8 := dkwX0_made_1 ++ dktX0_made_2
def dkwX0_made_0 : List UInt8 := [27]
abbrev dktX0_made_0 : List UInt8 := dkwX0_made_0 ++ dktX0_made_1
theorem dksX0_made_0 : cX0_made.data.toList.drop 0 = dktX0_made_0 := by decide +kernel
theorem dksX0_made_1 : cX0_made.data.toList.drop 1 = dktX0_made_1 := dk_seg dksX0_made_0 1 rfl rfl
theorem dksX0_made_2 : cX0_made.data.toList.drop 36 = dktX0_made_2 := dk_seg dksX0_made_1 35 rfl rfl
theorem dksX0_made_3 : cX0_made.data.toList.drop 59 = dktX0_made_3 := dk_seg dksX0_made_2 23 rfl rfl
theorem dksX0_made_4 : cX0_made.data.toList.drop 81 = dktX0_made_4 := dk_seg dksX0_made_3 22 rfl rfl
theorem dX0_made_0 : decode cX0_made 0 = .ok (.iload_n 1, 1) := dk_27 (dk_at dksX0_made_0 0 rfl rfl)
theorem dX0_made_1 : decode cX0_made 1 = .ok (.tableswitch 80 0 4 #[35, 44, 53, 62, 71], 35) := by decide +kernel
theorem dX0_made_36 : decode cX0_made 36 = .ok (.new 13, 3) := dk_187 0 13 (dk_at dksX0_made_2 0 rfl rfl)
theorem dX0_made_39 : decode cX0_made 39 = .ok (.dup, 1) := dk_89 (dk_at dksX0_made_2 3 rfl rfl)
theorem dX0_made_40 : decode cX0_made 40 = .ok (.aload_n 0, 1) := dk_42 (dk_at dksX0_made_2 4 rfl rfl)
theorem dX0_made_41 : decode cX0_made 41 = .ok (.invokespecial 15, 3) := dk_183 0 15 (dk_at dksX0_made_2 5 rfl rfl)
theorem dX0_made_44 : decode cX0_made 44 = .ok (.areturn, 1) := dk_176 (dk_at dksX0_made_2 8 rfl rfl)
theorem dX0_made_45 : decode cX0_made 45 = .ok (.new 19, 3) := dk_187 0 19 (dk_at dksX0_made_2 9 rfl rfl)
theorem dX0_made_48 : decode cX0_made 48 = .ok (.dup, 1) := dk_89 (dk_at dksX0_made_2 12 rfl rfl)
theorem dX0_made_49 : decode cX0_made 49 = .ok (.aload_n 0, 1) := dk_42 (dk_at dksX0_made_2 13 rfl rfl)
theorem dX0_made_50 : decode cX0_made 50 = .ok (.invokespecial 21, 3) := dk_183 0 21 (dk_at dksX0_made_2 14 rfl rfl)
theorem dX0_made_53 : decode cX0_made 53 = .ok (.areturn, 1) := dk_176 (dk_at dksX0_made_2 17 rfl rfl)
theorem dX0_made_54 : decode cX0_made 54 = .ok (.new 22, 3) := dk_187 0 22 (dk_at dksX0_made_2 18 rfl rfl)
theorem dX0_made_57 : decode cX0_made 57 = .ok (.dup, 1) := dk_89 (dk_at dksX0_made_2 21 rfl rfl)
theorem dX0_made_58 : decode cX0_made 58 = .ok (.aload_n 0, 1) := dk_42 (dk_at dksX0_made_2 22 rfl rfl)
theorem dX0_made_59 : decode cX0_made 59 = .ok (.invokespecial 24, 3) := dk_183 0 24 (dk_at dksX0_made_3 0 rfl rfl)
theorem dX0_made_62 : decode cX0_made 62 = .ok (.areturn, 1) := dk_176 (dk_at dksX0_made_3 3 rfl rfl)
theorem dX0_made_63 : decode cX0_made 63 = .ok (.new 25, 3) := dk_187 0 25 (dk_at dksX0_made_3 4 rfl rfl)
theorem dX0_made_66 : decode cX0_made 66 = .ok (.dup, 1) := dk_89 (dk_at dksX0_made_3 7 rfl rfl)
theorem dX0_made_67 : decode cX0_made 67 = .ok (.aload_n 0, 1) := dk_42 (dk_at dksX0_made_3 8 rfl rfl)
theorem dX0_made_68 : decode cX0_made 68 = .ok (.invokespecial 27, 3) := dk_183 0 27 (dk_at dksX0_made_3 9 rfl rfl)
theorem dX0_made_71 : decode cX0_made 71 = .ok (.areturn, 1) := dk_176 (dk_at dksX0_made_3 12 rfl rfl)
theorem dX0_made_72 : decode cX0_made 72 = .ok (.new 28, 3) := dk_187 0 28 (dk_at dksX0_made_3 13 rfl rfl)
theorem dX0_made_75 : decode cX0_made 75 = .ok (.dup, 1) := dk_89 (dk_at dksX0_made_3 16 rfl rfl)
theorem dX0_made_76 : decode cX0_made 76 = .ok (.aload_n 0, 1) := dk_42 (dk_at dksX0_made_3 17 rfl rfl)
theorem dX0_made_77 : decode cX0_made 77 = .ok (.invokespecial 30, 3) := dk_183 0 30 (dk_at dksX0_made_3 18 rfl rfl)
theorem dX0_made_80 : decode cX0_made 80 = .ok (.areturn, 1) := dk_176 (dk_at dksX0_made_3 21 rfl rfl)
theorem dX0_made_81 : decode cX0_made 81 = .ok (.new 31, 3) := dk_187 0 31 (dk_at dksX0_made_4 0 rfl rfl)
theorem dX0_made_84 : decode cX0_made 84 = .ok (.dup, 1) := dk_89 (dk_at dksX0_made_4 3 rfl rfl)
theorem dX0_made_85 : decode cX0_made 85 = .ok (.aload_n 0, 1) := dk_42 (dk_at dksX0_made_4 4 rfl rfl)
theorem dX0_made_86 : decode cX0_made 86 = .ok (.invokespecial 33, 3) := dk_183 0 33 (dk_at dksX0_made_4 5 rfl rfl)
theorem dX0_made_89 : decode cX0_made 89 = .ok (.areturn, 1) := dk_176 (dk_at dksX0_made_4 8 rfl rfl)
abbrev cX0_told : ByteArray := prog_1_method_14_code
def yX0_told : MethodName := ⟨RX0, "told", "(II)I"⟩
def dkwX0_told_3 : List UInt8 := [172, 45, 180, 0, 151, 184, 0, 155, 172, 45, 182, 0, 159, 172, 18, 135, 172]
abbrev dktX0_told_3 : List UInt8 := dkwX0_told_3 ++ []
def dkwX0_told_2 : List UInt8 := [45, 182, 0, 34, 172, 45, 180, 0, 141, 172, 45, 180, 0, 144, 172, 45, 180, 0, 54, 172, 45, 180, 0, 46]
abbrev dktX0_told_2 : List UInt8 := dkwX0_told_2 ++ dktX0_told_3
def dkwX0_told_1 : List UInt8 := [170, 0, 0, 0, 0, 80, 0, 0, 0, 0, 0, 0, 0, 6, 0, 0, 0, 42, 0, 0, 0, 47, 0, 0, 0, 52, 0, 0, 0, 57, 0, 0, 0, 62, 0, 0, 0, 67, 0, 0, 0, 75]
abbrev dktX0_told_1 : List UInt8 := dkwX0_told_1 ++ dktX0_told_2
def dkwX0_told_0 : List UInt8 := [42, 27, 182, 0, 125, 154, 0, 6, 18, 135, 172, 42, 180, 0, 72, 180, 0, 147, 27, 50, 78, 28]
abbrev dktX0_told_0 : List UInt8 := dkwX0_told_0 ++ dktX0_told_1
theorem dksX0_told_0 : cX0_told.data.toList.drop 0 = dktX0_told_0 := by decide +kernel
theorem dksX0_told_1 : cX0_told.data.toList.drop 22 = dktX0_told_1 := dk_seg dksX0_told_0 22 rfl rfl
theorem dksX0_told_2 : cX0_told.data.toList.drop 64 = dktX0_told_2 := dk_seg dksX0_told_1 42 rfl rfl
theorem dksX0_told_3 : cX0_told.data.toList.drop 88 = dktX0_told_3 := dk_seg dksX0_told_2 24 rfl rfl
theorem dX0_told_0 : decode cX0_told 0 = .ok (.aload_n 0, 1) := dk_42 (dk_at dksX0_told_0 0 rfl rfl)
theorem dX0_told_1 : decode cX0_told 1 = .ok (.iload_n 1, 1) := dk_27 (dk_at dksX0_told_0 1 rfl rfl)
theorem dX0_told_2 : decode cX0_told 2 = .ok (.invokevirtual 125, 3) := dk_182 0 125 (dk_at dksX0_told_0 2 rfl rfl)
theorem dX0_told_5 : decode cX0_told 5 = .ok (.ifCond .ne 6, 3) := dk_154 0 6 (dk_at dksX0_told_0 5 rfl rfl)
theorem dX0_told_8 : decode cX0_told 8 = .ok (.ldc 135, 2) := dk_18 135 (dk_at dksX0_told_0 8 rfl rfl)
theorem dX0_told_10 : decode cX0_told 10 = .ok (.ireturn, 1) := dk_172 (dk_at dksX0_told_0 10 rfl rfl)
theorem dX0_told_11 : decode cX0_told 11 = .ok (.aload_n 0, 1) := dk_42 (dk_at dksX0_told_0 11 rfl rfl)
theorem dX0_told_12 : decode cX0_told 12 = .ok (.getfield 72, 3) := dk_180 0 72 (dk_at dksX0_told_0 12 rfl rfl)
theorem dX0_told_15 : decode cX0_told 15 = .ok (.getfield 147, 3) := dk_180 0 147 (dk_at dksX0_told_0 15 rfl rfl)
theorem dX0_told_18 : decode cX0_told 18 = .ok (.iload_n 1, 1) := dk_27 (dk_at dksX0_told_0 18 rfl rfl)
theorem dX0_told_19 : decode cX0_told 19 = .ok (.aaload, 1) := dk_50 (dk_at dksX0_told_0 19 rfl rfl)
theorem dX0_told_20 : decode cX0_told 20 = .ok (.astore_n 3, 1) := dk_78 (dk_at dksX0_told_0 20 rfl rfl)
theorem dX0_told_21 : decode cX0_told 21 = .ok (.iload_n 2, 1) := dk_28 (dk_at dksX0_told_0 21 rfl rfl)
theorem dX0_told_22 : decode cX0_told 22 = .ok (.tableswitch 80 0 6 #[42, 47, 52, 57, 62, 67, 75], 42) := by decide +kernel
theorem dX0_told_64 : decode cX0_told 64 = .ok (.aload_n 3, 1) := dk_45 (dk_at dksX0_told_2 0 rfl rfl)
theorem dX0_told_65 : decode cX0_told 65 = .ok (.invokevirtual 34, 3) := dk_182 0 34 (dk_at dksX0_told_2 1 rfl rfl)
theorem dX0_told_68 : decode cX0_told 68 = .ok (.ireturn, 1) := dk_172 (dk_at dksX0_told_2 4 rfl rfl)
theorem dX0_told_69 : decode cX0_told 69 = .ok (.aload_n 3, 1) := dk_45 (dk_at dksX0_told_2 5 rfl rfl)
theorem dX0_told_70 : decode cX0_told 70 = .ok (.getfield 141, 3) := dk_180 0 141 (dk_at dksX0_told_2 6 rfl rfl)
theorem dX0_told_73 : decode cX0_told 73 = .ok (.ireturn, 1) := dk_172 (dk_at dksX0_told_2 9 rfl rfl)
theorem dX0_told_74 : decode cX0_told 74 = .ok (.aload_n 3, 1) := dk_45 (dk_at dksX0_told_2 10 rfl rfl)
theorem dX0_told_75 : decode cX0_told 75 = .ok (.getfield 144, 3) := dk_180 0 144 (dk_at dksX0_told_2 11 rfl rfl)
theorem dX0_told_78 : decode cX0_told 78 = .ok (.ireturn, 1) := dk_172 (dk_at dksX0_told_2 14 rfl rfl)
theorem dX0_told_79 : decode cX0_told 79 = .ok (.aload_n 3, 1) := dk_45 (dk_at dksX0_told_2 15 rfl rfl)
theorem dX0_told_80 : decode cX0_told 80 = .ok (.getfield 54, 3) := dk_180 0 54 (dk_at dksX0_told_2 16 rfl rfl)
theorem dX0_told_83 : decode cX0_told 83 = .ok (.ireturn, 1) := dk_172 (dk_at dksX0_told_2 19 rfl rfl)
theorem dX0_told_84 : decode cX0_told 84 = .ok (.aload_n 3, 1) := dk_45 (dk_at dksX0_told_2 20 rfl rfl)
theorem dX0_told_85 : decode cX0_told 85 = .ok (.getfield 46, 3) := dk_180 0 46 (dk_at dksX0_told_2 21 rfl rfl)
theorem dX0_told_88 : decode cX0_told 88 = .ok (.ireturn, 1) := dk_172 (dk_at dksX0_told_3 0 rfl rfl)
theorem dX0_told_89 : decode cX0_told 89 = .ok (.aload_n 3, 1) := dk_45 (dk_at dksX0_told_3 1 rfl rfl)
theorem dX0_told_90 : decode cX0_told 90 = .ok (.getfield 151, 3) := dk_180 0 151 (dk_at dksX0_told_3 2 rfl rfl)
theorem dX0_told_93 : decode cX0_told 93 = .ok (.invokestatic 155, 3) := dk_184 0 155 (dk_at dksX0_told_3 5 rfl rfl)
theorem dX0_told_96 : decode cX0_told 96 = .ok (.ireturn, 1) := dk_172 (dk_at dksX0_told_3 8 rfl rfl)
theorem dX0_told_97 : decode cX0_told 97 = .ok (.aload_n 3, 1) := dk_45 (dk_at dksX0_told_3 9 rfl rfl)
theorem dX0_told_98 : decode cX0_told 98 = .ok (.invokevirtual 159, 3) := dk_182 0 159 (dk_at dksX0_told_3 10 rfl rfl)
theorem dX0_told_101 : decode cX0_told 101 = .ok (.ireturn, 1) := dk_172 (dk_at dksX0_told_3 13 rfl rfl)
theorem dX0_told_102 : decode cX0_told 102 = .ok (.ldc 135, 2) := dk_18 135 (dk_at dksX0_told_3 14 rfl rfl)
theorem dX0_told_104 : decode cX0_told 104 = .ok (.ireturn, 1) := dk_172 (dk_at dksX0_told_3 16 rfl rfl)
abbrev cX0_isGlove : ByteArray := prog_1_method_10_code
def yX0_isGlove : MethodName := ⟨RX0, "isGlove", "(I)Z"⟩
def dkwX0_isGlove_0 : List UInt8 := [27, 133, 9, 42, 180, 0, 72, 180, 0, 118, 4, 100, 133, 184, 0, 121, 172]
abbrev dktX0_isGlove_0 : List UInt8 := dkwX0_isGlove_0 ++ []
theorem dksX0_isGlove_0 : cX0_isGlove.data.toList.drop 0 = dktX0_isGlove_0 := by decide +kernel
theorem dX0_isGlove_0 : decode cX0_isGlove 0 = .ok (.iload_n 1, 1) := dk_27 (dk_at dksX0_isGlove_0 0 rfl rfl)
theorem dX0_isGlove_1 : decode cX0_isGlove 1 = .ok (.i2l, 1) := dk_133 (dk_at dksX0_isGlove_0 1 rfl rfl)
theorem dX0_isGlove_2 : decode cX0_isGlove 2 = .ok (.lconst 0, 1) := dk_9 (dk_at dksX0_isGlove_0 2 rfl rfl)
theorem dX0_isGlove_3 : decode cX0_isGlove 3 = .ok (.aload_n 0, 1) := dk_42 (dk_at dksX0_isGlove_0 3 rfl rfl)
theorem dX0_isGlove_4 : decode cX0_isGlove 4 = .ok (.getfield 72, 3) := dk_180 0 72 (dk_at dksX0_isGlove_0 4 rfl rfl)
theorem dX0_isGlove_7 : decode cX0_isGlove 7 = .ok (.getfield 118, 3) := dk_180 0 118 (dk_at dksX0_isGlove_0 7 rfl rfl)
theorem dX0_isGlove_10 : decode cX0_isGlove 10 = .ok (.iconst 1, 1) := dk_4 (dk_at dksX0_isGlove_0 10 rfl rfl)
theorem dX0_isGlove_11 : decode cX0_isGlove 11 = .ok (.isub, 1) := dk_100 (dk_at dksX0_isGlove_0 11 rfl rfl)
theorem dX0_isGlove_12 : decode cX0_isGlove 12 = .ok (.i2l, 1) := dk_133 (dk_at dksX0_isGlove_0 12 rfl rfl)
theorem dX0_isGlove_13 : decode cX0_isGlove 13 = .ok (.invokestatic 121, 3) := dk_184 0 121 (dk_at dksX0_isGlove_0 13 rfl rfl)
theorem dX0_isGlove_16 : decode cX0_isGlove 16 = .ok (.ireturn, 1) := dk_172 (dk_at dksX0_isGlove_0 16 rfl rfl)
abbrev cX0_asBit : ByteArray := prog_1_method_4_code
def yX0_asBit : MethodName := ⟨RX0, "asBit", "(Z)I"⟩
def dkwX0_asBit_0 : List UInt8 := [26, 153, 0, 7, 4, 167, 0, 4, 3, 172]
abbrev dktX0_asBit_0 : List UInt8 := dkwX0_asBit_0 ++ []
theorem dksX0_asBit_0 : cX0_asBit.data.toList.drop 0 = dktX0_asBit_0 := by decide +kernel
theorem dX0_asBit_0 : decode cX0_asBit 0 = .ok (.iload_n 0, 1) := dk_26 (dk_at dksX0_asBit_0 0 rfl rfl)
theorem dX0_asBit_1 : decode cX0_asBit 1 = .ok (.ifCond .eq 7, 3) := dk_153 0 7 (dk_at dksX0_asBit_0 1 rfl rfl)
theorem dX0_asBit_4 : decode cX0_asBit 4 = .ok (.iconst 1, 1) := dk_4 (dk_at dksX0_asBit_0 4 rfl rfl)
theorem dX0_asBit_5 : decode cX0_asBit 5 = .ok (.goto 4, 3) := dk_167 0 4 (dk_at dksX0_asBit_0 5 rfl rfl)
theorem dX0_asBit_8 : decode cX0_asBit 8 = .ok (.iconst 0, 1) := dk_3 (dk_at dksX0_asBit_0 8 rfl rfl)
theorem dX0_asBit_9 : decode cX0_asBit 9 = .ok (.ireturn, 1) := dk_172 (dk_at dksX0_asBit_0 9 rfl rfl)
abbrev cX0_as : ByteArray := prog_1_method_16_code
def yX0_as : MethodName := ⟨RX0, "as", "(II)I"⟩
def dkwX0_as_1 : List UInt8 := [180, 0, 72, 180, 0, 147, 27, 50, 28, 184, 0, 162, 180, 0, 54, 172, 78, 18, 168, 172]
abbrev dktX0_as_1 : List UInt8 := dkwX0_as_1 ++ []
def dkwX0_as_0 : List UInt8 := [42, 27, 182, 0, 125, 153, 0, 15, 28, 133, 9, 20, 0, 129, 184, 0, 121, 154, 0, 6, 18, 135, 172, 42]
abbrev dktX0_as_0 : List UInt8 := dkwX0_as_0 ++ dktX0_as_1
theorem dksX0_as_0 : cX0_as.data.toList.drop 0 = dktX0_as_0 := by decide +kernel
theorem dksX0_as_1 : cX0_as.data.toList.drop 24 = dktX0_as_1 := dk_seg dksX0_as_0 24 rfl rfl
theorem dX0_as_0 : decode cX0_as 0 = .ok (.aload_n 0, 1) := dk_42 (dk_at dksX0_as_0 0 rfl rfl)
theorem dX0_as_1 : decode cX0_as 1 = .ok (.iload_n 1, 1) := dk_27 (dk_at dksX0_as_0 1 rfl rfl)
theorem dX0_as_2 : decode cX0_as 2 = .ok (.invokevirtual 125, 3) := dk_182 0 125 (dk_at dksX0_as_0 2 rfl rfl)
theorem dX0_as_5 : decode cX0_as 5 = .ok (.ifCond .eq 15, 3) := dk_153 0 15 (dk_at dksX0_as_0 5 rfl rfl)
theorem dX0_as_8 : decode cX0_as 8 = .ok (.iload_n 2, 1) := dk_28 (dk_at dksX0_as_0 8 rfl rfl)
theorem dX0_as_9 : decode cX0_as 9 = .ok (.i2l, 1) := dk_133 (dk_at dksX0_as_0 9 rfl rfl)
theorem dX0_as_10 : decode cX0_as 10 = .ok (.lconst 0, 1) := dk_9 (dk_at dksX0_as_0 10 rfl rfl)
theorem dX0_as_11 : decode cX0_as 11 = .ok (.ldc2_w 129, 3) := dk_20 0 129 (dk_at dksX0_as_0 11 rfl rfl)
theorem dX0_as_14 : decode cX0_as 14 = .ok (.invokestatic 121, 3) := dk_184 0 121 (dk_at dksX0_as_0 14 rfl rfl)
theorem dX0_as_17 : decode cX0_as 17 = .ok (.ifCond .ne 6, 3) := dk_154 0 6 (dk_at dksX0_as_0 17 rfl rfl)
theorem dX0_as_20 : decode cX0_as 20 = .ok (.ldc 135, 2) := dk_18 135 (dk_at dksX0_as_0 20 rfl rfl)
theorem dX0_as_22 : decode cX0_as 22 = .ok (.ireturn, 1) := dk_172 (dk_at dksX0_as_0 22 rfl rfl)
theorem dX0_as_23 : decode cX0_as 23 = .ok (.aload_n 0, 1) := dk_42 (dk_at dksX0_as_0 23 rfl rfl)
theorem dX0_as_24 : decode cX0_as 24 = .ok (.getfield 72, 3) := dk_180 0 72 (dk_at dksX0_as_1 0 rfl rfl)
theorem dX0_as_27 : decode cX0_as 27 = .ok (.getfield 147, 3) := dk_180 0 147 (dk_at dksX0_as_1 3 rfl rfl)
theorem dX0_as_30 : decode cX0_as 30 = .ok (.iload_n 1, 1) := dk_27 (dk_at dksX0_as_1 6 rfl rfl)
theorem dX0_as_31 : decode cX0_as 31 = .ok (.aaload, 1) := dk_50 (dk_at dksX0_as_1 7 rfl rfl)
theorem dX0_as_32 : decode cX0_as 32 = .ok (.iload_n 2, 1) := dk_28 (dk_at dksX0_as_1 8 rfl rfl)
theorem dX0_as_33 : decode cX0_as 33 = .ok (.invokestatic 162, 3) := dk_184 0 162 (dk_at dksX0_as_1 9 rfl rfl)
theorem dX0_as_36 : decode cX0_as 36 = .ok (.getfield 54, 3) := dk_180 0 54 (dk_at dksX0_as_1 12 rfl rfl)
theorem dX0_as_39 : decode cX0_as 39 = .ok (.ireturn, 1) := dk_172 (dk_at dksX0_as_1 15 rfl rfl)
theorem dX0_as_40 : decode cX0_as 40 = .ok (.astore_n 3, 1) := dk_78 (dk_at dksX0_as_1 16 rfl rfl)
theorem dX0_as_41 : decode cX0_as 41 = .ok (.ldc 168, 2) := dk_18 168 (dk_at dksX0_as_1 17 rfl rfl)
theorem dX0_as_43 : decode cX0_as 43 = .ok (.ireturn, 1) := dk_172 (dk_at dksX0_as_1 19 rfl rfl)
abbrev cX0_takenFor : ByteArray := prog_1_method_15_code
def yX0_takenFor : MethodName := ⟨RX0, "takenFor", "(Ljava/lang/Object;I)LTwoGuilds$Glove;"⟩
def dkwX0_takenFor_3 : List UInt8 := [176, 42, 192, 0, 31, 176]
abbrev dktX0_takenFor_3 : List UInt8 := dkwX0_takenFor_3 ++ []
def dkwX0_takenFor_2 : List UInt8 := [42, 192, 0, 13, 176, 42, 192, 0, 19, 176, 42, 192, 0, 22, 176, 42, 192, 0, 25, 176, 42, 192, 0, 28]
abbrev dktX0_takenFor_2 : List UInt8 := dkwX0_takenFor_2 ++ dktX0_takenFor_3
def dkwX0_takenFor_1 : List UInt8 := [170, 0, 0, 0, 0, 0, 60, 0, 0, 0, 0, 0, 0, 0, 4, 0, 0, 0, 35, 0, 0, 0, 40, 0, 0, 0, 45, 0, 0, 0, 50, 0, 0, 0, 55]
abbrev dktX0_takenFor_1 : List UInt8 := dkwX0_takenFor_1 ++ dktX0_takenFor_2
def dkwX0_takenFor_0 : List UInt8 := [27]
abbrev dktX0_takenFor_0 : List UInt8 := dkwX0_takenFor_0 ++ dktX0_takenFor_1
theorem dksX0_takenFor_0 : cX0_takenFor.data.toList.drop 0 = dktX0_takenFor_0 := by decide +kernel
theorem dksX0_takenFor_1 : cX0_takenFor.data.toList.drop 1 = dktX0_takenFor_1 := dk_seg dksX0_takenFor_0 1 rfl rfl
theorem dksX0_takenFor_2 : cX0_takenFor.data.toList.drop 36 = dktX0_takenFor_2 := dk_seg dksX0_takenFor_1 35 rfl rfl
theorem dksX0_takenFor_3 : cX0_takenFor.data.toList.drop 60 = dktX0_takenFor_3 := dk_seg dksX0_takenFor_2 24 rfl rfl
theorem dX0_takenFor_0 : decode cX0_takenFor 0 = .ok (.iload_n 1, 1) := dk_27 (dk_at dksX0_takenFor_0 0 rfl rfl)
theorem dX0_takenFor_1 : decode cX0_takenFor 1 = .ok (.tableswitch 60 0 4 #[35, 40, 45, 50, 55], 35) := by decide +kernel
theorem dX0_takenFor_36 : decode cX0_takenFor 36 = .ok (.aload_n 0, 1) := dk_42 (dk_at dksX0_takenFor_2 0 rfl rfl)
theorem dX0_takenFor_37 : decode cX0_takenFor 37 = .ok (.checkcast 13, 3) := dk_192 0 13 (dk_at dksX0_takenFor_2 1 rfl rfl)
theorem dX0_takenFor_40 : decode cX0_takenFor 40 = .ok (.areturn, 1) := dk_176 (dk_at dksX0_takenFor_2 4 rfl rfl)
theorem dX0_takenFor_41 : decode cX0_takenFor 41 = .ok (.aload_n 0, 1) := dk_42 (dk_at dksX0_takenFor_2 5 rfl rfl)
theorem dX0_takenFor_42 : decode cX0_takenFor 42 = .ok (.checkcast 19, 3) := dk_192 0 19 (dk_at dksX0_takenFor_2 6 rfl rfl)
theorem dX0_takenFor_45 : decode cX0_takenFor 45 = .ok (.areturn, 1) := dk_176 (dk_at dksX0_takenFor_2 9 rfl rfl)
theorem dX0_takenFor_46 : decode cX0_takenFor 46 = .ok (.aload_n 0, 1) := dk_42 (dk_at dksX0_takenFor_2 10 rfl rfl)
theorem dX0_takenFor_47 : decode cX0_takenFor 47 = .ok (.checkcast 22, 3) := dk_192 0 22 (dk_at dksX0_takenFor_2 11 rfl rfl)
theorem dX0_takenFor_50 : decode cX0_takenFor 50 = .ok (.areturn, 1) := dk_176 (dk_at dksX0_takenFor_2 14 rfl rfl)
theorem dX0_takenFor_51 : decode cX0_takenFor 51 = .ok (.aload_n 0, 1) := dk_42 (dk_at dksX0_takenFor_2 15 rfl rfl)
theorem dX0_takenFor_52 : decode cX0_takenFor 52 = .ok (.checkcast 25, 3) := dk_192 0 25 (dk_at dksX0_takenFor_2 16 rfl rfl)
theorem dX0_takenFor_55 : decode cX0_takenFor 55 = .ok (.areturn, 1) := dk_176 (dk_at dksX0_takenFor_2 19 rfl rfl)
theorem dX0_takenFor_56 : decode cX0_takenFor 56 = .ok (.aload_n 0, 1) := dk_42 (dk_at dksX0_takenFor_2 20 rfl rfl)
theorem dX0_takenFor_57 : decode cX0_takenFor 57 = .ok (.checkcast 28, 3) := dk_192 0 28 (dk_at dksX0_takenFor_2 21 rfl rfl)
theorem dX0_takenFor_60 : decode cX0_takenFor 60 = .ok (.areturn, 1) := dk_176 (dk_at dksX0_takenFor_3 0 rfl rfl)
theorem dX0_takenFor_61 : decode cX0_takenFor 61 = .ok (.aload_n 0, 1) := dk_42 (dk_at dksX0_takenFor_3 1 rfl rfl)
theorem dX0_takenFor_62 : decode cX0_takenFor 62 = .ok (.checkcast 31, 3) := dk_192 0 31 (dk_at dksX0_takenFor_3 2 rfl rfl)
theorem dX0_takenFor_65 : decode cX0_takenFor 65 = .ok (.areturn, 1) := dk_176 (dk_at dksX0_takenFor_3 5 rfl rfl)
abbrev cX0_turns : ByteArray := prog_1_method_17_code
def yX0_turns : MethodName := ⟨RX0, "turns", "(II)I"⟩
def dkwX0_turns_2 : List UInt8 := [182, 0, 42, 83, 45, 182, 0, 34, 172]
abbrev dktX0_turns_2 : List UInt8 := dkwX0_turns_2 ++ []
def dkwX0_turns_1 : List UInt8 := [180, 0, 72, 180, 0, 147, 27, 50, 78, 42, 180, 0, 72, 180, 0, 147, 27, 42, 28, 182, 0, 38, 45]
abbrev dktX0_turns_1 : List UInt8 := dkwX0_turns_1 ++ dktX0_turns_2
def dkwX0_turns_0 : List UInt8 := [42, 27, 182, 0, 125, 153, 0, 15, 28, 133, 9, 20, 0, 129, 184, 0, 121, 154, 0, 6, 18, 135, 172, 42]
abbrev dktX0_turns_0 : List UInt8 := dkwX0_turns_0 ++ dktX0_turns_1
theorem dksX0_turns_0 : cX0_turns.data.toList.drop 0 = dktX0_turns_0 := by decide +kernel
theorem dksX0_turns_1 : cX0_turns.data.toList.drop 24 = dktX0_turns_1 := dk_seg dksX0_turns_0 24 rfl rfl
theorem dksX0_turns_2 : cX0_turns.data.toList.drop 47 = dktX0_turns_2 := dk_seg dksX0_turns_1 23 rfl rfl
theorem dX0_turns_0 : decode cX0_turns 0 = .ok (.aload_n 0, 1) := dk_42 (dk_at dksX0_turns_0 0 rfl rfl)
theorem dX0_turns_1 : decode cX0_turns 1 = .ok (.iload_n 1, 1) := dk_27 (dk_at dksX0_turns_0 1 rfl rfl)
theorem dX0_turns_2 : decode cX0_turns 2 = .ok (.invokevirtual 125, 3) := dk_182 0 125 (dk_at dksX0_turns_0 2 rfl rfl)
theorem dX0_turns_5 : decode cX0_turns 5 = .ok (.ifCond .eq 15, 3) := dk_153 0 15 (dk_at dksX0_turns_0 5 rfl rfl)
theorem dX0_turns_8 : decode cX0_turns 8 = .ok (.iload_n 2, 1) := dk_28 (dk_at dksX0_turns_0 8 rfl rfl)
theorem dX0_turns_9 : decode cX0_turns 9 = .ok (.i2l, 1) := dk_133 (dk_at dksX0_turns_0 9 rfl rfl)
theorem dX0_turns_10 : decode cX0_turns 10 = .ok (.lconst 0, 1) := dk_9 (dk_at dksX0_turns_0 10 rfl rfl)
theorem dX0_turns_11 : decode cX0_turns 11 = .ok (.ldc2_w 129, 3) := dk_20 0 129 (dk_at dksX0_turns_0 11 rfl rfl)
theorem dX0_turns_14 : decode cX0_turns 14 = .ok (.invokestatic 121, 3) := dk_184 0 121 (dk_at dksX0_turns_0 14 rfl rfl)
theorem dX0_turns_17 : decode cX0_turns 17 = .ok (.ifCond .ne 6, 3) := dk_154 0 6 (dk_at dksX0_turns_0 17 rfl rfl)
theorem dX0_turns_20 : decode cX0_turns 20 = .ok (.ldc 135, 2) := dk_18 135 (dk_at dksX0_turns_0 20 rfl rfl)
theorem dX0_turns_22 : decode cX0_turns 22 = .ok (.ireturn, 1) := dk_172 (dk_at dksX0_turns_0 22 rfl rfl)
theorem dX0_turns_23 : decode cX0_turns 23 = .ok (.aload_n 0, 1) := dk_42 (dk_at dksX0_turns_0 23 rfl rfl)
theorem dX0_turns_24 : decode cX0_turns 24 = .ok (.getfield 72, 3) := dk_180 0 72 (dk_at dksX0_turns_1 0 rfl rfl)
theorem dX0_turns_27 : decode cX0_turns 27 = .ok (.getfield 147, 3) := dk_180 0 147 (dk_at dksX0_turns_1 3 rfl rfl)
theorem dX0_turns_30 : decode cX0_turns 30 = .ok (.iload_n 1, 1) := dk_27 (dk_at dksX0_turns_1 6 rfl rfl)
theorem dX0_turns_31 : decode cX0_turns 31 = .ok (.aaload, 1) := dk_50 (dk_at dksX0_turns_1 7 rfl rfl)
theorem dX0_turns_32 : decode cX0_turns 32 = .ok (.astore_n 3, 1) := dk_78 (dk_at dksX0_turns_1 8 rfl rfl)
theorem dX0_turns_33 : decode cX0_turns 33 = .ok (.aload_n 0, 1) := dk_42 (dk_at dksX0_turns_1 9 rfl rfl)
theorem dX0_turns_34 : decode cX0_turns 34 = .ok (.getfield 72, 3) := dk_180 0 72 (dk_at dksX0_turns_1 10 rfl rfl)
theorem dX0_turns_37 : decode cX0_turns 37 = .ok (.getfield 147, 3) := dk_180 0 147 (dk_at dksX0_turns_1 13 rfl rfl)
theorem dX0_turns_40 : decode cX0_turns 40 = .ok (.iload_n 1, 1) := dk_27 (dk_at dksX0_turns_1 16 rfl rfl)
theorem dX0_turns_41 : decode cX0_turns 41 = .ok (.aload_n 0, 1) := dk_42 (dk_at dksX0_turns_1 17 rfl rfl)
theorem dX0_turns_42 : decode cX0_turns 42 = .ok (.iload_n 2, 1) := dk_28 (dk_at dksX0_turns_1 18 rfl rfl)
theorem dX0_turns_43 : decode cX0_turns 43 = .ok (.invokevirtual 38, 3) := dk_182 0 38 (dk_at dksX0_turns_1 19 rfl rfl)
theorem dX0_turns_46 : decode cX0_turns 46 = .ok (.aload_n 3, 1) := dk_45 (dk_at dksX0_turns_1 22 rfl rfl)
theorem dX0_turns_47 : decode cX0_turns 47 = .ok (.invokevirtual 42, 3) := dk_182 0 42 (dk_at dksX0_turns_2 0 rfl rfl)
theorem dX0_turns_50 : decode cX0_turns 50 = .ok (.aastore, 1) := dk_83 (dk_at dksX0_turns_2 3 rfl rfl)
theorem dX0_turns_51 : decode cX0_turns 51 = .ok (.aload_n 3, 1) := dk_45 (dk_at dksX0_turns_2 4 rfl rfl)
theorem dX0_turns_52 : decode cX0_turns 52 = .ok (.invokevirtual 34, 3) := dk_182 0 34 (dk_at dksX0_turns_2 5 rfl rfl)
theorem dX0_turns_55 : decode cX0_turns 55 = .ok (.ireturn, 1) := dk_172 (dk_at dksX0_turns_2 8 rfl rfl)
abbrev cX0_set : ByteArray := prog_1_method_18_code
def yX0_set : MethodName := ⟨RX0, "set", "(III)I"⟩
def dkwX0_set_7 : List UInt8 := [4, 167, 0, 12, 3, 167, 0, 8, 25, 5, 180, 0, 151, 181, 0, 151, 21, 4, 172]
abbrev dktX0_set_7 : List UInt8 := dkwX0_set_7 ++ []
def dkwX0_set_6 : List UInt8 := [29, 167, 0, 8, 25, 5, 180, 0, 46, 181, 0, 46, 25, 5, 28, 8, 160, 0, 16, 29, 4, 160, 0, 7]
abbrev dktX0_set_6 : List UInt8 := dkwX0_set_6 ++ dktX0_set_7
def dkwX0_set_5 : List UInt8 := [28, 6, 160, 0, 7, 29, 167, 0, 8, 25, 5, 180, 0, 54, 181, 0, 54, 25, 5, 28, 7, 160, 0, 7]
abbrev dktX0_set_5 : List UInt8 := dkwX0_set_5 ++ dktX0_set_6
def dkwX0_set_4 : List UInt8 := [181, 0, 141, 25, 5, 28, 5, 160, 0, 7, 29, 167, 0, 8, 25, 5, 180, 0, 144, 181, 0, 144, 25, 5]
abbrev dktX0_set_4 : List UInt8 := dkwX0_set_4 ++ dktX0_set_5
def dkwX0_set_3 : List UInt8 := [180, 0, 147, 27, 50, 58, 5, 25, 5, 28, 4, 160, 0, 7, 29, 167, 0, 8, 25, 5, 180, 0, 141]
abbrev dktX0_set_3 : List UInt8 := dkwX0_set_3 ++ dktX0_set_4
def dkwX0_set_2 : List UInt8 := [20, 0, 133, 184, 0, 121, 154, 0, 6, 18, 135, 172, 42, 27, 28, 182, 0, 169, 54, 4, 42, 180, 0, 72]
abbrev dktX0_set_2 : List UInt8 := dkwX0_set_2 ++ dktX0_set_3
def dkwX0_set_1 : List UInt8 := [4, 159, 0, 8, 28, 8, 160, 0, 7, 10, 167, 0, 17, 28, 5, 160, 0, 9, 20, 0, 131, 167, 0, 6]
abbrev dktX0_set_1 : List UInt8 := dkwX0_set_1 ++ dktX0_set_2
def dkwX0_set_0 : List UInt8 := [42, 27, 182, 0, 125, 153, 0, 52, 28, 133, 10, 20, 0, 129, 184, 0, 121, 153, 0, 40, 29, 133, 9, 28]
abbrev dktX0_set_0 : List UInt8 := dkwX0_set_0 ++ dktX0_set_1
theorem dksX0_set_0 : cX0_set.data.toList.drop 0 = dktX0_set_0 := by decide +kernel
theorem dksX0_set_1 : cX0_set.data.toList.drop 24 = dktX0_set_1 := dk_seg dksX0_set_0 24 rfl rfl
theorem dksX0_set_2 : cX0_set.data.toList.drop 48 = dktX0_set_2 := dk_seg dksX0_set_1 24 rfl rfl
theorem dksX0_set_3 : cX0_set.data.toList.drop 72 = dktX0_set_3 := dk_seg dksX0_set_2 24 rfl rfl
theorem dksX0_set_4 : cX0_set.data.toList.drop 95 = dktX0_set_4 := dk_seg dksX0_set_3 23 rfl rfl
theorem dksX0_set_5 : cX0_set.data.toList.drop 119 = dktX0_set_5 := dk_seg dksX0_set_4 24 rfl rfl
theorem dksX0_set_6 : cX0_set.data.toList.drop 143 = dktX0_set_6 := dk_seg dksX0_set_5 24 rfl rfl
theorem dksX0_set_7 : cX0_set.data.toList.drop 167 = dktX0_set_7 := dk_seg dksX0_set_6 24 rfl rfl
theorem dX0_set_0 : decode cX0_set 0 = .ok (.aload_n 0, 1) := dk_42 (dk_at dksX0_set_0 0 rfl rfl)
theorem dX0_set_1 : decode cX0_set 1 = .ok (.iload_n 1, 1) := dk_27 (dk_at dksX0_set_0 1 rfl rfl)
theorem dX0_set_2 : decode cX0_set 2 = .ok (.invokevirtual 125, 3) := dk_182 0 125 (dk_at dksX0_set_0 2 rfl rfl)
theorem dX0_set_5 : decode cX0_set 5 = .ok (.ifCond .eq 52, 3) := dk_153 0 52 (dk_at dksX0_set_0 5 rfl rfl)
theorem dX0_set_8 : decode cX0_set 8 = .ok (.iload_n 2, 1) := dk_28 (dk_at dksX0_set_0 8 rfl rfl)
theorem dX0_set_9 : decode cX0_set 9 = .ok (.i2l, 1) := dk_133 (dk_at dksX0_set_0 9 rfl rfl)
theorem dX0_set_10 : decode cX0_set 10 = .ok (.lconst 1, 1) := dk_10 (dk_at dksX0_set_0 10 rfl rfl)
theorem dX0_set_11 : decode cX0_set 11 = .ok (.ldc2_w 129, 3) := dk_20 0 129 (dk_at dksX0_set_0 11 rfl rfl)
theorem dX0_set_14 : decode cX0_set 14 = .ok (.invokestatic 121, 3) := dk_184 0 121 (dk_at dksX0_set_0 14 rfl rfl)
theorem dX0_set_17 : decode cX0_set 17 = .ok (.ifCond .eq 40, 3) := dk_153 0 40 (dk_at dksX0_set_0 17 rfl rfl)
theorem dX0_set_20 : decode cX0_set 20 = .ok (.iload_n 3, 1) := dk_29 (dk_at dksX0_set_0 20 rfl rfl)
theorem dX0_set_21 : decode cX0_set 21 = .ok (.i2l, 1) := dk_133 (dk_at dksX0_set_0 21 rfl rfl)
theorem dX0_set_22 : decode cX0_set 22 = .ok (.lconst 0, 1) := dk_9 (dk_at dksX0_set_0 22 rfl rfl)
theorem dX0_set_23 : decode cX0_set 23 = .ok (.iload_n 2, 1) := dk_28 (dk_at dksX0_set_0 23 rfl rfl)
theorem dX0_set_24 : decode cX0_set 24 = .ok (.iconst 1, 1) := dk_4 (dk_at dksX0_set_1 0 rfl rfl)
theorem dX0_set_25 : decode cX0_set 25 = .ok (.if_icmp .eq 8, 3) := dk_159 0 8 (dk_at dksX0_set_1 1 rfl rfl)
theorem dX0_set_28 : decode cX0_set 28 = .ok (.iload_n 2, 1) := dk_28 (dk_at dksX0_set_1 4 rfl rfl)
theorem dX0_set_29 : decode cX0_set 29 = .ok (.iconst 5, 1) := dk_8 (dk_at dksX0_set_1 5 rfl rfl)
theorem dX0_set_30 : decode cX0_set 30 = .ok (.if_icmp .ne 7, 3) := dk_160 0 7 (dk_at dksX0_set_1 6 rfl rfl)
theorem dX0_set_33 : decode cX0_set 33 = .ok (.lconst 1, 1) := dk_10 (dk_at dksX0_set_1 9 rfl rfl)
theorem dX0_set_34 : decode cX0_set 34 = .ok (.goto 17, 3) := dk_167 0 17 (dk_at dksX0_set_1 10 rfl rfl)
theorem dX0_set_37 : decode cX0_set 37 = .ok (.iload_n 2, 1) := dk_28 (dk_at dksX0_set_1 13 rfl rfl)
theorem dX0_set_38 : decode cX0_set 38 = .ok (.iconst 2, 1) := dk_5 (dk_at dksX0_set_1 14 rfl rfl)
theorem dX0_set_39 : decode cX0_set 39 = .ok (.if_icmp .ne 9, 3) := dk_160 0 9 (dk_at dksX0_set_1 15 rfl rfl)
theorem dX0_set_42 : decode cX0_set 42 = .ok (.ldc2_w 131, 3) := dk_20 0 131 (dk_at dksX0_set_1 18 rfl rfl)
theorem dX0_set_45 : decode cX0_set 45 = .ok (.goto 6, 3) := dk_167 0 6 (dk_at dksX0_set_1 21 rfl rfl)
theorem dX0_set_48 : decode cX0_set 48 = .ok (.ldc2_w 133, 3) := dk_20 0 133 (dk_at dksX0_set_2 0 rfl rfl)
theorem dX0_set_51 : decode cX0_set 51 = .ok (.invokestatic 121, 3) := dk_184 0 121 (dk_at dksX0_set_2 3 rfl rfl)
theorem dX0_set_54 : decode cX0_set 54 = .ok (.ifCond .ne 6, 3) := dk_154 0 6 (dk_at dksX0_set_2 6 rfl rfl)
theorem dX0_set_57 : decode cX0_set 57 = .ok (.ldc 135, 2) := dk_18 135 (dk_at dksX0_set_2 9 rfl rfl)
theorem dX0_set_59 : decode cX0_set 59 = .ok (.ireturn, 1) := dk_172 (dk_at dksX0_set_2 11 rfl rfl)
theorem dX0_set_60 : decode cX0_set 60 = .ok (.aload_n 0, 1) := dk_42 (dk_at dksX0_set_2 12 rfl rfl)
theorem dX0_set_61 : decode cX0_set 61 = .ok (.iload_n 1, 1) := dk_27 (dk_at dksX0_set_2 13 rfl rfl)
theorem dX0_set_62 : decode cX0_set 62 = .ok (.iload_n 2, 1) := dk_28 (dk_at dksX0_set_2 14 rfl rfl)
theorem dX0_set_63 : decode cX0_set 63 = .ok (.invokevirtual 169, 3) := dk_182 0 169 (dk_at dksX0_set_2 15 rfl rfl)
theorem dX0_set_66 : decode cX0_set 66 = .ok (.istore 4, 2) := dk_54 4 (dk_at dksX0_set_2 18 rfl rfl)
theorem dX0_set_68 : decode cX0_set 68 = .ok (.aload_n 0, 1) := dk_42 (dk_at dksX0_set_2 20 rfl rfl)
theorem dX0_set_69 : decode cX0_set 69 = .ok (.getfield 72, 3) := dk_180 0 72 (dk_at dksX0_set_2 21 rfl rfl)
theorem dX0_set_72 : decode cX0_set 72 = .ok (.getfield 147, 3) := dk_180 0 147 (dk_at dksX0_set_3 0 rfl rfl)
theorem dX0_set_75 : decode cX0_set 75 = .ok (.iload_n 1, 1) := dk_27 (dk_at dksX0_set_3 3 rfl rfl)
theorem dX0_set_76 : decode cX0_set 76 = .ok (.aaload, 1) := dk_50 (dk_at dksX0_set_3 4 rfl rfl)
theorem dX0_set_77 : decode cX0_set 77 = .ok (.astore 5, 2) := dk_58 5 (dk_at dksX0_set_3 5 rfl rfl)
theorem dX0_set_79 : decode cX0_set 79 = .ok (.aload 5, 2) := dk_25 5 (dk_at dksX0_set_3 7 rfl rfl)
theorem dX0_set_81 : decode cX0_set 81 = .ok (.iload_n 2, 1) := dk_28 (dk_at dksX0_set_3 9 rfl rfl)
theorem dX0_set_82 : decode cX0_set 82 = .ok (.iconst 1, 1) := dk_4 (dk_at dksX0_set_3 10 rfl rfl)
theorem dX0_set_83 : decode cX0_set 83 = .ok (.if_icmp .ne 7, 3) := dk_160 0 7 (dk_at dksX0_set_3 11 rfl rfl)
theorem dX0_set_86 : decode cX0_set 86 = .ok (.iload_n 3, 1) := dk_29 (dk_at dksX0_set_3 14 rfl rfl)
theorem dX0_set_87 : decode cX0_set 87 = .ok (.goto 8, 3) := dk_167 0 8 (dk_at dksX0_set_3 15 rfl rfl)
theorem dX0_set_90 : decode cX0_set 90 = .ok (.aload 5, 2) := dk_25 5 (dk_at dksX0_set_3 18 rfl rfl)
theorem dX0_set_92 : decode cX0_set 92 = .ok (.getfield 141, 3) := dk_180 0 141 (dk_at dksX0_set_3 20 rfl rfl)
theorem dX0_set_95 : decode cX0_set 95 = .ok (.putfield 141, 3) := dk_181 0 141 (dk_at dksX0_set_4 0 rfl rfl)
theorem dX0_set_98 : decode cX0_set 98 = .ok (.aload 5, 2) := dk_25 5 (dk_at dksX0_set_4 3 rfl rfl)
theorem dX0_set_100 : decode cX0_set 100 = .ok (.iload_n 2, 1) := dk_28 (dk_at dksX0_set_4 5 rfl rfl)
theorem dX0_set_101 : decode cX0_set 101 = .ok (.iconst 2, 1) := dk_5 (dk_at dksX0_set_4 6 rfl rfl)
theorem dX0_set_102 : decode cX0_set 102 = .ok (.if_icmp .ne 7, 3) := dk_160 0 7 (dk_at dksX0_set_4 7 rfl rfl)
theorem dX0_set_105 : decode cX0_set 105 = .ok (.iload_n 3, 1) := dk_29 (dk_at dksX0_set_4 10 rfl rfl)
theorem dX0_set_106 : decode cX0_set 106 = .ok (.goto 8, 3) := dk_167 0 8 (dk_at dksX0_set_4 11 rfl rfl)
theorem dX0_set_109 : decode cX0_set 109 = .ok (.aload 5, 2) := dk_25 5 (dk_at dksX0_set_4 14 rfl rfl)
theorem dX0_set_111 : decode cX0_set 111 = .ok (.getfield 144, 3) := dk_180 0 144 (dk_at dksX0_set_4 16 rfl rfl)
theorem dX0_set_114 : decode cX0_set 114 = .ok (.putfield 144, 3) := dk_181 0 144 (dk_at dksX0_set_4 19 rfl rfl)
theorem dX0_set_117 : decode cX0_set 117 = .ok (.aload 5, 2) := dk_25 5 (dk_at dksX0_set_4 22 rfl rfl)
theorem dX0_set_119 : decode cX0_set 119 = .ok (.iload_n 2, 1) := dk_28 (dk_at dksX0_set_5 0 rfl rfl)
theorem dX0_set_120 : decode cX0_set 120 = .ok (.iconst 3, 1) := dk_6 (dk_at dksX0_set_5 1 rfl rfl)
theorem dX0_set_121 : decode cX0_set 121 = .ok (.if_icmp .ne 7, 3) := dk_160 0 7 (dk_at dksX0_set_5 2 rfl rfl)
theorem dX0_set_124 : decode cX0_set 124 = .ok (.iload_n 3, 1) := dk_29 (dk_at dksX0_set_5 5 rfl rfl)
theorem dX0_set_125 : decode cX0_set 125 = .ok (.goto 8, 3) := dk_167 0 8 (dk_at dksX0_set_5 6 rfl rfl)
theorem dX0_set_128 : decode cX0_set 128 = .ok (.aload 5, 2) := dk_25 5 (dk_at dksX0_set_5 9 rfl rfl)
theorem dX0_set_130 : decode cX0_set 130 = .ok (.getfield 54, 3) := dk_180 0 54 (dk_at dksX0_set_5 11 rfl rfl)
theorem dX0_set_133 : decode cX0_set 133 = .ok (.putfield 54, 3) := dk_181 0 54 (dk_at dksX0_set_5 14 rfl rfl)
theorem dX0_set_136 : decode cX0_set 136 = .ok (.aload 5, 2) := dk_25 5 (dk_at dksX0_set_5 17 rfl rfl)
theorem dX0_set_138 : decode cX0_set 138 = .ok (.iload_n 2, 1) := dk_28 (dk_at dksX0_set_5 19 rfl rfl)
theorem dX0_set_139 : decode cX0_set 139 = .ok (.iconst 4, 1) := dk_7 (dk_at dksX0_set_5 20 rfl rfl)
theorem dX0_set_140 : decode cX0_set 140 = .ok (.if_icmp .ne 7, 3) := dk_160 0 7 (dk_at dksX0_set_5 21 rfl rfl)
theorem dX0_set_143 : decode cX0_set 143 = .ok (.iload_n 3, 1) := dk_29 (dk_at dksX0_set_6 0 rfl rfl)
theorem dX0_set_144 : decode cX0_set 144 = .ok (.goto 8, 3) := dk_167 0 8 (dk_at dksX0_set_6 1 rfl rfl)
theorem dX0_set_147 : decode cX0_set 147 = .ok (.aload 5, 2) := dk_25 5 (dk_at dksX0_set_6 4 rfl rfl)
theorem dX0_set_149 : decode cX0_set 149 = .ok (.getfield 46, 3) := dk_180 0 46 (dk_at dksX0_set_6 6 rfl rfl)
theorem dX0_set_152 : decode cX0_set 152 = .ok (.putfield 46, 3) := dk_181 0 46 (dk_at dksX0_set_6 9 rfl rfl)
theorem dX0_set_155 : decode cX0_set 155 = .ok (.aload 5, 2) := dk_25 5 (dk_at dksX0_set_6 12 rfl rfl)
theorem dX0_set_157 : decode cX0_set 157 = .ok (.iload_n 2, 1) := dk_28 (dk_at dksX0_set_6 14 rfl rfl)
theorem dX0_set_158 : decode cX0_set 158 = .ok (.iconst 5, 1) := dk_8 (dk_at dksX0_set_6 15 rfl rfl)
theorem dX0_set_159 : decode cX0_set 159 = .ok (.if_icmp .ne 16, 3) := dk_160 0 16 (dk_at dksX0_set_6 16 rfl rfl)
theorem dX0_set_162 : decode cX0_set 162 = .ok (.iload_n 3, 1) := dk_29 (dk_at dksX0_set_6 19 rfl rfl)
theorem dX0_set_163 : decode cX0_set 163 = .ok (.iconst 1, 1) := dk_4 (dk_at dksX0_set_6 20 rfl rfl)
theorem dX0_set_164 : decode cX0_set 164 = .ok (.if_icmp .ne 7, 3) := dk_160 0 7 (dk_at dksX0_set_6 21 rfl rfl)
theorem dX0_set_167 : decode cX0_set 167 = .ok (.iconst 1, 1) := dk_4 (dk_at dksX0_set_7 0 rfl rfl)
theorem dX0_set_168 : decode cX0_set 168 = .ok (.goto 12, 3) := dk_167 0 12 (dk_at dksX0_set_7 1 rfl rfl)
theorem dX0_set_171 : decode cX0_set 171 = .ok (.iconst 0, 1) := dk_3 (dk_at dksX0_set_7 4 rfl rfl)
theorem dX0_set_172 : decode cX0_set 172 = .ok (.goto 8, 3) := dk_167 0 8 (dk_at dksX0_set_7 5 rfl rfl)
theorem dX0_set_175 : decode cX0_set 175 = .ok (.aload 5, 2) := dk_25 5 (dk_at dksX0_set_7 8 rfl rfl)
theorem dX0_set_177 : decode cX0_set 177 = .ok (.getfield 151, 3) := dk_180 0 151 (dk_at dksX0_set_7 10 rfl rfl)
theorem dX0_set_180 : decode cX0_set 180 = .ok (.putfield 151, 3) := dk_181 0 151 (dk_at dksX0_set_7 13 rfl rfl)
theorem dX0_set_183 : decode cX0_set 183 = .ok (.iload 4, 2) := dk_21 4 (dk_at dksX0_set_7 16 rfl rfl)
theorem dX0_set_185 : decode cX0_set 185 = .ok (.ireturn, 1) := dk_172 (dk_at dksX0_set_7 18 rfl rfl)
abbrev cX0_fits : ByteArray := prog_1_method_19_code
def yX0_fits : MethodName := ⟨RX0, "fits", "(II)I"⟩
def dkwX0_fits_1 : List UInt8 := [180, 0, 147, 28, 50, 182, 0, 176, 184, 0, 155, 167, 0, 5, 18, 135, 172]
abbrev dktX0_fits_1 : List UInt8 := dkwX0_fits_1 ++ []
def dkwX0_fits_0 : List UInt8 := [42, 27, 28, 182, 0, 172, 153, 0, 30, 42, 180, 0, 72, 180, 0, 147, 27, 50, 42, 180, 0, 72]
abbrev dktX0_fits_0 : List UInt8 := dkwX0_fits_0 ++ dktX0_fits_1
theorem dksX0_fits_0 : cX0_fits.data.toList.drop 0 = dktX0_fits_0 := by decide +kernel
theorem dksX0_fits_1 : cX0_fits.data.toList.drop 22 = dktX0_fits_1 := dk_seg dksX0_fits_0 22 rfl rfl
theorem dX0_fits_0 : decode cX0_fits 0 = .ok (.aload_n 0, 1) := dk_42 (dk_at dksX0_fits_0 0 rfl rfl)
theorem dX0_fits_1 : decode cX0_fits 1 = .ok (.iload_n 1, 1) := dk_27 (dk_at dksX0_fits_0 1 rfl rfl)
theorem dX0_fits_2 : decode cX0_fits 2 = .ok (.iload_n 2, 1) := dk_28 (dk_at dksX0_fits_0 2 rfl rfl)
theorem dX0_fits_3 : decode cX0_fits 3 = .ok (.invokevirtual 172, 3) := dk_182 0 172 (dk_at dksX0_fits_0 3 rfl rfl)
theorem dX0_fits_6 : decode cX0_fits 6 = .ok (.ifCond .eq 30, 3) := dk_153 0 30 (dk_at dksX0_fits_0 6 rfl rfl)
theorem dX0_fits_9 : decode cX0_fits 9 = .ok (.aload_n 0, 1) := dk_42 (dk_at dksX0_fits_0 9 rfl rfl)
theorem dX0_fits_10 : decode cX0_fits 10 = .ok (.getfield 72, 3) := dk_180 0 72 (dk_at dksX0_fits_0 10 rfl rfl)
theorem dX0_fits_13 : decode cX0_fits 13 = .ok (.getfield 147, 3) := dk_180 0 147 (dk_at dksX0_fits_0 13 rfl rfl)
theorem dX0_fits_16 : decode cX0_fits 16 = .ok (.iload_n 1, 1) := dk_27 (dk_at dksX0_fits_0 16 rfl rfl)
theorem dX0_fits_17 : decode cX0_fits 17 = .ok (.aaload, 1) := dk_50 (dk_at dksX0_fits_0 17 rfl rfl)
theorem dX0_fits_18 : decode cX0_fits 18 = .ok (.aload_n 0, 1) := dk_42 (dk_at dksX0_fits_0 18 rfl rfl)
theorem dX0_fits_19 : decode cX0_fits 19 = .ok (.getfield 72, 3) := dk_180 0 72 (dk_at dksX0_fits_0 19 rfl rfl)
theorem dX0_fits_22 : decode cX0_fits 22 = .ok (.getfield 147, 3) := dk_180 0 147 (dk_at dksX0_fits_1 0 rfl rfl)
theorem dX0_fits_25 : decode cX0_fits 25 = .ok (.iload_n 2, 1) := dk_28 (dk_at dksX0_fits_1 3 rfl rfl)
theorem dX0_fits_26 : decode cX0_fits 26 = .ok (.aaload, 1) := dk_50 (dk_at dksX0_fits_1 4 rfl rfl)
theorem dX0_fits_27 : decode cX0_fits 27 = .ok (.invokevirtual 176, 3) := dk_182 0 176 (dk_at dksX0_fits_1 5 rfl rfl)
theorem dX0_fits_30 : decode cX0_fits 30 = .ok (.invokestatic 155, 3) := dk_184 0 155 (dk_at dksX0_fits_1 8 rfl rfl)
theorem dX0_fits_33 : decode cX0_fits 33 = .ok (.goto 5, 3) := dk_167 0 5 (dk_at dksX0_fits_1 11 rfl rfl)
theorem dX0_fits_36 : decode cX0_fits 36 = .ok (.ldc 135, 2) := dk_18 135 (dk_at dksX0_fits_1 14 rfl rfl)
theorem dX0_fits_38 : decode cX0_fits 38 = .ok (.ireturn, 1) := dk_172 (dk_at dksX0_fits_1 16 rfl rfl)
abbrev cX0_areTwo : ByteArray := prog_1_method_11_code
def yX0_areTwo : MethodName := ⟨RX0, "areTwo", "(II)Z"⟩
def dkwX0_areTwo_1 : List UInt8 := [167, 0, 4, 3, 172]
abbrev dktX0_areTwo_1 : List UInt8 := dkwX0_areTwo_1 ++ []
def dkwX0_areTwo_0 : List UInt8 := [42, 27, 182, 0, 125, 153, 0, 20, 42, 28, 182, 0, 125, 153, 0, 12, 27, 28, 159, 0, 7, 4]
abbrev dktX0_areTwo_0 : List UInt8 := dkwX0_areTwo_0 ++ dktX0_areTwo_1
theorem dksX0_areTwo_0 : cX0_areTwo.data.toList.drop 0 = dktX0_areTwo_0 := by decide +kernel
theorem dksX0_areTwo_1 : cX0_areTwo.data.toList.drop 22 = dktX0_areTwo_1 := dk_seg dksX0_areTwo_0 22 rfl rfl
theorem dX0_areTwo_0 : decode cX0_areTwo 0 = .ok (.aload_n 0, 1) := dk_42 (dk_at dksX0_areTwo_0 0 rfl rfl)
theorem dX0_areTwo_1 : decode cX0_areTwo 1 = .ok (.iload_n 1, 1) := dk_27 (dk_at dksX0_areTwo_0 1 rfl rfl)
theorem dX0_areTwo_2 : decode cX0_areTwo 2 = .ok (.invokevirtual 125, 3) := dk_182 0 125 (dk_at dksX0_areTwo_0 2 rfl rfl)
theorem dX0_areTwo_5 : decode cX0_areTwo 5 = .ok (.ifCond .eq 20, 3) := dk_153 0 20 (dk_at dksX0_areTwo_0 5 rfl rfl)
theorem dX0_areTwo_8 : decode cX0_areTwo 8 = .ok (.aload_n 0, 1) := dk_42 (dk_at dksX0_areTwo_0 8 rfl rfl)
theorem dX0_areTwo_9 : decode cX0_areTwo 9 = .ok (.iload_n 2, 1) := dk_28 (dk_at dksX0_areTwo_0 9 rfl rfl)
theorem dX0_areTwo_10 : decode cX0_areTwo 10 = .ok (.invokevirtual 125, 3) := dk_182 0 125 (dk_at dksX0_areTwo_0 10 rfl rfl)
theorem dX0_areTwo_13 : decode cX0_areTwo 13 = .ok (.ifCond .eq 12, 3) := dk_153 0 12 (dk_at dksX0_areTwo_0 13 rfl rfl)
theorem dX0_areTwo_16 : decode cX0_areTwo 16 = .ok (.iload_n 1, 1) := dk_27 (dk_at dksX0_areTwo_0 16 rfl rfl)
theorem dX0_areTwo_17 : decode cX0_areTwo 17 = .ok (.iload_n 2, 1) := dk_28 (dk_at dksX0_areTwo_0 17 rfl rfl)
theorem dX0_areTwo_18 : decode cX0_areTwo 18 = .ok (.if_icmp .eq 7, 3) := dk_159 0 7 (dk_at dksX0_areTwo_0 18 rfl rfl)
theorem dX0_areTwo_21 : decode cX0_areTwo 21 = .ok (.iconst 1, 1) := dk_4 (dk_at dksX0_areTwo_0 21 rfl rfl)
theorem dX0_areTwo_22 : decode cX0_areTwo 22 = .ok (.goto 4, 3) := dk_167 0 4 (dk_at dksX0_areTwo_1 0 rfl rfl)
theorem dX0_areTwo_25 : decode cX0_areTwo 25 = .ok (.iconst 0, 1) := dk_3 (dk_at dksX0_areTwo_1 3 rfl rfl)
theorem dX0_areTwo_26 : decode cX0_areTwo 26 = .ok (.ireturn, 1) := dk_172 (dk_at dksX0_areTwo_1 4 rfl rfl)
abbrev cX0_value : ByteArray := prog_1_method_20_code
def yX0_value : MethodName := ⟨RX0, "value", "(II)I"⟩
def dkwX0_value_2 : List UInt8 := [182, 0, 183, 167, 0, 5, 18, 3, 172]
abbrev dktX0_value_2 : List UInt8 := dkwX0_value_2 ++ []
def dkwX0_value_1 : List UInt8 := [180, 0, 72, 180, 0, 147, 28, 50, 58, 4, 45, 25, 4, 182, 0, 180, 153, 0, 13, 42, 45, 25, 4]
abbrev dktX0_value_1 : List UInt8 := dkwX0_value_1 ++ dktX0_value_2
def dkwX0_value_0 : List UInt8 := [42, 27, 28, 182, 0, 172, 154, 0, 6, 18, 135, 172, 42, 180, 0, 72, 180, 0, 147, 27, 50, 78, 42]
abbrev dktX0_value_0 : List UInt8 := dkwX0_value_0 ++ dktX0_value_1
theorem dksX0_value_0 : cX0_value.data.toList.drop 0 = dktX0_value_0 := by decide +kernel
theorem dksX0_value_1 : cX0_value.data.toList.drop 23 = dktX0_value_1 := dk_seg dksX0_value_0 23 rfl rfl
theorem dksX0_value_2 : cX0_value.data.toList.drop 46 = dktX0_value_2 := dk_seg dksX0_value_1 23 rfl rfl
theorem dX0_value_0 : decode cX0_value 0 = .ok (.aload_n 0, 1) := dk_42 (dk_at dksX0_value_0 0 rfl rfl)
theorem dX0_value_1 : decode cX0_value 1 = .ok (.iload_n 1, 1) := dk_27 (dk_at dksX0_value_0 1 rfl rfl)
theorem dX0_value_2 : decode cX0_value 2 = .ok (.iload_n 2, 1) := dk_28 (dk_at dksX0_value_0 2 rfl rfl)
theorem dX0_value_3 : decode cX0_value 3 = .ok (.invokevirtual 172, 3) := dk_182 0 172 (dk_at dksX0_value_0 3 rfl rfl)
theorem dX0_value_6 : decode cX0_value 6 = .ok (.ifCond .ne 6, 3) := dk_154 0 6 (dk_at dksX0_value_0 6 rfl rfl)
theorem dX0_value_9 : decode cX0_value 9 = .ok (.ldc 135, 2) := dk_18 135 (dk_at dksX0_value_0 9 rfl rfl)
theorem dX0_value_11 : decode cX0_value 11 = .ok (.ireturn, 1) := dk_172 (dk_at dksX0_value_0 11 rfl rfl)
theorem dX0_value_12 : decode cX0_value 12 = .ok (.aload_n 0, 1) := dk_42 (dk_at dksX0_value_0 12 rfl rfl)
theorem dX0_value_13 : decode cX0_value 13 = .ok (.getfield 72, 3) := dk_180 0 72 (dk_at dksX0_value_0 13 rfl rfl)
theorem dX0_value_16 : decode cX0_value 16 = .ok (.getfield 147, 3) := dk_180 0 147 (dk_at dksX0_value_0 16 rfl rfl)
theorem dX0_value_19 : decode cX0_value 19 = .ok (.iload_n 1, 1) := dk_27 (dk_at dksX0_value_0 19 rfl rfl)
theorem dX0_value_20 : decode cX0_value 20 = .ok (.aaload, 1) := dk_50 (dk_at dksX0_value_0 20 rfl rfl)
theorem dX0_value_21 : decode cX0_value 21 = .ok (.astore_n 3, 1) := dk_78 (dk_at dksX0_value_0 21 rfl rfl)
theorem dX0_value_22 : decode cX0_value 22 = .ok (.aload_n 0, 1) := dk_42 (dk_at dksX0_value_0 22 rfl rfl)
theorem dX0_value_23 : decode cX0_value 23 = .ok (.getfield 72, 3) := dk_180 0 72 (dk_at dksX0_value_1 0 rfl rfl)
theorem dX0_value_26 : decode cX0_value 26 = .ok (.getfield 147, 3) := dk_180 0 147 (dk_at dksX0_value_1 3 rfl rfl)
theorem dX0_value_29 : decode cX0_value 29 = .ok (.iload_n 2, 1) := dk_28 (dk_at dksX0_value_1 6 rfl rfl)
theorem dX0_value_30 : decode cX0_value 30 = .ok (.aaload, 1) := dk_50 (dk_at dksX0_value_1 7 rfl rfl)
theorem dX0_value_31 : decode cX0_value 31 = .ok (.astore 4, 2) := dk_58 4 (dk_at dksX0_value_1 8 rfl rfl)
theorem dX0_value_33 : decode cX0_value 33 = .ok (.aload_n 3, 1) := dk_45 (dk_at dksX0_value_1 10 rfl rfl)
theorem dX0_value_34 : decode cX0_value 34 = .ok (.aload 4, 2) := dk_25 4 (dk_at dksX0_value_1 11 rfl rfl)
theorem dX0_value_36 : decode cX0_value 36 = .ok (.invokevirtual 180, 3) := dk_182 0 180 (dk_at dksX0_value_1 13 rfl rfl)
theorem dX0_value_39 : decode cX0_value 39 = .ok (.ifCond .eq 13, 3) := dk_153 0 13 (dk_at dksX0_value_1 16 rfl rfl)
theorem dX0_value_42 : decode cX0_value 42 = .ok (.aload_n 0, 1) := dk_42 (dk_at dksX0_value_1 19 rfl rfl)
theorem dX0_value_43 : decode cX0_value 43 = .ok (.aload_n 3, 1) := dk_45 (dk_at dksX0_value_1 20 rfl rfl)
theorem dX0_value_44 : decode cX0_value 44 = .ok (.aload 4, 2) := dk_25 4 (dk_at dksX0_value_1 21 rfl rfl)
theorem dX0_value_46 : decode cX0_value 46 = .ok (.invokevirtual 183, 3) := dk_182 0 183 (dk_at dksX0_value_2 0 rfl rfl)
theorem dX0_value_49 : decode cX0_value 49 = .ok (.goto 5, 3) := dk_167 0 5 (dk_at dksX0_value_2 3 rfl rfl)
theorem dX0_value_52 : decode cX0_value 52 = .ok (.ldc 3, 2) := dk_18 3 (dk_at dksX0_value_2 6 rfl rfl)
theorem dX0_value_54 : decode cX0_value 54 = .ok (.ireturn, 1) := dk_172 (dk_at dksX0_value_2 8 rfl rfl)
abbrev cX0_valueOf : ByteArray := prog_1_method_7_code
def yX0_valueOf : MethodName := ⟨RX0, "valueOf", "(LTwoGuilds$Glove;LTwoGuilds$Glove;)I"⟩
def dkwX0_valueOf_3 : List UInt8 := [184, 0, 10, 182, 0, 57, 3, 17, 3, 231, 184, 0, 60, 172]
abbrev dktX0_valueOf_3 : List UInt8 := dkwX0_valueOf_3 ++ []
def dkwX0_valueOf_2 : List UInt8 := [180, 0, 50, 16, 119, 29, 79, 42, 3, 3, 43, 180, 0, 54, 44, 180, 0, 54, 96, 29, 16, 10, 108, 100]
abbrev dktX0_valueOf_2 : List UInt8 := dkwX0_valueOf_2 ++ dktX0_valueOf_3
def dkwX0_valueOf_1 : List UInt8 := [184, 0, 4, 79, 42, 180, 0, 50, 16, 98, 43, 180, 0, 54, 44, 180, 0, 54, 184, 0, 10, 79, 42]
abbrev dktX0_valueOf_1 : List UInt8 := dkwX0_valueOf_1 ++ dktX0_valueOf_2
def dkwX0_valueOf_0 : List UInt8 := [43, 180, 0, 46, 44, 180, 0, 46, 96, 62, 42, 180, 0, 50, 16, 97, 43, 180, 0, 54, 44, 180, 0, 54]
abbrev dktX0_valueOf_0 : List UInt8 := dkwX0_valueOf_0 ++ dktX0_valueOf_1
theorem dksX0_valueOf_0 : cX0_valueOf.data.toList.drop 0 = dktX0_valueOf_0 := by decide +kernel
theorem dksX0_valueOf_1 : cX0_valueOf.data.toList.drop 24 = dktX0_valueOf_1 := dk_seg dksX0_valueOf_0 24 rfl rfl
theorem dksX0_valueOf_2 : cX0_valueOf.data.toList.drop 47 = dktX0_valueOf_2 := dk_seg dksX0_valueOf_1 23 rfl rfl
theorem dksX0_valueOf_3 : cX0_valueOf.data.toList.drop 71 = dktX0_valueOf_3 := dk_seg dksX0_valueOf_2 24 rfl rfl
theorem dX0_valueOf_0 : decode cX0_valueOf 0 = .ok (.aload_n 1, 1) := dk_43 (dk_at dksX0_valueOf_0 0 rfl rfl)
theorem dX0_valueOf_1 : decode cX0_valueOf 1 = .ok (.getfield 46, 3) := dk_180 0 46 (dk_at dksX0_valueOf_0 1 rfl rfl)
theorem dX0_valueOf_4 : decode cX0_valueOf 4 = .ok (.aload_n 2, 1) := dk_44 (dk_at dksX0_valueOf_0 4 rfl rfl)
theorem dX0_valueOf_5 : decode cX0_valueOf 5 = .ok (.getfield 46, 3) := dk_180 0 46 (dk_at dksX0_valueOf_0 5 rfl rfl)
theorem dX0_valueOf_8 : decode cX0_valueOf 8 = .ok (.iadd, 1) := dk_96 (dk_at dksX0_valueOf_0 8 rfl rfl)
theorem dX0_valueOf_9 : decode cX0_valueOf 9 = .ok (.istore_n 3, 1) := dk_62 (dk_at dksX0_valueOf_0 9 rfl rfl)
theorem dX0_valueOf_10 : decode cX0_valueOf 10 = .ok (.aload_n 0, 1) := dk_42 (dk_at dksX0_valueOf_0 10 rfl rfl)
theorem dX0_valueOf_11 : decode cX0_valueOf 11 = .ok (.getfield 50, 3) := dk_180 0 50 (dk_at dksX0_valueOf_0 11 rfl rfl)
theorem dX0_valueOf_14 : decode cX0_valueOf 14 = .ok (.bipush 97, 2) := dk_16 97 (dk_at dksX0_valueOf_0 14 rfl rfl)
theorem dX0_valueOf_16 : decode cX0_valueOf 16 = .ok (.aload_n 1, 1) := dk_43 (dk_at dksX0_valueOf_0 16 rfl rfl)
theorem dX0_valueOf_17 : decode cX0_valueOf 17 = .ok (.getfield 54, 3) := dk_180 0 54 (dk_at dksX0_valueOf_0 17 rfl rfl)
theorem dX0_valueOf_20 : decode cX0_valueOf 20 = .ok (.aload_n 2, 1) := dk_44 (dk_at dksX0_valueOf_0 20 rfl rfl)
theorem dX0_valueOf_21 : decode cX0_valueOf 21 = .ok (.getfield 54, 3) := dk_180 0 54 (dk_at dksX0_valueOf_0 21 rfl rfl)
theorem dX0_valueOf_24 : decode cX0_valueOf 24 = .ok (.invokestatic 4, 3) := dk_184 0 4 (dk_at dksX0_valueOf_1 0 rfl rfl)
theorem dX0_valueOf_27 : decode cX0_valueOf 27 = .ok (.iastore, 1) := dk_79 (dk_at dksX0_valueOf_1 3 rfl rfl)
theorem dX0_valueOf_28 : decode cX0_valueOf 28 = .ok (.aload_n 0, 1) := dk_42 (dk_at dksX0_valueOf_1 4 rfl rfl)
theorem dX0_valueOf_29 : decode cX0_valueOf 29 = .ok (.getfield 50, 3) := dk_180 0 50 (dk_at dksX0_valueOf_1 5 rfl rfl)
theorem dX0_valueOf_32 : decode cX0_valueOf 32 = .ok (.bipush 98, 2) := dk_16 98 (dk_at dksX0_valueOf_1 8 rfl rfl)
theorem dX0_valueOf_34 : decode cX0_valueOf 34 = .ok (.aload_n 1, 1) := dk_43 (dk_at dksX0_valueOf_1 10 rfl rfl)
theorem dX0_valueOf_35 : decode cX0_valueOf 35 = .ok (.getfield 54, 3) := dk_180 0 54 (dk_at dksX0_valueOf_1 11 rfl rfl)
theorem dX0_valueOf_38 : decode cX0_valueOf 38 = .ok (.aload_n 2, 1) := dk_44 (dk_at dksX0_valueOf_1 14 rfl rfl)
theorem dX0_valueOf_39 : decode cX0_valueOf 39 = .ok (.getfield 54, 3) := dk_180 0 54 (dk_at dksX0_valueOf_1 15 rfl rfl)
theorem dX0_valueOf_42 : decode cX0_valueOf 42 = .ok (.invokestatic 10, 3) := dk_184 0 10 (dk_at dksX0_valueOf_1 18 rfl rfl)
theorem dX0_valueOf_45 : decode cX0_valueOf 45 = .ok (.iastore, 1) := dk_79 (dk_at dksX0_valueOf_1 21 rfl rfl)
theorem dX0_valueOf_46 : decode cX0_valueOf 46 = .ok (.aload_n 0, 1) := dk_42 (dk_at dksX0_valueOf_1 22 rfl rfl)
theorem dX0_valueOf_47 : decode cX0_valueOf 47 = .ok (.getfield 50, 3) := dk_180 0 50 (dk_at dksX0_valueOf_2 0 rfl rfl)
theorem dX0_valueOf_50 : decode cX0_valueOf 50 = .ok (.bipush 119, 2) := dk_16 119 (dk_at dksX0_valueOf_2 3 rfl rfl)
theorem dX0_valueOf_52 : decode cX0_valueOf 52 = .ok (.iload_n 3, 1) := dk_29 (dk_at dksX0_valueOf_2 5 rfl rfl)
theorem dX0_valueOf_53 : decode cX0_valueOf 53 = .ok (.iastore, 1) := dk_79 (dk_at dksX0_valueOf_2 6 rfl rfl)
theorem dX0_valueOf_54 : decode cX0_valueOf 54 = .ok (.aload_n 0, 1) := dk_42 (dk_at dksX0_valueOf_2 7 rfl rfl)
theorem dX0_valueOf_55 : decode cX0_valueOf 55 = .ok (.iconst 0, 1) := dk_3 (dk_at dksX0_valueOf_2 8 rfl rfl)
theorem dX0_valueOf_56 : decode cX0_valueOf 56 = .ok (.iconst 0, 1) := dk_3 (dk_at dksX0_valueOf_2 9 rfl rfl)
theorem dX0_valueOf_57 : decode cX0_valueOf 57 = .ok (.aload_n 1, 1) := dk_43 (dk_at dksX0_valueOf_2 10 rfl rfl)
theorem dX0_valueOf_58 : decode cX0_valueOf 58 = .ok (.getfield 54, 3) := dk_180 0 54 (dk_at dksX0_valueOf_2 11 rfl rfl)
theorem dX0_valueOf_61 : decode cX0_valueOf 61 = .ok (.aload_n 2, 1) := dk_44 (dk_at dksX0_valueOf_2 14 rfl rfl)
theorem dX0_valueOf_62 : decode cX0_valueOf 62 = .ok (.getfield 54, 3) := dk_180 0 54 (dk_at dksX0_valueOf_2 15 rfl rfl)
theorem dX0_valueOf_65 : decode cX0_valueOf 65 = .ok (.iadd, 1) := dk_96 (dk_at dksX0_valueOf_2 18 rfl rfl)
theorem dX0_valueOf_66 : decode cX0_valueOf 66 = .ok (.iload_n 3, 1) := dk_29 (dk_at dksX0_valueOf_2 19 rfl rfl)
theorem dX0_valueOf_67 : decode cX0_valueOf 67 = .ok (.bipush 10, 2) := dk_16 10 (dk_at dksX0_valueOf_2 20 rfl rfl)
theorem dX0_valueOf_69 : decode cX0_valueOf 69 = .ok (.idiv, 1) := dk_108 (dk_at dksX0_valueOf_2 22 rfl rfl)
theorem dX0_valueOf_70 : decode cX0_valueOf 70 = .ok (.isub, 1) := dk_100 (dk_at dksX0_valueOf_2 23 rfl rfl)
theorem dX0_valueOf_71 : decode cX0_valueOf 71 = .ok (.invokestatic 10, 3) := dk_184 0 10 (dk_at dksX0_valueOf_3 0 rfl rfl)
theorem dX0_valueOf_74 : decode cX0_valueOf 74 = .ok (.invokevirtual 57, 3) := dk_182 0 57 (dk_at dksX0_valueOf_3 3 rfl rfl)
theorem dX0_valueOf_77 : decode cX0_valueOf 77 = .ok (.iconst 0, 1) := dk_3 (dk_at dksX0_valueOf_3 6 rfl rfl)
theorem dX0_valueOf_78 : decode cX0_valueOf 78 = .ok (.sipush 999, 3) := dk_17 3 231 (dk_at dksX0_valueOf_3 7 rfl rfl)
theorem dX0_valueOf_81 : decode cX0_valueOf 81 = .ok (.invokestatic 60, 3) := dk_184 0 60 (dk_at dksX0_valueOf_3 10 rfl rfl)
theorem dX0_valueOf_84 : decode cX0_valueOf 84 = .ok (.ireturn, 1) := dk_172 (dk_at dksX0_valueOf_3 13 rfl rfl)
abbrev cX0_ruled : ByteArray := prog_1_method_65_code
def yX0_ruled : MethodName := ⟨RX0, "ruled", "(II)I"⟩
def dkwX0_ruled_1 : List UInt8 := [180, 1, 168, 185, 1, 172, 1, 0, 172]
abbrev dktX0_ruled_1 : List UInt8 := dkwX0_ruled_1 ++ []
def dkwX0_ruled_0 : List UInt8 := [42, 27, 182, 1, 165, 62, 29, 156, 0, 7, 28, 167, 0, 20, 42, 180, 0, 72, 180, 1, 156, 29, 50]
abbrev dktX0_ruled_0 : List UInt8 := dkwX0_ruled_0 ++ dktX0_ruled_1
theorem dksX0_ruled_0 : cX0_ruled.data.toList.drop 0 = dktX0_ruled_0 := by decide +kernel
theorem dksX0_ruled_1 : cX0_ruled.data.toList.drop 23 = dktX0_ruled_1 := dk_seg dksX0_ruled_0 23 rfl rfl
theorem dX0_ruled_0 : decode cX0_ruled 0 = .ok (.aload_n 0, 1) := dk_42 (dk_at dksX0_ruled_0 0 rfl rfl)
theorem dX0_ruled_1 : decode cX0_ruled 1 = .ok (.iload_n 1, 1) := dk_27 (dk_at dksX0_ruled_0 1 rfl rfl)
theorem dX0_ruled_2 : decode cX0_ruled 2 = .ok (.invokevirtual 421, 3) := dk_182 1 165 (dk_at dksX0_ruled_0 2 rfl rfl)
theorem dX0_ruled_5 : decode cX0_ruled 5 = .ok (.istore_n 3, 1) := dk_62 (dk_at dksX0_ruled_0 5 rfl rfl)
theorem dX0_ruled_6 : decode cX0_ruled 6 = .ok (.iload_n 3, 1) := dk_29 (dk_at dksX0_ruled_0 6 rfl rfl)
theorem dX0_ruled_7 : decode cX0_ruled 7 = .ok (.ifCond .ge 7, 3) := dk_156 0 7 (dk_at dksX0_ruled_0 7 rfl rfl)
theorem dX0_ruled_10 : decode cX0_ruled 10 = .ok (.iload_n 2, 1) := dk_28 (dk_at dksX0_ruled_0 10 rfl rfl)
theorem dX0_ruled_11 : decode cX0_ruled 11 = .ok (.goto 20, 3) := dk_167 0 20 (dk_at dksX0_ruled_0 11 rfl rfl)
theorem dX0_ruled_14 : decode cX0_ruled 14 = .ok (.aload_n 0, 1) := dk_42 (dk_at dksX0_ruled_0 14 rfl rfl)
theorem dX0_ruled_15 : decode cX0_ruled 15 = .ok (.getfield 72, 3) := dk_180 0 72 (dk_at dksX0_ruled_0 15 rfl rfl)
theorem dX0_ruled_18 : decode cX0_ruled 18 = .ok (.getfield 412, 3) := dk_180 1 156 (dk_at dksX0_ruled_0 18 rfl rfl)
theorem dX0_ruled_21 : decode cX0_ruled 21 = .ok (.iload_n 3, 1) := dk_29 (dk_at dksX0_ruled_0 21 rfl rfl)
theorem dX0_ruled_22 : decode cX0_ruled 22 = .ok (.aaload, 1) := dk_50 (dk_at dksX0_ruled_0 22 rfl rfl)
theorem dX0_ruled_23 : decode cX0_ruled 23 = .ok (.getfield 424, 3) := dk_180 1 168 (dk_at dksX0_ruled_1 0 rfl rfl)
theorem dX0_ruled_26 : decode cX0_ruled 26 = .ok (.invokeinterface 428 1, 5) := by decide +kernel
theorem dX0_ruled_31 : decode cX0_ruled 31 = .ok (.ireturn, 1) := dk_172 (dk_at dksX0_ruled_1 8 rfl rfl)
abbrev cX0_counts : ByteArray := prog_1_method_64_code
def yX0_counts : MethodName := ⟨RX0, "counts", "(I)I"⟩
def dkwX0_counts_1 : List UInt8 := [180, 1, 163, 27, 159, 0, 9, 132, 2, 255, 167, 255, 233, 28, 172]
abbrev dktX0_counts_1 : List UInt8 := dkwX0_counts_1 ++ []
def dkwX0_counts_0 : List UInt8 := [42, 180, 0, 72, 180, 1, 153, 4, 100, 61, 28, 155, 0, 25, 42, 180, 0, 72, 180, 1, 156, 28, 50]
abbrev dktX0_counts_0 : List UInt8 := dkwX0_counts_0 ++ dktX0_counts_1
theorem dksX0_counts_0 : cX0_counts.data.toList.drop 0 = dktX0_counts_0 := by decide +kernel
theorem dksX0_counts_1 : cX0_counts.data.toList.drop 23 = dktX0_counts_1 := dk_seg dksX0_counts_0 23 rfl rfl
theorem dX0_counts_0 : decode cX0_counts 0 = .ok (.aload_n 0, 1) := dk_42 (dk_at dksX0_counts_0 0 rfl rfl)
theorem dX0_counts_1 : decode cX0_counts 1 = .ok (.getfield 72, 3) := dk_180 0 72 (dk_at dksX0_counts_0 1 rfl rfl)
theorem dX0_counts_4 : decode cX0_counts 4 = .ok (.getfield 409, 3) := dk_180 1 153 (dk_at dksX0_counts_0 4 rfl rfl)
theorem dX0_counts_7 : decode cX0_counts 7 = .ok (.iconst 1, 1) := dk_4 (dk_at dksX0_counts_0 7 rfl rfl)
theorem dX0_counts_8 : decode cX0_counts 8 = .ok (.isub, 1) := dk_100 (dk_at dksX0_counts_0 8 rfl rfl)
theorem dX0_counts_9 : decode cX0_counts 9 = .ok (.istore_n 2, 1) := dk_61 (dk_at dksX0_counts_0 9 rfl rfl)
theorem dX0_counts_10 : decode cX0_counts 10 = .ok (.iload_n 2, 1) := dk_28 (dk_at dksX0_counts_0 10 rfl rfl)
theorem dX0_counts_11 : decode cX0_counts 11 = .ok (.ifCond .lt 25, 3) := dk_155 0 25 (dk_at dksX0_counts_0 11 rfl rfl)
theorem dX0_counts_14 : decode cX0_counts 14 = .ok (.aload_n 0, 1) := dk_42 (dk_at dksX0_counts_0 14 rfl rfl)
theorem dX0_counts_15 : decode cX0_counts 15 = .ok (.getfield 72, 3) := dk_180 0 72 (dk_at dksX0_counts_0 15 rfl rfl)
theorem dX0_counts_18 : decode cX0_counts 18 = .ok (.getfield 412, 3) := dk_180 1 156 (dk_at dksX0_counts_0 18 rfl rfl)
theorem dX0_counts_21 : decode cX0_counts 21 = .ok (.iload_n 2, 1) := dk_28 (dk_at dksX0_counts_0 21 rfl rfl)
theorem dX0_counts_22 : decode cX0_counts 22 = .ok (.aaload, 1) := dk_50 (dk_at dksX0_counts_0 22 rfl rfl)
theorem dX0_counts_23 : decode cX0_counts 23 = .ok (.getfield 419, 3) := dk_180 1 163 (dk_at dksX0_counts_1 0 rfl rfl)
theorem dX0_counts_26 : decode cX0_counts 26 = .ok (.iload_n 1, 1) := dk_27 (dk_at dksX0_counts_1 3 rfl rfl)
theorem dX0_counts_27 : decode cX0_counts 27 = .ok (.if_icmp .eq 9, 3) := dk_159 0 9 (dk_at dksX0_counts_1 4 rfl rfl)
theorem dX0_counts_30 : decode cX0_counts 30 = .ok (.iinc 2 (-1), 3) := dk_132 2 255 (dk_at dksX0_counts_1 7 rfl rfl)
theorem dX0_counts_33 : decode cX0_counts 33 = .ok (.goto (-23), 3) := dk_167 255 233 (dk_at dksX0_counts_1 10 rfl rfl)
theorem dX0_counts_36 : decode cX0_counts 36 = .ok (.iload_n 2, 1) := dk_28 (dk_at dksX0_counts_1 13 rfl rfl)
theorem dX0_counts_37 : decode cX0_counts 37 = .ok (.ireturn, 1) := dk_172 (dk_at dksX0_counts_1 14 rfl rfl)
abbrev cX0_heldIn : ByteArray := prog_1_method_3_code
def yX0_heldIn : MethodName := ⟨RX0, "heldIn", "(III)I"⟩
def dkwX0_heldIn_0 : List UInt8 := [27, 28, 26, 184, 0, 4, 184, 0, 10, 172]
abbrev dktX0_heldIn_0 : List UInt8 := dkwX0_heldIn_0 ++ []
theorem dksX0_heldIn_0 : cX0_heldIn.data.toList.drop 0 = dktX0_heldIn_0 := by decide +kernel
theorem dX0_heldIn_0 : decode cX0_heldIn 0 = .ok (.iload_n 1, 1) := dk_27 (dk_at dksX0_heldIn_0 0 rfl rfl)
theorem dX0_heldIn_1 : decode cX0_heldIn 1 = .ok (.iload_n 2, 1) := dk_28 (dk_at dksX0_heldIn_0 1 rfl rfl)
theorem dX0_heldIn_2 : decode cX0_heldIn 2 = .ok (.iload_n 0, 1) := dk_26 (dk_at dksX0_heldIn_0 2 rfl rfl)
theorem dX0_heldIn_3 : decode cX0_heldIn 3 = .ok (.invokestatic 4, 3) := dk_184 0 4 (dk_at dksX0_heldIn_0 3 rfl rfl)
theorem dX0_heldIn_6 : decode cX0_heldIn 6 = .ok (.invokestatic 10, 3) := dk_184 0 10 (dk_at dksX0_heldIn_0 6 rfl rfl)
theorem dX0_heldIn_9 : decode cX0_heldIn 9 = .ok (.ireturn, 1) := dk_172 (dk_at dksX0_heldIn_0 9 rfl rfl)
abbrev cX0_deal : ByteArray := prog_1_method_21_code
def yX0_deal : MethodName := ⟨RX0, "deal", "(I)I"⟩
def dkwX0_deal_4 : List UInt8 := [132, 3, 1, 167, 255, 193, 28, 172]
abbrev dktX0_deal_4 : List UInt8 := dkwX0_deal_4 ++ []
def dkwX0_deal_3 : List UInt8 := [54, 6, 42, 21, 4, 21, 5, 21, 6, 42, 180, 0, 72, 182, 0, 189, 16, 100, 112, 182, 0, 137]
abbrev dktX0_deal_3 : List UInt8 := dkwX0_deal_3 ++ dktX0_deal_4
def dkwX0_deal_2 : List UInt8 := [112, 54, 4, 42, 180, 0, 72, 182, 0, 189, 5, 112, 54, 5, 42, 180, 0, 72, 182, 0, 189, 16, 10, 112]
abbrev dktX0_deal_2 : List UInt8 := dkwX0_deal_2 ++ dktX0_deal_3
def dkwX0_deal_1 : List UInt8 := [180, 0, 118, 100, 184, 0, 4, 61, 3, 62, 29, 28, 162, 0, 64, 42, 180, 0, 72, 182, 0, 189, 16, 6]
abbrev dktX0_deal_1 : List UInt8 := dkwX0_deal_1 ++ dktX0_deal_2
def dkwX0_deal_0 : List UInt8 := [27, 133, 10, 20, 0, 187, 184, 0, 121, 154, 0, 6, 18, 135, 172, 27, 16, 10, 42, 180, 0, 72]
abbrev dktX0_deal_0 : List UInt8 := dkwX0_deal_0 ++ dktX0_deal_1
theorem dksX0_deal_0 : cX0_deal.data.toList.drop 0 = dktX0_deal_0 := by decide +kernel
theorem dksX0_deal_1 : cX0_deal.data.toList.drop 22 = dktX0_deal_1 := dk_seg dksX0_deal_0 22 rfl rfl
theorem dksX0_deal_2 : cX0_deal.data.toList.drop 46 = dktX0_deal_2 := dk_seg dksX0_deal_1 24 rfl rfl
theorem dksX0_deal_3 : cX0_deal.data.toList.drop 70 = dktX0_deal_3 := dk_seg dksX0_deal_2 24 rfl rfl
theorem dksX0_deal_4 : cX0_deal.data.toList.drop 92 = dktX0_deal_4 := dk_seg dksX0_deal_3 22 rfl rfl
theorem dX0_deal_0 : decode cX0_deal 0 = .ok (.iload_n 1, 1) := dk_27 (dk_at dksX0_deal_0 0 rfl rfl)
theorem dX0_deal_1 : decode cX0_deal 1 = .ok (.i2l, 1) := dk_133 (dk_at dksX0_deal_0 1 rfl rfl)
theorem dX0_deal_2 : decode cX0_deal 2 = .ok (.lconst 1, 1) := dk_10 (dk_at dksX0_deal_0 2 rfl rfl)
theorem dX0_deal_3 : decode cX0_deal 3 = .ok (.ldc2_w 187, 3) := dk_20 0 187 (dk_at dksX0_deal_0 3 rfl rfl)
theorem dX0_deal_6 : decode cX0_deal 6 = .ok (.invokestatic 121, 3) := dk_184 0 121 (dk_at dksX0_deal_0 6 rfl rfl)
theorem dX0_deal_9 : decode cX0_deal 9 = .ok (.ifCond .ne 6, 3) := dk_154 0 6 (dk_at dksX0_deal_0 9 rfl rfl)
theorem dX0_deal_12 : decode cX0_deal 12 = .ok (.ldc 135, 2) := dk_18 135 (dk_at dksX0_deal_0 12 rfl rfl)
theorem dX0_deal_14 : decode cX0_deal 14 = .ok (.ireturn, 1) := dk_172 (dk_at dksX0_deal_0 14 rfl rfl)
theorem dX0_deal_15 : decode cX0_deal 15 = .ok (.iload_n 1, 1) := dk_27 (dk_at dksX0_deal_0 15 rfl rfl)
theorem dX0_deal_16 : decode cX0_deal 16 = .ok (.bipush 10, 2) := dk_16 10 (dk_at dksX0_deal_0 16 rfl rfl)
theorem dX0_deal_18 : decode cX0_deal 18 = .ok (.aload_n 0, 1) := dk_42 (dk_at dksX0_deal_0 18 rfl rfl)
theorem dX0_deal_19 : decode cX0_deal 19 = .ok (.getfield 72, 3) := dk_180 0 72 (dk_at dksX0_deal_0 19 rfl rfl)
theorem dX0_deal_22 : decode cX0_deal 22 = .ok (.getfield 118, 3) := dk_180 0 118 (dk_at dksX0_deal_1 0 rfl rfl)
theorem dX0_deal_25 : decode cX0_deal 25 = .ok (.isub, 1) := dk_100 (dk_at dksX0_deal_1 3 rfl rfl)
theorem dX0_deal_26 : decode cX0_deal 26 = .ok (.invokestatic 4, 3) := dk_184 0 4 (dk_at dksX0_deal_1 4 rfl rfl)
theorem dX0_deal_29 : decode cX0_deal 29 = .ok (.istore_n 2, 1) := dk_61 (dk_at dksX0_deal_1 7 rfl rfl)
theorem dX0_deal_30 : decode cX0_deal 30 = .ok (.iconst 0, 1) := dk_3 (dk_at dksX0_deal_1 8 rfl rfl)
theorem dX0_deal_31 : decode cX0_deal 31 = .ok (.istore_n 3, 1) := dk_62 (dk_at dksX0_deal_1 9 rfl rfl)
theorem dX0_deal_32 : decode cX0_deal 32 = .ok (.iload_n 3, 1) := dk_29 (dk_at dksX0_deal_1 10 rfl rfl)
theorem dX0_deal_33 : decode cX0_deal 33 = .ok (.iload_n 2, 1) := dk_28 (dk_at dksX0_deal_1 11 rfl rfl)
theorem dX0_deal_34 : decode cX0_deal 34 = .ok (.if_icmp .ge 64, 3) := dk_162 0 64 (dk_at dksX0_deal_1 12 rfl rfl)
theorem dX0_deal_37 : decode cX0_deal 37 = .ok (.aload_n 0, 1) := dk_42 (dk_at dksX0_deal_1 15 rfl rfl)
theorem dX0_deal_38 : decode cX0_deal 38 = .ok (.getfield 72, 3) := dk_180 0 72 (dk_at dksX0_deal_1 16 rfl rfl)
theorem dX0_deal_41 : decode cX0_deal 41 = .ok (.invokevirtual 189, 3) := dk_182 0 189 (dk_at dksX0_deal_1 19 rfl rfl)
theorem dX0_deal_44 : decode cX0_deal 44 = .ok (.bipush 6, 2) := dk_16 6 (dk_at dksX0_deal_1 22 rfl rfl)
theorem dX0_deal_46 : decode cX0_deal 46 = .ok (.irem, 1) := dk_112 (dk_at dksX0_deal_2 0 rfl rfl)
theorem dX0_deal_47 : decode cX0_deal 47 = .ok (.istore 4, 2) := dk_54 4 (dk_at dksX0_deal_2 1 rfl rfl)
theorem dX0_deal_49 : decode cX0_deal 49 = .ok (.aload_n 0, 1) := dk_42 (dk_at dksX0_deal_2 3 rfl rfl)
theorem dX0_deal_50 : decode cX0_deal 50 = .ok (.getfield 72, 3) := dk_180 0 72 (dk_at dksX0_deal_2 4 rfl rfl)
theorem dX0_deal_53 : decode cX0_deal 53 = .ok (.invokevirtual 189, 3) := dk_182 0 189 (dk_at dksX0_deal_2 7 rfl rfl)
theorem dX0_deal_56 : decode cX0_deal 56 = .ok (.iconst 2, 1) := dk_5 (dk_at dksX0_deal_2 10 rfl rfl)
theorem dX0_deal_57 : decode cX0_deal 57 = .ok (.irem, 1) := dk_112 (dk_at dksX0_deal_2 11 rfl rfl)
theorem dX0_deal_58 : decode cX0_deal 58 = .ok (.istore 5, 2) := dk_54 5 (dk_at dksX0_deal_2 12 rfl rfl)
theorem dX0_deal_60 : decode cX0_deal 60 = .ok (.aload_n 0, 1) := dk_42 (dk_at dksX0_deal_2 14 rfl rfl)
theorem dX0_deal_61 : decode cX0_deal 61 = .ok (.getfield 72, 3) := dk_180 0 72 (dk_at dksX0_deal_2 15 rfl rfl)
theorem dX0_deal_64 : decode cX0_deal 64 = .ok (.invokevirtual 189, 3) := dk_182 0 189 (dk_at dksX0_deal_2 18 rfl rfl)
theorem dX0_deal_67 : decode cX0_deal 67 = .ok (.bipush 10, 2) := dk_16 10 (dk_at dksX0_deal_2 21 rfl rfl)
theorem dX0_deal_69 : decode cX0_deal 69 = .ok (.irem, 1) := dk_112 (dk_at dksX0_deal_2 23 rfl rfl)
theorem dX0_deal_70 : decode cX0_deal 70 = .ok (.istore 6, 2) := dk_54 6 (dk_at dksX0_deal_3 0 rfl rfl)
theorem dX0_deal_72 : decode cX0_deal 72 = .ok (.aload_n 0, 1) := dk_42 (dk_at dksX0_deal_3 2 rfl rfl)
theorem dX0_deal_73 : decode cX0_deal 73 = .ok (.iload 4, 2) := dk_21 4 (dk_at dksX0_deal_3 3 rfl rfl)
theorem dX0_deal_75 : decode cX0_deal 75 = .ok (.iload 5, 2) := dk_21 5 (dk_at dksX0_deal_3 5 rfl rfl)
theorem dX0_deal_77 : decode cX0_deal 77 = .ok (.iload 6, 2) := dk_21 6 (dk_at dksX0_deal_3 7 rfl rfl)
theorem dX0_deal_79 : decode cX0_deal 79 = .ok (.aload_n 0, 1) := dk_42 (dk_at dksX0_deal_3 9 rfl rfl)
theorem dX0_deal_80 : decode cX0_deal 80 = .ok (.getfield 72, 3) := dk_180 0 72 (dk_at dksX0_deal_3 10 rfl rfl)
theorem dX0_deal_83 : decode cX0_deal 83 = .ok (.invokevirtual 189, 3) := dk_182 0 189 (dk_at dksX0_deal_3 13 rfl rfl)
theorem dX0_deal_86 : decode cX0_deal 86 = .ok (.bipush 100, 2) := dk_16 100 (dk_at dksX0_deal_3 16 rfl rfl)
theorem dX0_deal_88 : decode cX0_deal 88 = .ok (.irem, 1) := dk_112 (dk_at dksX0_deal_3 18 rfl rfl)
theorem dX0_deal_89 : decode cX0_deal 89 = .ok (.invokevirtual 137, 3) := dk_182 0 137 (dk_at dksX0_deal_3 19 rfl rfl)
theorem dX0_deal_92 : decode cX0_deal 92 = .ok (.iinc 3 1, 3) := dk_132 3 1 (dk_at dksX0_deal_4 0 rfl rfl)
theorem dX0_deal_95 : decode cX0_deal 95 = .ok (.goto (-63), 3) := dk_167 255 193 (dk_at dksX0_deal_4 3 rfl rfl)
theorem dX0_deal_98 : decode cX0_deal 98 = .ok (.iload_n 2, 1) := dk_28 (dk_at dksX0_deal_4 6 rfl rfl)
theorem dX0_deal_99 : decode cX0_deal 99 = .ok (.ireturn, 1) := dk_172 (dk_at dksX0_deal_4 7 rfl rfl)
abbrev cX0_seed : ByteArray := prog_1_method_22_code
def yX0_seed : MethodName := ⟨RX0, "seed", "(I)I"⟩
def dkwX0_seed_0 : List UInt8 := [42, 180, 0, 72, 180, 0, 192, 61, 42, 180, 0, 72, 27, 181, 0, 192, 28, 172]
abbrev dktX0_seed_0 : List UInt8 := dkwX0_seed_0 ++ []
theorem dksX0_seed_0 : cX0_seed.data.toList.drop 0 = dktX0_seed_0 := by decide +kernel
theorem dX0_seed_0 : decode cX0_seed 0 = .ok (.aload_n 0, 1) := dk_42 (dk_at dksX0_seed_0 0 rfl rfl)
theorem dX0_seed_1 : decode cX0_seed 1 = .ok (.getfield 72, 3) := dk_180 0 72 (dk_at dksX0_seed_0 1 rfl rfl)
theorem dX0_seed_4 : decode cX0_seed 4 = .ok (.getfield 192, 3) := dk_180 0 192 (dk_at dksX0_seed_0 4 rfl rfl)
theorem dX0_seed_7 : decode cX0_seed 7 = .ok (.istore_n 2, 1) := dk_61 (dk_at dksX0_seed_0 7 rfl rfl)
theorem dX0_seed_8 : decode cX0_seed 8 = .ok (.aload_n 0, 1) := dk_42 (dk_at dksX0_seed_0 8 rfl rfl)
theorem dX0_seed_9 : decode cX0_seed 9 = .ok (.getfield 72, 3) := dk_180 0 72 (dk_at dksX0_seed_0 9 rfl rfl)
theorem dX0_seed_12 : decode cX0_seed 12 = .ok (.iload_n 1, 1) := dk_27 (dk_at dksX0_seed_0 12 rfl rfl)
theorem dX0_seed_13 : decode cX0_seed 13 = .ok (.putfield 192, 3) := dk_181 0 192 (dk_at dksX0_seed_0 13 rfl rfl)
theorem dX0_seed_16 : decode cX0_seed 16 = .ok (.iload_n 2, 1) := dk_28 (dk_at dksX0_seed_0 16 rfl rfl)
theorem dX0_seed_17 : decode cX0_seed 17 = .ok (.ireturn, 1) := dk_172 (dk_at dksX0_seed_0 17 rfl rfl)
abbrev cX0_best : ByteArray := prog_1_method_25_code
def yX0_best : MethodName := ⟨RX0, "best", "(I)I"⟩
def dkwX0_best_1 : List UInt8 := [42, 180, 0, 85, 27, 46, 172]
abbrev dktX0_best_1 : List UInt8 := dkwX0_best_1 ++ []
def dkwX0_best_0 : List UInt8 := [27, 133, 9, 42, 180, 0, 72, 182, 0, 198, 133, 184, 0, 121, 154, 0, 6, 18, 135, 172, 42, 182, 0, 207]
abbrev dktX0_best_0 : List UInt8 := dkwX0_best_0 ++ dktX0_best_1
theorem dksX0_best_0 : cX0_best.data.toList.drop 0 = dktX0_best_0 := by decide +kernel
theorem dksX0_best_1 : cX0_best.data.toList.drop 24 = dktX0_best_1 := dk_seg dksX0_best_0 24 rfl rfl
theorem dX0_best_0 : decode cX0_best 0 = .ok (.iload_n 1, 1) := dk_27 (dk_at dksX0_best_0 0 rfl rfl)
theorem dX0_best_1 : decode cX0_best 1 = .ok (.i2l, 1) := dk_133 (dk_at dksX0_best_0 1 rfl rfl)
theorem dX0_best_2 : decode cX0_best 2 = .ok (.lconst 0, 1) := dk_9 (dk_at dksX0_best_0 2 rfl rfl)
theorem dX0_best_3 : decode cX0_best 3 = .ok (.aload_n 0, 1) := dk_42 (dk_at dksX0_best_0 3 rfl rfl)
theorem dX0_best_4 : decode cX0_best 4 = .ok (.getfield 72, 3) := dk_180 0 72 (dk_at dksX0_best_0 4 rfl rfl)
theorem dX0_best_7 : decode cX0_best 7 = .ok (.invokevirtual 198, 3) := dk_182 0 198 (dk_at dksX0_best_0 7 rfl rfl)
theorem dX0_best_10 : decode cX0_best 10 = .ok (.i2l, 1) := dk_133 (dk_at dksX0_best_0 10 rfl rfl)
theorem dX0_best_11 : decode cX0_best 11 = .ok (.invokestatic 121, 3) := dk_184 0 121 (dk_at dksX0_best_0 11 rfl rfl)
theorem dX0_best_14 : decode cX0_best 14 = .ok (.ifCond .ne 6, 3) := dk_154 0 6 (dk_at dksX0_best_0 14 rfl rfl)
theorem dX0_best_17 : decode cX0_best 17 = .ok (.ldc 135, 2) := dk_18 135 (dk_at dksX0_best_0 17 rfl rfl)
theorem dX0_best_19 : decode cX0_best 19 = .ok (.ireturn, 1) := dk_172 (dk_at dksX0_best_0 19 rfl rfl)
theorem dX0_best_20 : decode cX0_best 20 = .ok (.aload_n 0, 1) := dk_42 (dk_at dksX0_best_0 20 rfl rfl)
theorem dX0_best_21 : decode cX0_best 21 = .ok (.invokevirtual 207, 3) := dk_182 0 207 (dk_at dksX0_best_0 21 rfl rfl)
theorem dX0_best_24 : decode cX0_best 24 = .ok (.aload_n 0, 1) := dk_42 (dk_at dksX0_best_1 0 rfl rfl)
theorem dX0_best_25 : decode cX0_best 25 = .ok (.getfield 85, 3) := dk_180 0 85 (dk_at dksX0_best_1 1 rfl rfl)
theorem dX0_best_28 : decode cX0_best 28 = .ok (.iload_n 1, 1) := dk_27 (dk_at dksX0_best_1 4 rfl rfl)
theorem dX0_best_29 : decode cX0_best 29 = .ok (.iaload, 1) := dk_46 (dk_at dksX0_best_1 5 rfl rfl)
theorem dX0_best_30 : decode cX0_best 30 = .ok (.ireturn, 1) := dk_172 (dk_at dksX0_best_1 6 rfl rfl)
abbrev cX0_layBests : ByteArray := prog_1_method_24_code
def yX0_layBests : MethodName := ⟨RX0, "layBests", "()V"⟩
def dkwX0_layBests_5 : List UInt8 := [132, 5, 1, 167, 255, 183, 42, 180, 0, 85, 27, 21, 4, 79, 132, 1, 1, 167, 255, 134, 177]
abbrev dktX0_layBests_5 : List UInt8 := dkwX0_layBests_5 ++ []
def dkwX0_layBests_4 : List UInt8 := [21, 5, 96, 46, 42, 180, 0, 85, 29, 4, 21, 5, 120, 2, 130, 126, 46, 96, 184, 0, 10, 54, 4]
abbrev dktX0_layBests_4 : List UInt8 := dkwX0_layBests_4 ++ dktX0_layBests_5
def dkwX0_layBests_3 : List UInt8 := [180, 0, 82, 16, 10, 28, 104, 21, 5, 96, 46, 155, 0, 36, 21, 4, 42, 180, 0, 82, 16, 10, 28, 104]
abbrev dktX0_layBests_3 : List UInt8 := dkwX0_layBests_3 ++ dktX0_layBests_4
def dkwX0_layBests_2 : List UInt8 := [21, 5, 42, 180, 0, 72, 180, 0, 118, 162, 0, 67, 29, 21, 5, 122, 4, 126, 4, 160, 0, 51, 42]
abbrev dktX0_layBests_2 : List UInt8 := dkwX0_layBests_2 ++ dktX0_layBests_3
def dkwX0_layBests_1 : List UInt8 := [27, 184, 0, 201, 61, 27, 27, 4, 100, 126, 62, 42, 180, 0, 85, 29, 46, 54, 4, 28, 4, 96, 54, 5]
abbrev dktX0_layBests_1 : List UInt8 := dkwX0_layBests_1 ++ dktX0_layBests_2
def dkwX0_layBests_0 : List UInt8 := [42, 182, 0, 195, 42, 180, 0, 85, 3, 3, 79, 4, 60, 27, 42, 180, 0, 72, 182, 0, 198, 163, 0, 117]
abbrev dktX0_layBests_0 : List UInt8 := dkwX0_layBests_0 ++ dktX0_layBests_1
theorem dksX0_layBests_0 : cX0_layBests.data.toList.drop 0 = dktX0_layBests_0 := by decide +kernel
theorem dksX0_layBests_1 : cX0_layBests.data.toList.drop 24 = dktX0_layBests_1 := dk_seg dksX0_layBests_0 24 rfl rfl
theorem dksX0_layBests_2 : cX0_layBests.data.toList.drop 48 = dktX0_layBests_2 := dk_seg dksX0_layBests_1 24 rfl rfl
theorem dksX0_layBests_3 : cX0_layBests.data.toList.drop 71 = dktX0_layBests_3 := dk_seg dksX0_layBests_2 23 rfl rfl
theorem dksX0_layBests_4 : cX0_layBests.data.toList.drop 95 = dktX0_layBests_4 := dk_seg dksX0_layBests_3 24 rfl rfl
theorem dksX0_layBests_5 : cX0_layBests.data.toList.drop 118 = dktX0_layBests_5 := dk_seg dksX0_layBests_4 23 rfl rfl
theorem dX0_layBests_0 : decode cX0_layBests 0 = .ok (.aload_n 0, 1) := dk_42 (dk_at dksX0_layBests_0 0 rfl rfl)
theorem dX0_layBests_1 : decode cX0_layBests 1 = .ok (.invokevirtual 195, 3) := dk_182 0 195 (dk_at dksX0_layBests_0 1 rfl rfl)
theorem dX0_layBests_4 : decode cX0_layBests 4 = .ok (.aload_n 0, 1) := dk_42 (dk_at dksX0_layBests_0 4 rfl rfl)
theorem dX0_layBests_5 : decode cX0_layBests 5 = .ok (.getfield 85, 3) := dk_180 0 85 (dk_at dksX0_layBests_0 5 rfl rfl)
theorem dX0_layBests_8 : decode cX0_layBests 8 = .ok (.iconst 0, 1) := dk_3 (dk_at dksX0_layBests_0 8 rfl rfl)
theorem dX0_layBests_9 : decode cX0_layBests 9 = .ok (.iconst 0, 1) := dk_3 (dk_at dksX0_layBests_0 9 rfl rfl)
theorem dX0_layBests_10 : decode cX0_layBests 10 = .ok (.iastore, 1) := dk_79 (dk_at dksX0_layBests_0 10 rfl rfl)
theorem dX0_layBests_11 : decode cX0_layBests 11 = .ok (.iconst 1, 1) := dk_4 (dk_at dksX0_layBests_0 11 rfl rfl)
theorem dX0_layBests_12 : decode cX0_layBests 12 = .ok (.istore_n 1, 1) := dk_60 (dk_at dksX0_layBests_0 12 rfl rfl)
theorem dX0_layBests_13 : decode cX0_layBests 13 = .ok (.iload_n 1, 1) := dk_27 (dk_at dksX0_layBests_0 13 rfl rfl)
theorem dX0_layBests_14 : decode cX0_layBests 14 = .ok (.aload_n 0, 1) := dk_42 (dk_at dksX0_layBests_0 14 rfl rfl)
theorem dX0_layBests_15 : decode cX0_layBests 15 = .ok (.getfield 72, 3) := dk_180 0 72 (dk_at dksX0_layBests_0 15 rfl rfl)
theorem dX0_layBests_18 : decode cX0_layBests 18 = .ok (.invokevirtual 198, 3) := dk_182 0 198 (dk_at dksX0_layBests_0 18 rfl rfl)
theorem dX0_layBests_21 : decode cX0_layBests 21 = .ok (.if_icmp .gt 117, 3) := dk_163 0 117 (dk_at dksX0_layBests_0 21 rfl rfl)
theorem dX0_layBests_24 : decode cX0_layBests 24 = .ok (.iload_n 1, 1) := dk_27 (dk_at dksX0_layBests_1 0 rfl rfl)
theorem dX0_layBests_25 : decode cX0_layBests 25 = .ok (.invokestatic 201, 3) := dk_184 0 201 (dk_at dksX0_layBests_1 1 rfl rfl)
theorem dX0_layBests_28 : decode cX0_layBests 28 = .ok (.istore_n 2, 1) := dk_61 (dk_at dksX0_layBests_1 4 rfl rfl)
theorem dX0_layBests_29 : decode cX0_layBests 29 = .ok (.iload_n 1, 1) := dk_27 (dk_at dksX0_layBests_1 5 rfl rfl)
theorem dX0_layBests_30 : decode cX0_layBests 30 = .ok (.iload_n 1, 1) := dk_27 (dk_at dksX0_layBests_1 6 rfl rfl)
theorem dX0_layBests_31 : decode cX0_layBests 31 = .ok (.iconst 1, 1) := dk_4 (dk_at dksX0_layBests_1 7 rfl rfl)
theorem dX0_layBests_32 : decode cX0_layBests 32 = .ok (.isub, 1) := dk_100 (dk_at dksX0_layBests_1 8 rfl rfl)
theorem dX0_layBests_33 : decode cX0_layBests 33 = .ok (.iand, 1) := dk_126 (dk_at dksX0_layBests_1 9 rfl rfl)
theorem dX0_layBests_34 : decode cX0_layBests 34 = .ok (.istore_n 3, 1) := dk_62 (dk_at dksX0_layBests_1 10 rfl rfl)
theorem dX0_layBests_35 : decode cX0_layBests 35 = .ok (.aload_n 0, 1) := dk_42 (dk_at dksX0_layBests_1 11 rfl rfl)
theorem dX0_layBests_36 : decode cX0_layBests 36 = .ok (.getfield 85, 3) := dk_180 0 85 (dk_at dksX0_layBests_1 12 rfl rfl)
theorem dX0_layBests_39 : decode cX0_layBests 39 = .ok (.iload_n 3, 1) := dk_29 (dk_at dksX0_layBests_1 15 rfl rfl)
theorem dX0_layBests_40 : decode cX0_layBests 40 = .ok (.iaload, 1) := dk_46 (dk_at dksX0_layBests_1 16 rfl rfl)
theorem dX0_layBests_41 : decode cX0_layBests 41 = .ok (.istore 4, 2) := dk_54 4 (dk_at dksX0_layBests_1 17 rfl rfl)
theorem dX0_layBests_43 : decode cX0_layBests 43 = .ok (.iload_n 2, 1) := dk_28 (dk_at dksX0_layBests_1 19 rfl rfl)
theorem dX0_layBests_44 : decode cX0_layBests 44 = .ok (.iconst 1, 1) := dk_4 (dk_at dksX0_layBests_1 20 rfl rfl)
theorem dX0_layBests_45 : decode cX0_layBests 45 = .ok (.iadd, 1) := dk_96 (dk_at dksX0_layBests_1 21 rfl rfl)
theorem dX0_layBests_46 : decode cX0_layBests 46 = .ok (.istore 5, 2) := dk_54 5 (dk_at dksX0_layBests_1 22 rfl rfl)
theorem dX0_layBests_48 : decode cX0_layBests 48 = .ok (.iload 5, 2) := dk_21 5 (dk_at dksX0_layBests_2 0 rfl rfl)
theorem dX0_layBests_50 : decode cX0_layBests 50 = .ok (.aload_n 0, 1) := dk_42 (dk_at dksX0_layBests_2 2 rfl rfl)
theorem dX0_layBests_51 : decode cX0_layBests 51 = .ok (.getfield 72, 3) := dk_180 0 72 (dk_at dksX0_layBests_2 3 rfl rfl)
theorem dX0_layBests_54 : decode cX0_layBests 54 = .ok (.getfield 118, 3) := dk_180 0 118 (dk_at dksX0_layBests_2 6 rfl rfl)
theorem dX0_layBests_57 : decode cX0_layBests 57 = .ok (.if_icmp .ge 67, 3) := dk_162 0 67 (dk_at dksX0_layBests_2 9 rfl rfl)
theorem dX0_layBests_60 : decode cX0_layBests 60 = .ok (.iload_n 3, 1) := dk_29 (dk_at dksX0_layBests_2 12 rfl rfl)
theorem dX0_layBests_61 : decode cX0_layBests 61 = .ok (.iload 5, 2) := dk_21 5 (dk_at dksX0_layBests_2 13 rfl rfl)
theorem dX0_layBests_63 : decode cX0_layBests 63 = .ok (.ishr, 1) := dk_122 (dk_at dksX0_layBests_2 15 rfl rfl)
theorem dX0_layBests_64 : decode cX0_layBests 64 = .ok (.iconst 1, 1) := dk_4 (dk_at dksX0_layBests_2 16 rfl rfl)
theorem dX0_layBests_65 : decode cX0_layBests 65 = .ok (.iand, 1) := dk_126 (dk_at dksX0_layBests_2 17 rfl rfl)
theorem dX0_layBests_66 : decode cX0_layBests 66 = .ok (.iconst 1, 1) := dk_4 (dk_at dksX0_layBests_2 18 rfl rfl)
theorem dX0_layBests_67 : decode cX0_layBests 67 = .ok (.if_icmp .ne 51, 3) := dk_160 0 51 (dk_at dksX0_layBests_2 19 rfl rfl)
theorem dX0_layBests_70 : decode cX0_layBests 70 = .ok (.aload_n 0, 1) := dk_42 (dk_at dksX0_layBests_2 22 rfl rfl)
theorem dX0_layBests_71 : decode cX0_layBests 71 = .ok (.getfield 82, 3) := dk_180 0 82 (dk_at dksX0_layBests_3 0 rfl rfl)
theorem dX0_layBests_74 : decode cX0_layBests 74 = .ok (.bipush 10, 2) := dk_16 10 (dk_at dksX0_layBests_3 3 rfl rfl)
theorem dX0_layBests_76 : decode cX0_layBests 76 = .ok (.iload_n 2, 1) := dk_28 (dk_at dksX0_layBests_3 5 rfl rfl)
theorem dX0_layBests_77 : decode cX0_layBests 77 = .ok (.imul, 1) := dk_104 (dk_at dksX0_layBests_3 6 rfl rfl)
theorem dX0_layBests_78 : decode cX0_layBests 78 = .ok (.iload 5, 2) := dk_21 5 (dk_at dksX0_layBests_3 7 rfl rfl)
theorem dX0_layBests_80 : decode cX0_layBests 80 = .ok (.iadd, 1) := dk_96 (dk_at dksX0_layBests_3 9 rfl rfl)
theorem dX0_layBests_81 : decode cX0_layBests 81 = .ok (.iaload, 1) := dk_46 (dk_at dksX0_layBests_3 10 rfl rfl)
theorem dX0_layBests_82 : decode cX0_layBests 82 = .ok (.ifCond .lt 36, 3) := dk_155 0 36 (dk_at dksX0_layBests_3 11 rfl rfl)
theorem dX0_layBests_85 : decode cX0_layBests 85 = .ok (.iload 4, 2) := dk_21 4 (dk_at dksX0_layBests_3 14 rfl rfl)
theorem dX0_layBests_87 : decode cX0_layBests 87 = .ok (.aload_n 0, 1) := dk_42 (dk_at dksX0_layBests_3 16 rfl rfl)
theorem dX0_layBests_88 : decode cX0_layBests 88 = .ok (.getfield 82, 3) := dk_180 0 82 (dk_at dksX0_layBests_3 17 rfl rfl)
theorem dX0_layBests_91 : decode cX0_layBests 91 = .ok (.bipush 10, 2) := dk_16 10 (dk_at dksX0_layBests_3 20 rfl rfl)
theorem dX0_layBests_93 : decode cX0_layBests 93 = .ok (.iload_n 2, 1) := dk_28 (dk_at dksX0_layBests_3 22 rfl rfl)
theorem dX0_layBests_94 : decode cX0_layBests 94 = .ok (.imul, 1) := dk_104 (dk_at dksX0_layBests_3 23 rfl rfl)
theorem dX0_layBests_95 : decode cX0_layBests 95 = .ok (.iload 5, 2) := dk_21 5 (dk_at dksX0_layBests_4 0 rfl rfl)
theorem dX0_layBests_97 : decode cX0_layBests 97 = .ok (.iadd, 1) := dk_96 (dk_at dksX0_layBests_4 2 rfl rfl)
theorem dX0_layBests_98 : decode cX0_layBests 98 = .ok (.iaload, 1) := dk_46 (dk_at dksX0_layBests_4 3 rfl rfl)
theorem dX0_layBests_99 : decode cX0_layBests 99 = .ok (.aload_n 0, 1) := dk_42 (dk_at dksX0_layBests_4 4 rfl rfl)
theorem dX0_layBests_100 : decode cX0_layBests 100 = .ok (.getfield 85, 3) := dk_180 0 85 (dk_at dksX0_layBests_4 5 rfl rfl)
theorem dX0_layBests_103 : decode cX0_layBests 103 = .ok (.iload_n 3, 1) := dk_29 (dk_at dksX0_layBests_4 8 rfl rfl)
theorem dX0_layBests_104 : decode cX0_layBests 104 = .ok (.iconst 1, 1) := dk_4 (dk_at dksX0_layBests_4 9 rfl rfl)
theorem dX0_layBests_105 : decode cX0_layBests 105 = .ok (.iload 5, 2) := dk_21 5 (dk_at dksX0_layBests_4 10 rfl rfl)
theorem dX0_layBests_107 : decode cX0_layBests 107 = .ok (.ishl, 1) := dk_120 (dk_at dksX0_layBests_4 12 rfl rfl)
theorem dX0_layBests_108 : decode cX0_layBests 108 = .ok (.iconst (-1), 1) := dk_2 (dk_at dksX0_layBests_4 13 rfl rfl)
theorem dX0_layBests_109 : decode cX0_layBests 109 = .ok (.ixor, 1) := dk_130 (dk_at dksX0_layBests_4 14 rfl rfl)
theorem dX0_layBests_110 : decode cX0_layBests 110 = .ok (.iand, 1) := dk_126 (dk_at dksX0_layBests_4 15 rfl rfl)
theorem dX0_layBests_111 : decode cX0_layBests 111 = .ok (.iaload, 1) := dk_46 (dk_at dksX0_layBests_4 16 rfl rfl)
theorem dX0_layBests_112 : decode cX0_layBests 112 = .ok (.iadd, 1) := dk_96 (dk_at dksX0_layBests_4 17 rfl rfl)
theorem dX0_layBests_113 : decode cX0_layBests 113 = .ok (.invokestatic 10, 3) := dk_184 0 10 (dk_at dksX0_layBests_4 18 rfl rfl)
theorem dX0_layBests_116 : decode cX0_layBests 116 = .ok (.istore 4, 2) := dk_54 4 (dk_at dksX0_layBests_4 21 rfl rfl)
theorem dX0_layBests_118 : decode cX0_layBests 118 = .ok (.iinc 5 1, 3) := dk_132 5 1 (dk_at dksX0_layBests_5 0 rfl rfl)
theorem dX0_layBests_121 : decode cX0_layBests 121 = .ok (.goto (-73), 3) := dk_167 255 183 (dk_at dksX0_layBests_5 3 rfl rfl)
theorem dX0_layBests_124 : decode cX0_layBests 124 = .ok (.aload_n 0, 1) := dk_42 (dk_at dksX0_layBests_5 6 rfl rfl)
theorem dX0_layBests_125 : decode cX0_layBests 125 = .ok (.getfield 85, 3) := dk_180 0 85 (dk_at dksX0_layBests_5 7 rfl rfl)
theorem dX0_layBests_128 : decode cX0_layBests 128 = .ok (.iload_n 1, 1) := dk_27 (dk_at dksX0_layBests_5 10 rfl rfl)
theorem dX0_layBests_129 : decode cX0_layBests 129 = .ok (.iload 4, 2) := dk_21 4 (dk_at dksX0_layBests_5 11 rfl rfl)
theorem dX0_layBests_131 : decode cX0_layBests 131 = .ok (.iastore, 1) := dk_79 (dk_at dksX0_layBests_5 13 rfl rfl)
theorem dX0_layBests_132 : decode cX0_layBests 132 = .ok (.iinc 1 1, 3) := dk_132 1 1 (dk_at dksX0_layBests_5 14 rfl rfl)
theorem dX0_layBests_135 : decode cX0_layBests 135 = .ok (.goto (-122), 3) := dk_167 255 134 (dk_at dksX0_layBests_5 17 rfl rfl)
theorem dX0_layBests_138 : decode cX0_layBests 138 = .ok (.return_, 1) := dk_177 (dk_at dksX0_layBests_5 20 rfl rfl)
abbrev cX0_layValues : ByteArray := prog_1_method_23_code
def yX0_layValues : MethodName := ⟨RX0, "layValues", "()V"⟩
def dkwX0_layValues_4 : List UInt8 := [132, 1, 1, 167, 255, 160, 177]
abbrev dktX0_layValues_4 : List UInt8 := dkwX0_layValues_4 ++ []
def dkwX0_layValues_3 : List UInt8 := [50, 42, 180, 0, 72, 180, 0, 147, 28, 50, 182, 0, 183, 167, 0, 4, 2, 79, 132, 2, 1, 167, 255, 179]
abbrev dktX0_layValues_3 : List UInt8 := dkwX0_layValues_3 ++ dktX0_layValues_4
def dkwX0_layValues_2 : List UInt8 := [62, 42, 180, 0, 82, 16, 10, 27, 104, 28, 96, 29, 153, 0, 28, 42, 42, 180, 0, 72, 180, 0, 147, 27]
abbrev dktX0_layValues_2 : List UInt8 := dkwX0_layValues_2 ++ dktX0_layValues_3
def dkwX0_layValues_1 : List UInt8 := [162, 0, 72, 42, 180, 0, 72, 180, 0, 147, 27, 50, 42, 180, 0, 72, 180, 0, 147, 28, 50, 182, 0, 180]
abbrev dktX0_layValues_1 : List UInt8 := dkwX0_layValues_1 ++ dktX0_layValues_2
def dkwX0_layValues_0 : List UInt8 := [3, 60, 27, 42, 180, 0, 72, 180, 0, 118, 162, 0, 91, 3, 61, 28, 42, 180, 0, 72, 180, 0, 118]
abbrev dktX0_layValues_0 : List UInt8 := dkwX0_layValues_0 ++ dktX0_layValues_1
theorem dksX0_layValues_0 : cX0_layValues.data.toList.drop 0 = dktX0_layValues_0 := by decide +kernel
theorem dksX0_layValues_1 : cX0_layValues.data.toList.drop 23 = dktX0_layValues_1 := dk_seg dksX0_layValues_0 23 rfl rfl
theorem dksX0_layValues_2 : cX0_layValues.data.toList.drop 47 = dktX0_layValues_2 := dk_seg dksX0_layValues_1 24 rfl rfl
theorem dksX0_layValues_3 : cX0_layValues.data.toList.drop 71 = dktX0_layValues_3 := dk_seg dksX0_layValues_2 24 rfl rfl
theorem dksX0_layValues_4 : cX0_layValues.data.toList.drop 95 = dktX0_layValues_4 := dk_seg dksX0_layValues_3 24 rfl rfl
theorem dX0_layValues_0 : decode cX0_layValues 0 = .ok (.iconst 0, 1) := dk_3 (dk_at dksX0_layValues_0 0 rfl rfl)
theorem dX0_layValues_1 : decode cX0_layValues 1 = .ok (.istore_n 1, 1) := dk_60 (dk_at dksX0_layValues_0 1 rfl rfl)
theorem dX0_layValues_2 : decode cX0_layValues 2 = .ok (.iload_n 1, 1) := dk_27 (dk_at dksX0_layValues_0 2 rfl rfl)
theorem dX0_layValues_3 : decode cX0_layValues 3 = .ok (.aload_n 0, 1) := dk_42 (dk_at dksX0_layValues_0 3 rfl rfl)
theorem dX0_layValues_4 : decode cX0_layValues 4 = .ok (.getfield 72, 3) := dk_180 0 72 (dk_at dksX0_layValues_0 4 rfl rfl)
theorem dX0_layValues_7 : decode cX0_layValues 7 = .ok (.getfield 118, 3) := dk_180 0 118 (dk_at dksX0_layValues_0 7 rfl rfl)
theorem dX0_layValues_10 : decode cX0_layValues 10 = .ok (.if_icmp .ge 91, 3) := dk_162 0 91 (dk_at dksX0_layValues_0 10 rfl rfl)
theorem dX0_layValues_13 : decode cX0_layValues 13 = .ok (.iconst 0, 1) := dk_3 (dk_at dksX0_layValues_0 13 rfl rfl)
theorem dX0_layValues_14 : decode cX0_layValues 14 = .ok (.istore_n 2, 1) := dk_61 (dk_at dksX0_layValues_0 14 rfl rfl)
theorem dX0_layValues_15 : decode cX0_layValues 15 = .ok (.iload_n 2, 1) := dk_28 (dk_at dksX0_layValues_0 15 rfl rfl)
theorem dX0_layValues_16 : decode cX0_layValues 16 = .ok (.aload_n 0, 1) := dk_42 (dk_at dksX0_layValues_0 16 rfl rfl)
theorem dX0_layValues_17 : decode cX0_layValues 17 = .ok (.getfield 72, 3) := dk_180 0 72 (dk_at dksX0_layValues_0 17 rfl rfl)
theorem dX0_layValues_20 : decode cX0_layValues 20 = .ok (.getfield 118, 3) := dk_180 0 118 (dk_at dksX0_layValues_0 20 rfl rfl)
theorem dX0_layValues_23 : decode cX0_layValues 23 = .ok (.if_icmp .ge 72, 3) := dk_162 0 72 (dk_at dksX0_layValues_1 0 rfl rfl)
theorem dX0_layValues_26 : decode cX0_layValues 26 = .ok (.aload_n 0, 1) := dk_42 (dk_at dksX0_layValues_1 3 rfl rfl)
theorem dX0_layValues_27 : decode cX0_layValues 27 = .ok (.getfield 72, 3) := dk_180 0 72 (dk_at dksX0_layValues_1 4 rfl rfl)
theorem dX0_layValues_30 : decode cX0_layValues 30 = .ok (.getfield 147, 3) := dk_180 0 147 (dk_at dksX0_layValues_1 7 rfl rfl)
theorem dX0_layValues_33 : decode cX0_layValues 33 = .ok (.iload_n 1, 1) := dk_27 (dk_at dksX0_layValues_1 10 rfl rfl)
theorem dX0_layValues_34 : decode cX0_layValues 34 = .ok (.aaload, 1) := dk_50 (dk_at dksX0_layValues_1 11 rfl rfl)
theorem dX0_layValues_35 : decode cX0_layValues 35 = .ok (.aload_n 0, 1) := dk_42 (dk_at dksX0_layValues_1 12 rfl rfl)
theorem dX0_layValues_36 : decode cX0_layValues 36 = .ok (.getfield 72, 3) := dk_180 0 72 (dk_at dksX0_layValues_1 13 rfl rfl)
theorem dX0_layValues_39 : decode cX0_layValues 39 = .ok (.getfield 147, 3) := dk_180 0 147 (dk_at dksX0_layValues_1 16 rfl rfl)
theorem dX0_layValues_42 : decode cX0_layValues 42 = .ok (.iload_n 2, 1) := dk_28 (dk_at dksX0_layValues_1 19 rfl rfl)
theorem dX0_layValues_43 : decode cX0_layValues 43 = .ok (.aaload, 1) := dk_50 (dk_at dksX0_layValues_1 20 rfl rfl)
theorem dX0_layValues_44 : decode cX0_layValues 44 = .ok (.invokevirtual 180, 3) := dk_182 0 180 (dk_at dksX0_layValues_1 21 rfl rfl)
theorem dX0_layValues_47 : decode cX0_layValues 47 = .ok (.istore_n 3, 1) := dk_62 (dk_at dksX0_layValues_2 0 rfl rfl)
theorem dX0_layValues_48 : decode cX0_layValues 48 = .ok (.aload_n 0, 1) := dk_42 (dk_at dksX0_layValues_2 1 rfl rfl)
theorem dX0_layValues_49 : decode cX0_layValues 49 = .ok (.getfield 82, 3) := dk_180 0 82 (dk_at dksX0_layValues_2 2 rfl rfl)
theorem dX0_layValues_52 : decode cX0_layValues 52 = .ok (.bipush 10, 2) := dk_16 10 (dk_at dksX0_layValues_2 5 rfl rfl)
theorem dX0_layValues_54 : decode cX0_layValues 54 = .ok (.iload_n 1, 1) := dk_27 (dk_at dksX0_layValues_2 7 rfl rfl)
theorem dX0_layValues_55 : decode cX0_layValues 55 = .ok (.imul, 1) := dk_104 (dk_at dksX0_layValues_2 8 rfl rfl)
theorem dX0_layValues_56 : decode cX0_layValues 56 = .ok (.iload_n 2, 1) := dk_28 (dk_at dksX0_layValues_2 9 rfl rfl)
theorem dX0_layValues_57 : decode cX0_layValues 57 = .ok (.iadd, 1) := dk_96 (dk_at dksX0_layValues_2 10 rfl rfl)
theorem dX0_layValues_58 : decode cX0_layValues 58 = .ok (.iload_n 3, 1) := dk_29 (dk_at dksX0_layValues_2 11 rfl rfl)
theorem dX0_layValues_59 : decode cX0_layValues 59 = .ok (.ifCond .eq 28, 3) := dk_153 0 28 (dk_at dksX0_layValues_2 12 rfl rfl)
theorem dX0_layValues_62 : decode cX0_layValues 62 = .ok (.aload_n 0, 1) := dk_42 (dk_at dksX0_layValues_2 15 rfl rfl)
theorem dX0_layValues_63 : decode cX0_layValues 63 = .ok (.aload_n 0, 1) := dk_42 (dk_at dksX0_layValues_2 16 rfl rfl)
theorem dX0_layValues_64 : decode cX0_layValues 64 = .ok (.getfield 72, 3) := dk_180 0 72 (dk_at dksX0_layValues_2 17 rfl rfl)
theorem dX0_layValues_67 : decode cX0_layValues 67 = .ok (.getfield 147, 3) := dk_180 0 147 (dk_at dksX0_layValues_2 20 rfl rfl)
theorem dX0_layValues_70 : decode cX0_layValues 70 = .ok (.iload_n 1, 1) := dk_27 (dk_at dksX0_layValues_2 23 rfl rfl)
theorem dX0_layValues_71 : decode cX0_layValues 71 = .ok (.aaload, 1) := dk_50 (dk_at dksX0_layValues_3 0 rfl rfl)
theorem dX0_layValues_72 : decode cX0_layValues 72 = .ok (.aload_n 0, 1) := dk_42 (dk_at dksX0_layValues_3 1 rfl rfl)
theorem dX0_layValues_73 : decode cX0_layValues 73 = .ok (.getfield 72, 3) := dk_180 0 72 (dk_at dksX0_layValues_3 2 rfl rfl)
theorem dX0_layValues_76 : decode cX0_layValues 76 = .ok (.getfield 147, 3) := dk_180 0 147 (dk_at dksX0_layValues_3 5 rfl rfl)
theorem dX0_layValues_79 : decode cX0_layValues 79 = .ok (.iload_n 2, 1) := dk_28 (dk_at dksX0_layValues_3 8 rfl rfl)
theorem dX0_layValues_80 : decode cX0_layValues 80 = .ok (.aaload, 1) := dk_50 (dk_at dksX0_layValues_3 9 rfl rfl)
theorem dX0_layValues_81 : decode cX0_layValues 81 = .ok (.invokevirtual 183, 3) := dk_182 0 183 (dk_at dksX0_layValues_3 10 rfl rfl)
theorem dX0_layValues_84 : decode cX0_layValues 84 = .ok (.goto 4, 3) := dk_167 0 4 (dk_at dksX0_layValues_3 13 rfl rfl)
theorem dX0_layValues_87 : decode cX0_layValues 87 = .ok (.iconst (-1), 1) := dk_2 (dk_at dksX0_layValues_3 16 rfl rfl)
theorem dX0_layValues_88 : decode cX0_layValues 88 = .ok (.iastore, 1) := dk_79 (dk_at dksX0_layValues_3 17 rfl rfl)
theorem dX0_layValues_89 : decode cX0_layValues 89 = .ok (.iinc 2 1, 3) := dk_132 2 1 (dk_at dksX0_layValues_3 18 rfl rfl)
theorem dX0_layValues_92 : decode cX0_layValues 92 = .ok (.goto (-77), 3) := dk_167 255 179 (dk_at dksX0_layValues_3 21 rfl rfl)
theorem dX0_layValues_95 : decode cX0_layValues 95 = .ok (.iinc 1 1, 3) := dk_132 1 1 (dk_at dksX0_layValues_4 0 rfl rfl)
theorem dX0_layValues_98 : decode cX0_layValues 98 = .ok (.goto (-96), 3) := dk_167 255 160 (dk_at dksX0_layValues_4 3 rfl rfl)
theorem dX0_layValues_101 : decode cX0_layValues 101 = .ok (.return_, 1) := dk_177 (dk_at dksX0_layValues_4 6 rfl rfl)
abbrev cX0_partner : ByteArray := prog_1_method_27_code
def yX0_partner : MethodName := ⟨RX0, "partner", "(I)I"⟩
def dkwX0_partner_3 : List UInt8 := [21, 4, 156, 0, 7, 2, 167, 0, 9, 4, 21, 4, 120, 2, 130, 126, 126, 61, 167, 255, 190, 18, 3, 172]
abbrev dktX0_partner_3 : List UInt8 := dkwX0_partner_3 ++ []
def dkwX0_partner_2 : List UInt8 := [160, 0, 18, 29, 27, 160, 0, 11, 21, 4, 184, 0, 213, 167, 0, 4, 29, 172, 28, 4, 29, 120, 2, 130]
abbrev dktX0_partner_2 : List UInt8 := dkwX0_partner_2 ++ dktX0_partner_3
def dkwX0_partner_1 : List UInt8 := [153, 0, 68, 28, 184, 0, 201, 62, 42, 28, 182, 0, 210, 54, 4, 29, 27, 159, 0, 9, 21, 4, 27]
abbrev dktX0_partner_1 : List UInt8 := dkwX0_partner_1 ++ dktX0_partner_2
def dkwX0_partner_0 : List UInt8 := [42, 27, 182, 0, 125, 154, 0, 6, 18, 135, 172, 42, 182, 0, 207, 42, 180, 0, 72, 182, 0, 198, 61, 28]
abbrev dktX0_partner_0 : List UInt8 := dkwX0_partner_0 ++ dktX0_partner_1
theorem dksX0_partner_0 : cX0_partner.data.toList.drop 0 = dktX0_partner_0 := by decide +kernel
theorem dksX0_partner_1 : cX0_partner.data.toList.drop 24 = dktX0_partner_1 := dk_seg dksX0_partner_0 24 rfl rfl
theorem dksX0_partner_2 : cX0_partner.data.toList.drop 47 = dktX0_partner_2 := dk_seg dksX0_partner_1 23 rfl rfl
theorem dksX0_partner_3 : cX0_partner.data.toList.drop 71 = dktX0_partner_3 := dk_seg dksX0_partner_2 24 rfl rfl
theorem dX0_partner_0 : decode cX0_partner 0 = .ok (.aload_n 0, 1) := dk_42 (dk_at dksX0_partner_0 0 rfl rfl)
theorem dX0_partner_1 : decode cX0_partner 1 = .ok (.iload_n 1, 1) := dk_27 (dk_at dksX0_partner_0 1 rfl rfl)
theorem dX0_partner_2 : decode cX0_partner 2 = .ok (.invokevirtual 125, 3) := dk_182 0 125 (dk_at dksX0_partner_0 2 rfl rfl)
theorem dX0_partner_5 : decode cX0_partner 5 = .ok (.ifCond .ne 6, 3) := dk_154 0 6 (dk_at dksX0_partner_0 5 rfl rfl)
theorem dX0_partner_8 : decode cX0_partner 8 = .ok (.ldc 135, 2) := dk_18 135 (dk_at dksX0_partner_0 8 rfl rfl)
theorem dX0_partner_10 : decode cX0_partner 10 = .ok (.ireturn, 1) := dk_172 (dk_at dksX0_partner_0 10 rfl rfl)
theorem dX0_partner_11 : decode cX0_partner 11 = .ok (.aload_n 0, 1) := dk_42 (dk_at dksX0_partner_0 11 rfl rfl)
theorem dX0_partner_12 : decode cX0_partner 12 = .ok (.invokevirtual 207, 3) := dk_182 0 207 (dk_at dksX0_partner_0 12 rfl rfl)
theorem dX0_partner_15 : decode cX0_partner 15 = .ok (.aload_n 0, 1) := dk_42 (dk_at dksX0_partner_0 15 rfl rfl)
theorem dX0_partner_16 : decode cX0_partner 16 = .ok (.getfield 72, 3) := dk_180 0 72 (dk_at dksX0_partner_0 16 rfl rfl)
theorem dX0_partner_19 : decode cX0_partner 19 = .ok (.invokevirtual 198, 3) := dk_182 0 198 (dk_at dksX0_partner_0 19 rfl rfl)
theorem dX0_partner_22 : decode cX0_partner 22 = .ok (.istore_n 2, 1) := dk_61 (dk_at dksX0_partner_0 22 rfl rfl)
theorem dX0_partner_23 : decode cX0_partner 23 = .ok (.iload_n 2, 1) := dk_28 (dk_at dksX0_partner_0 23 rfl rfl)
theorem dX0_partner_24 : decode cX0_partner 24 = .ok (.ifCond .eq 68, 3) := dk_153 0 68 (dk_at dksX0_partner_1 0 rfl rfl)
theorem dX0_partner_27 : decode cX0_partner 27 = .ok (.iload_n 2, 1) := dk_28 (dk_at dksX0_partner_1 3 rfl rfl)
theorem dX0_partner_28 : decode cX0_partner 28 = .ok (.invokestatic 201, 3) := dk_184 0 201 (dk_at dksX0_partner_1 4 rfl rfl)
theorem dX0_partner_31 : decode cX0_partner 31 = .ok (.istore_n 3, 1) := dk_62 (dk_at dksX0_partner_1 7 rfl rfl)
theorem dX0_partner_32 : decode cX0_partner 32 = .ok (.aload_n 0, 1) := dk_42 (dk_at dksX0_partner_1 8 rfl rfl)
theorem dX0_partner_33 : decode cX0_partner 33 = .ok (.iload_n 2, 1) := dk_28 (dk_at dksX0_partner_1 9 rfl rfl)
theorem dX0_partner_34 : decode cX0_partner 34 = .ok (.invokevirtual 210, 3) := dk_182 0 210 (dk_at dksX0_partner_1 10 rfl rfl)
theorem dX0_partner_37 : decode cX0_partner 37 = .ok (.istore 4, 2) := dk_54 4 (dk_at dksX0_partner_1 13 rfl rfl)
theorem dX0_partner_39 : decode cX0_partner 39 = .ok (.iload_n 3, 1) := dk_29 (dk_at dksX0_partner_1 15 rfl rfl)
theorem dX0_partner_40 : decode cX0_partner 40 = .ok (.iload_n 1, 1) := dk_27 (dk_at dksX0_partner_1 16 rfl rfl)
theorem dX0_partner_41 : decode cX0_partner 41 = .ok (.if_icmp .eq 9, 3) := dk_159 0 9 (dk_at dksX0_partner_1 17 rfl rfl)
theorem dX0_partner_44 : decode cX0_partner 44 = .ok (.iload 4, 2) := dk_21 4 (dk_at dksX0_partner_1 20 rfl rfl)
theorem dX0_partner_46 : decode cX0_partner 46 = .ok (.iload_n 1, 1) := dk_27 (dk_at dksX0_partner_1 22 rfl rfl)
theorem dX0_partner_47 : decode cX0_partner 47 = .ok (.if_icmp .ne 18, 3) := dk_160 0 18 (dk_at dksX0_partner_2 0 rfl rfl)
theorem dX0_partner_50 : decode cX0_partner 50 = .ok (.iload_n 3, 1) := dk_29 (dk_at dksX0_partner_2 3 rfl rfl)
theorem dX0_partner_51 : decode cX0_partner 51 = .ok (.iload_n 1, 1) := dk_27 (dk_at dksX0_partner_2 4 rfl rfl)
theorem dX0_partner_52 : decode cX0_partner 52 = .ok (.if_icmp .ne 11, 3) := dk_160 0 11 (dk_at dksX0_partner_2 5 rfl rfl)
theorem dX0_partner_55 : decode cX0_partner 55 = .ok (.iload 4, 2) := dk_21 4 (dk_at dksX0_partner_2 8 rfl rfl)
theorem dX0_partner_57 : decode cX0_partner 57 = .ok (.invokestatic 213, 3) := dk_184 0 213 (dk_at dksX0_partner_2 10 rfl rfl)
theorem dX0_partner_60 : decode cX0_partner 60 = .ok (.goto 4, 3) := dk_167 0 4 (dk_at dksX0_partner_2 13 rfl rfl)
theorem dX0_partner_63 : decode cX0_partner 63 = .ok (.iload_n 3, 1) := dk_29 (dk_at dksX0_partner_2 16 rfl rfl)
theorem dX0_partner_64 : decode cX0_partner 64 = .ok (.ireturn, 1) := dk_172 (dk_at dksX0_partner_2 17 rfl rfl)
theorem dX0_partner_65 : decode cX0_partner 65 = .ok (.iload_n 2, 1) := dk_28 (dk_at dksX0_partner_2 18 rfl rfl)
theorem dX0_partner_66 : decode cX0_partner 66 = .ok (.iconst 1, 1) := dk_4 (dk_at dksX0_partner_2 19 rfl rfl)
theorem dX0_partner_67 : decode cX0_partner 67 = .ok (.iload_n 3, 1) := dk_29 (dk_at dksX0_partner_2 20 rfl rfl)
theorem dX0_partner_68 : decode cX0_partner 68 = .ok (.ishl, 1) := dk_120 (dk_at dksX0_partner_2 21 rfl rfl)
theorem dX0_partner_69 : decode cX0_partner 69 = .ok (.iconst (-1), 1) := dk_2 (dk_at dksX0_partner_2 22 rfl rfl)
theorem dX0_partner_70 : decode cX0_partner 70 = .ok (.ixor, 1) := dk_130 (dk_at dksX0_partner_2 23 rfl rfl)
theorem dX0_partner_71 : decode cX0_partner 71 = .ok (.iload 4, 2) := dk_21 4 (dk_at dksX0_partner_3 0 rfl rfl)
theorem dX0_partner_73 : decode cX0_partner 73 = .ok (.ifCond .ge 7, 3) := dk_156 0 7 (dk_at dksX0_partner_3 2 rfl rfl)
theorem dX0_partner_76 : decode cX0_partner 76 = .ok (.iconst (-1), 1) := dk_2 (dk_at dksX0_partner_3 5 rfl rfl)
theorem dX0_partner_77 : decode cX0_partner 77 = .ok (.goto 9, 3) := dk_167 0 9 (dk_at dksX0_partner_3 6 rfl rfl)
theorem dX0_partner_80 : decode cX0_partner 80 = .ok (.iconst 1, 1) := dk_4 (dk_at dksX0_partner_3 9 rfl rfl)
theorem dX0_partner_81 : decode cX0_partner 81 = .ok (.iload 4, 2) := dk_21 4 (dk_at dksX0_partner_3 10 rfl rfl)
theorem dX0_partner_83 : decode cX0_partner 83 = .ok (.ishl, 1) := dk_120 (dk_at dksX0_partner_3 12 rfl rfl)
theorem dX0_partner_84 : decode cX0_partner 84 = .ok (.iconst (-1), 1) := dk_2 (dk_at dksX0_partner_3 13 rfl rfl)
theorem dX0_partner_85 : decode cX0_partner 85 = .ok (.ixor, 1) := dk_130 (dk_at dksX0_partner_3 14 rfl rfl)
theorem dX0_partner_86 : decode cX0_partner 86 = .ok (.iand, 1) := dk_126 (dk_at dksX0_partner_3 15 rfl rfl)
theorem dX0_partner_87 : decode cX0_partner 87 = .ok (.iand, 1) := dk_126 (dk_at dksX0_partner_3 16 rfl rfl)
theorem dX0_partner_88 : decode cX0_partner 88 = .ok (.istore_n 2, 1) := dk_61 (dk_at dksX0_partner_3 17 rfl rfl)
theorem dX0_partner_89 : decode cX0_partner 89 = .ok (.goto (-66), 3) := dk_167 255 190 (dk_at dksX0_partner_3 18 rfl rfl)
theorem dX0_partner_92 : decode cX0_partner 92 = .ok (.ldc 3, 2) := dk_18 3 (dk_at dksX0_partner_3 21 rfl rfl)
theorem dX0_partner_94 : decode cX0_partner 94 = .ok (.ireturn, 1) := dk_172 (dk_at dksX0_partner_3 23 rfl rfl)
abbrev cX0_firstPartner : ByteArray := prog_1_method_26_code
def yX0_firstPartner : MethodName := ⟨RX0, "firstPartner", "(I)I"⟩
def dkwX0_firstPartner_3 : List UInt8 := [126, 46, 96, 42, 180, 0, 85, 27, 46, 160, 0, 6, 21, 4, 172, 132, 4, 1, 167, 255, 184, 2, 172]
abbrev dktX0_firstPartner_3 : List UInt8 := dkwX0_firstPartner_3 ++ []
def dkwX0_firstPartner_2 : List UInt8 := [4, 126, 4, 160, 0, 36, 21, 5, 155, 0, 31, 21, 5, 42, 180, 0, 85, 29, 4, 21, 4, 120, 2, 130]
abbrev dktX0_firstPartner_2 : List UInt8 := dkwX0_firstPartner_2 ++ dktX0_firstPartner_3
def dkwX0_firstPartner_1 : List UInt8 := [180, 0, 118, 162, 0, 66, 42, 180, 0, 82, 16, 10, 28, 104, 21, 4, 96, 46, 54, 5, 29, 21, 4, 122]
abbrev dktX0_firstPartner_1 : List UInt8 := dkwX0_firstPartner_1 ++ dktX0_firstPartner_2
def dkwX0_firstPartner_0 : List UInt8 := [27, 184, 0, 201, 61, 27, 27, 4, 100, 126, 62, 28, 4, 96, 54, 4, 21, 4, 42, 180, 0, 72]
abbrev dktX0_firstPartner_0 : List UInt8 := dkwX0_firstPartner_0 ++ dktX0_firstPartner_1
theorem dksX0_firstPartner_0 : cX0_firstPartner.data.toList.drop 0 = dktX0_firstPartner_0 := by decide +kernel
theorem dksX0_firstPartner_1 : cX0_firstPartner.data.toList.drop 22 = dktX0_firstPartner_1 := dk_seg dksX0_firstPartner_0 22 rfl rfl
theorem dksX0_firstPartner_2 : cX0_firstPartner.data.toList.drop 46 = dktX0_firstPartner_2 := dk_seg dksX0_firstPartner_1 24 rfl rfl
theorem dksX0_firstPartner_3 : cX0_firstPartner.data.toList.drop 70 = dktX0_firstPartner_3 := dk_seg dksX0_firstPartner_2 24 rfl rfl
theorem dX0_firstPartner_0 : decode cX0_firstPartner 0 = .ok (.iload_n 1, 1) := dk_27 (dk_at dksX0_firstPartner_0 0 rfl rfl)
theorem dX0_firstPartner_1 : decode cX0_firstPartner 1 = .ok (.invokestatic 201, 3) := dk_184 0 201 (dk_at dksX0_firstPartner_0 1 rfl rfl)
theorem dX0_firstPartner_4 : decode cX0_firstPartner 4 = .ok (.istore_n 2, 1) := dk_61 (dk_at dksX0_firstPartner_0 4 rfl rfl)
theorem dX0_firstPartner_5 : decode cX0_firstPartner 5 = .ok (.iload_n 1, 1) := dk_27 (dk_at dksX0_firstPartner_0 5 rfl rfl)
theorem dX0_firstPartner_6 : decode cX0_firstPartner 6 = .ok (.iload_n 1, 1) := dk_27 (dk_at dksX0_firstPartner_0 6 rfl rfl)
theorem dX0_firstPartner_7 : decode cX0_firstPartner 7 = .ok (.iconst 1, 1) := dk_4 (dk_at dksX0_firstPartner_0 7 rfl rfl)
theorem dX0_firstPartner_8 : decode cX0_firstPartner 8 = .ok (.isub, 1) := dk_100 (dk_at dksX0_firstPartner_0 8 rfl rfl)
theorem dX0_firstPartner_9 : decode cX0_firstPartner 9 = .ok (.iand, 1) := dk_126 (dk_at dksX0_firstPartner_0 9 rfl rfl)
theorem dX0_firstPartner_10 : decode cX0_firstPartner 10 = .ok (.istore_n 3, 1) := dk_62 (dk_at dksX0_firstPartner_0 10 rfl rfl)
theorem dX0_firstPartner_11 : decode cX0_firstPartner 11 = .ok (.iload_n 2, 1) := dk_28 (dk_at dksX0_firstPartner_0 11 rfl rfl)
theorem dX0_firstPartner_12 : decode cX0_firstPartner 12 = .ok (.iconst 1, 1) := dk_4 (dk_at dksX0_firstPartner_0 12 rfl rfl)
theorem dX0_firstPartner_13 : decode cX0_firstPartner 13 = .ok (.iadd, 1) := dk_96 (dk_at dksX0_firstPartner_0 13 rfl rfl)
theorem dX0_firstPartner_14 : decode cX0_firstPartner 14 = .ok (.istore 4, 2) := dk_54 4 (dk_at dksX0_firstPartner_0 14 rfl rfl)
theorem dX0_firstPartner_16 : decode cX0_firstPartner 16 = .ok (.iload 4, 2) := dk_21 4 (dk_at dksX0_firstPartner_0 16 rfl rfl)
theorem dX0_firstPartner_18 : decode cX0_firstPartner 18 = .ok (.aload_n 0, 1) := dk_42 (dk_at dksX0_firstPartner_0 18 rfl rfl)
theorem dX0_firstPartner_19 : decode cX0_firstPartner 19 = .ok (.getfield 72, 3) := dk_180 0 72 (dk_at dksX0_firstPartner_0 19 rfl rfl)
theorem dX0_firstPartner_22 : decode cX0_firstPartner 22 = .ok (.getfield 118, 3) := dk_180 0 118 (dk_at dksX0_firstPartner_1 0 rfl rfl)
theorem dX0_firstPartner_25 : decode cX0_firstPartner 25 = .ok (.if_icmp .ge 66, 3) := dk_162 0 66 (dk_at dksX0_firstPartner_1 3 rfl rfl)
theorem dX0_firstPartner_28 : decode cX0_firstPartner 28 = .ok (.aload_n 0, 1) := dk_42 (dk_at dksX0_firstPartner_1 6 rfl rfl)
theorem dX0_firstPartner_29 : decode cX0_firstPartner 29 = .ok (.getfield 82, 3) := dk_180 0 82 (dk_at dksX0_firstPartner_1 7 rfl rfl)
theorem dX0_firstPartner_32 : decode cX0_firstPartner 32 = .ok (.bipush 10, 2) := dk_16 10 (dk_at dksX0_firstPartner_1 10 rfl rfl)
theorem dX0_firstPartner_34 : decode cX0_firstPartner 34 = .ok (.iload_n 2, 1) := dk_28 (dk_at dksX0_firstPartner_1 12 rfl rfl)
theorem dX0_firstPartner_35 : decode cX0_firstPartner 35 = .ok (.imul, 1) := dk_104 (dk_at dksX0_firstPartner_1 13 rfl rfl)
theorem dX0_firstPartner_36 : decode cX0_firstPartner 36 = .ok (.iload 4, 2) := dk_21 4 (dk_at dksX0_firstPartner_1 14 rfl rfl)
theorem dX0_firstPartner_38 : decode cX0_firstPartner 38 = .ok (.iadd, 1) := dk_96 (dk_at dksX0_firstPartner_1 16 rfl rfl)
theorem dX0_firstPartner_39 : decode cX0_firstPartner 39 = .ok (.iaload, 1) := dk_46 (dk_at dksX0_firstPartner_1 17 rfl rfl)
theorem dX0_firstPartner_40 : decode cX0_firstPartner 40 = .ok (.istore 5, 2) := dk_54 5 (dk_at dksX0_firstPartner_1 18 rfl rfl)
theorem dX0_firstPartner_42 : decode cX0_firstPartner 42 = .ok (.iload_n 3, 1) := dk_29 (dk_at dksX0_firstPartner_1 20 rfl rfl)
theorem dX0_firstPartner_43 : decode cX0_firstPartner 43 = .ok (.iload 4, 2) := dk_21 4 (dk_at dksX0_firstPartner_1 21 rfl rfl)
theorem dX0_firstPartner_45 : decode cX0_firstPartner 45 = .ok (.ishr, 1) := dk_122 (dk_at dksX0_firstPartner_1 23 rfl rfl)
theorem dX0_firstPartner_46 : decode cX0_firstPartner 46 = .ok (.iconst 1, 1) := dk_4 (dk_at dksX0_firstPartner_2 0 rfl rfl)
theorem dX0_firstPartner_47 : decode cX0_firstPartner 47 = .ok (.iand, 1) := dk_126 (dk_at dksX0_firstPartner_2 1 rfl rfl)
theorem dX0_firstPartner_48 : decode cX0_firstPartner 48 = .ok (.iconst 1, 1) := dk_4 (dk_at dksX0_firstPartner_2 2 rfl rfl)
theorem dX0_firstPartner_49 : decode cX0_firstPartner 49 = .ok (.if_icmp .ne 36, 3) := dk_160 0 36 (dk_at dksX0_firstPartner_2 3 rfl rfl)
theorem dX0_firstPartner_52 : decode cX0_firstPartner 52 = .ok (.iload 5, 2) := dk_21 5 (dk_at dksX0_firstPartner_2 6 rfl rfl)
theorem dX0_firstPartner_54 : decode cX0_firstPartner 54 = .ok (.ifCond .lt 31, 3) := dk_155 0 31 (dk_at dksX0_firstPartner_2 8 rfl rfl)
theorem dX0_firstPartner_57 : decode cX0_firstPartner 57 = .ok (.iload 5, 2) := dk_21 5 (dk_at dksX0_firstPartner_2 11 rfl rfl)
theorem dX0_firstPartner_59 : decode cX0_firstPartner 59 = .ok (.aload_n 0, 1) := dk_42 (dk_at dksX0_firstPartner_2 13 rfl rfl)
theorem dX0_firstPartner_60 : decode cX0_firstPartner 60 = .ok (.getfield 85, 3) := dk_180 0 85 (dk_at dksX0_firstPartner_2 14 rfl rfl)
theorem dX0_firstPartner_63 : decode cX0_firstPartner 63 = .ok (.iload_n 3, 1) := dk_29 (dk_at dksX0_firstPartner_2 17 rfl rfl)
theorem dX0_firstPartner_64 : decode cX0_firstPartner 64 = .ok (.iconst 1, 1) := dk_4 (dk_at dksX0_firstPartner_2 18 rfl rfl)
theorem dX0_firstPartner_65 : decode cX0_firstPartner 65 = .ok (.iload 4, 2) := dk_21 4 (dk_at dksX0_firstPartner_2 19 rfl rfl)
theorem dX0_firstPartner_67 : decode cX0_firstPartner 67 = .ok (.ishl, 1) := dk_120 (dk_at dksX0_firstPartner_2 21 rfl rfl)
theorem dX0_firstPartner_68 : decode cX0_firstPartner 68 = .ok (.iconst (-1), 1) := dk_2 (dk_at dksX0_firstPartner_2 22 rfl rfl)
theorem dX0_firstPartner_69 : decode cX0_firstPartner 69 = .ok (.ixor, 1) := dk_130 (dk_at dksX0_firstPartner_2 23 rfl rfl)
theorem dX0_firstPartner_70 : decode cX0_firstPartner 70 = .ok (.iand, 1) := dk_126 (dk_at dksX0_firstPartner_3 0 rfl rfl)
theorem dX0_firstPartner_71 : decode cX0_firstPartner 71 = .ok (.iaload, 1) := dk_46 (dk_at dksX0_firstPartner_3 1 rfl rfl)
theorem dX0_firstPartner_72 : decode cX0_firstPartner 72 = .ok (.iadd, 1) := dk_96 (dk_at dksX0_firstPartner_3 2 rfl rfl)
theorem dX0_firstPartner_73 : decode cX0_firstPartner 73 = .ok (.aload_n 0, 1) := dk_42 (dk_at dksX0_firstPartner_3 3 rfl rfl)
theorem dX0_firstPartner_74 : decode cX0_firstPartner 74 = .ok (.getfield 85, 3) := dk_180 0 85 (dk_at dksX0_firstPartner_3 4 rfl rfl)
theorem dX0_firstPartner_77 : decode cX0_firstPartner 77 = .ok (.iload_n 1, 1) := dk_27 (dk_at dksX0_firstPartner_3 7 rfl rfl)
theorem dX0_firstPartner_78 : decode cX0_firstPartner 78 = .ok (.iaload, 1) := dk_46 (dk_at dksX0_firstPartner_3 8 rfl rfl)
theorem dX0_firstPartner_79 : decode cX0_firstPartner 79 = .ok (.if_icmp .ne 6, 3) := dk_160 0 6 (dk_at dksX0_firstPartner_3 9 rfl rfl)
theorem dX0_firstPartner_82 : decode cX0_firstPartner 82 = .ok (.iload 4, 2) := dk_21 4 (dk_at dksX0_firstPartner_3 12 rfl rfl)
theorem dX0_firstPartner_84 : decode cX0_firstPartner 84 = .ok (.ireturn, 1) := dk_172 (dk_at dksX0_firstPartner_3 14 rfl rfl)
theorem dX0_firstPartner_85 : decode cX0_firstPartner 85 = .ok (.iinc 4 1, 3) := dk_132 4 1 (dk_at dksX0_firstPartner_3 15 rfl rfl)
theorem dX0_firstPartner_88 : decode cX0_firstPartner 88 = .ok (.goto (-72), 3) := dk_167 255 184 (dk_at dksX0_firstPartner_3 18 rfl rfl)
theorem dX0_firstPartner_91 : decode cX0_firstPartner 91 = .ok (.iconst (-1), 1) := dk_2 (dk_at dksX0_firstPartner_3 21 rfl rfl)
theorem dX0_firstPartner_92 : decode cX0_firstPartner 92 = .ok (.ireturn, 1) := dk_172 (dk_at dksX0_firstPartner_3 22 rfl rfl)
abbrev cX0_orNone : ByteArray := prog_1_method_2_code
def yX0_orNone : MethodName := ⟨RX0, "orNone", "(I)I"⟩
def dkwX0_orNone_0 : List UInt8 := [26, 156, 0, 8, 18, 3, 167, 0, 4, 26, 172]
abbrev dktX0_orNone_0 : List UInt8 := dkwX0_orNone_0 ++ []
theorem dksX0_orNone_0 : cX0_orNone.data.toList.drop 0 = dktX0_orNone_0 := by decide +kernel
theorem dX0_orNone_0 : decode cX0_orNone 0 = .ok (.iload_n 0, 1) := dk_26 (dk_at dksX0_orNone_0 0 rfl rfl)
theorem dX0_orNone_1 : decode cX0_orNone 1 = .ok (.ifCond .ge 8, 3) := dk_156 0 8 (dk_at dksX0_orNone_0 1 rfl rfl)
theorem dX0_orNone_4 : decode cX0_orNone 4 = .ok (.ldc 3, 2) := dk_18 3 (dk_at dksX0_orNone_0 4 rfl rfl)
theorem dX0_orNone_6 : decode cX0_orNone 6 = .ok (.goto 4, 3) := dk_167 0 4 (dk_at dksX0_orNone_0 6 rfl rfl)
theorem dX0_orNone_9 : decode cX0_orNone 9 = .ok (.iload_n 0, 1) := dk_26 (dk_at dksX0_orNone_0 9 rfl rfl)
theorem dX0_orNone_10 : decode cX0_orNone 10 = .ok (.ireturn, 1) := dk_172 (dk_at dksX0_orNone_0 10 rfl rfl)
abbrev cX0_adds : ByteArray := prog_1_method_28_code
def yX0_adds : MethodName := ⟨RX0, "adds", "(I)I"⟩
def dkwX0_adds_1 : List UInt8 := [182, 0, 198, 46, 42, 180, 0, 85, 42, 180, 0, 72, 182, 0, 198, 4, 27, 120, 2, 130, 126, 46, 100, 172]
abbrev dktX0_adds_1 : List UInt8 := dkwX0_adds_1 ++ []
def dkwX0_adds_0 : List UInt8 := [42, 27, 182, 0, 125, 154, 0, 6, 18, 135, 172, 42, 182, 0, 207, 42, 180, 0, 85, 42, 180, 0, 72]
abbrev dktX0_adds_0 : List UInt8 := dkwX0_adds_0 ++ dktX0_adds_1
theorem dksX0_adds_0 : cX0_adds.data.toList.drop 0 = dktX0_adds_0 := by decide +kernel
theorem dksX0_adds_1 : cX0_adds.data.toList.drop 23 = dktX0_adds_1 := dk_seg dksX0_adds_0 23 rfl rfl
theorem dX0_adds_0 : decode cX0_adds 0 = .ok (.aload_n 0, 1) := dk_42 (dk_at dksX0_adds_0 0 rfl rfl)
theorem dX0_adds_1 : decode cX0_adds 1 = .ok (.iload_n 1, 1) := dk_27 (dk_at dksX0_adds_0 1 rfl rfl)
theorem dX0_adds_2 : decode cX0_adds 2 = .ok (.invokevirtual 125, 3) := dk_182 0 125 (dk_at dksX0_adds_0 2 rfl rfl)
theorem dX0_adds_5 : decode cX0_adds 5 = .ok (.ifCond .ne 6, 3) := dk_154 0 6 (dk_at dksX0_adds_0 5 rfl rfl)
theorem dX0_adds_8 : decode cX0_adds 8 = .ok (.ldc 135, 2) := dk_18 135 (dk_at dksX0_adds_0 8 rfl rfl)
theorem dX0_adds_10 : decode cX0_adds 10 = .ok (.ireturn, 1) := dk_172 (dk_at dksX0_adds_0 10 rfl rfl)
theorem dX0_adds_11 : decode cX0_adds 11 = .ok (.aload_n 0, 1) := dk_42 (dk_at dksX0_adds_0 11 rfl rfl)
theorem dX0_adds_12 : decode cX0_adds 12 = .ok (.invokevirtual 207, 3) := dk_182 0 207 (dk_at dksX0_adds_0 12 rfl rfl)
theorem dX0_adds_15 : decode cX0_adds 15 = .ok (.aload_n 0, 1) := dk_42 (dk_at dksX0_adds_0 15 rfl rfl)
theorem dX0_adds_16 : decode cX0_adds 16 = .ok (.getfield 85, 3) := dk_180 0 85 (dk_at dksX0_adds_0 16 rfl rfl)
theorem dX0_adds_19 : decode cX0_adds 19 = .ok (.aload_n 0, 1) := dk_42 (dk_at dksX0_adds_0 19 rfl rfl)
theorem dX0_adds_20 : decode cX0_adds 20 = .ok (.getfield 72, 3) := dk_180 0 72 (dk_at dksX0_adds_0 20 rfl rfl)
theorem dX0_adds_23 : decode cX0_adds 23 = .ok (.invokevirtual 198, 3) := dk_182 0 198 (dk_at dksX0_adds_1 0 rfl rfl)
theorem dX0_adds_26 : decode cX0_adds 26 = .ok (.iaload, 1) := dk_46 (dk_at dksX0_adds_1 3 rfl rfl)
theorem dX0_adds_27 : decode cX0_adds 27 = .ok (.aload_n 0, 1) := dk_42 (dk_at dksX0_adds_1 4 rfl rfl)
theorem dX0_adds_28 : decode cX0_adds 28 = .ok (.getfield 85, 3) := dk_180 0 85 (dk_at dksX0_adds_1 5 rfl rfl)
theorem dX0_adds_31 : decode cX0_adds 31 = .ok (.aload_n 0, 1) := dk_42 (dk_at dksX0_adds_1 8 rfl rfl)
theorem dX0_adds_32 : decode cX0_adds 32 = .ok (.getfield 72, 3) := dk_180 0 72 (dk_at dksX0_adds_1 9 rfl rfl)
theorem dX0_adds_35 : decode cX0_adds 35 = .ok (.invokevirtual 198, 3) := dk_182 0 198 (dk_at dksX0_adds_1 12 rfl rfl)
theorem dX0_adds_38 : decode cX0_adds 38 = .ok (.iconst 1, 1) := dk_4 (dk_at dksX0_adds_1 15 rfl rfl)
theorem dX0_adds_39 : decode cX0_adds 39 = .ok (.iload_n 1, 1) := dk_27 (dk_at dksX0_adds_1 16 rfl rfl)
theorem dX0_adds_40 : decode cX0_adds 40 = .ok (.ishl, 1) := dk_120 (dk_at dksX0_adds_1 17 rfl rfl)
theorem dX0_adds_41 : decode cX0_adds 41 = .ok (.iconst (-1), 1) := dk_2 (dk_at dksX0_adds_1 18 rfl rfl)
theorem dX0_adds_42 : decode cX0_adds 42 = .ok (.ixor, 1) := dk_130 (dk_at dksX0_adds_1 19 rfl rfl)
theorem dX0_adds_43 : decode cX0_adds 43 = .ok (.iand, 1) := dk_126 (dk_at dksX0_adds_1 20 rfl rfl)
theorem dX0_adds_44 : decode cX0_adds 44 = .ok (.iaload, 1) := dk_46 (dk_at dksX0_adds_1 21 rfl rfl)
theorem dX0_adds_45 : decode cX0_adds 45 = .ok (.isub, 1) := dk_100 (dk_at dksX0_adds_1 22 rfl rfl)
theorem dX0_adds_46 : decode cX0_adds 46 = .ok (.ireturn, 1) := dk_172 (dk_at dksX0_adds_1 23 rfl rfl)
abbrev cX0_leaves : ByteArray := prog_1_method_31_code
def yX0_leaves : MethodName := ⟨RX0, "leaves", "(I)I"⟩
def dkwX0_leaves_9 : List UInt8 := [132, 4, 1, 167, 255, 182, 132, 3, 1, 167, 255, 160, 18, 3, 172]
abbrev dktX0_leaves_9 : List UInt8 := dkwX0_leaves_9 ++ []
def dkwX0_leaves_8 : List UInt8 := [164, 0, 22, 21, 5, 42, 21, 4, 182, 0, 235, 164, 0, 11, 16, 100, 29, 104, 21, 4, 96, 172]
abbrev dktX0_leaves_8 : List UInt8 := dkwX0_leaves_8 ++ dktX0_leaves_9
def dkwX0_leaves_7 : List UInt8 := [21, 5, 155, 0, 43, 42, 180, 0, 88, 29, 46, 21, 4, 159, 0, 32, 21, 5, 42, 29, 182, 0, 235]
abbrev dktX0_leaves_7 : List UInt8 := dkwX0_leaves_7 ++ dktX0_leaves_8
def dkwX0_leaves_6 : List UInt8 := [180, 0, 72, 180, 0, 118, 162, 0, 68, 42, 180, 0, 82, 16, 10, 29, 104, 21, 4, 96, 46, 54, 5]
abbrev dktX0_leaves_6 : List UInt8 := dkwX0_leaves_6 ++ dktX0_leaves_7
def dkwX0_leaves_5 : List UInt8 := [167, 255, 175, 3, 62, 29, 42, 180, 0, 72, 180, 0, 118, 162, 0, 91, 29, 4, 96, 54, 4, 21, 4, 42]
abbrev dktX0_leaves_5 : List UInt8 := dkwX0_leaves_5 ++ dktX0_leaves_6
def dkwX0_leaves_4 : List UInt8 := [54, 5, 42, 180, 0, 88, 29, 21, 5, 153, 0, 8, 21, 4, 167, 0, 4, 2, 79, 132, 3, 1]
abbrev dktX0_leaves_4 : List UInt8 := dkwX0_leaves_4 ++ dktX0_leaves_5
def dkwX0_leaves_3 : List UInt8 := [160, 0, 22, 42, 180, 0, 82, 16, 10, 29, 104, 21, 4, 96, 46, 155, 0, 7, 4, 167, 0, 4, 3]
abbrev dktX0_leaves_3 : List UInt8 := dkwX0_leaves_3 ++ dktX0_leaves_4
def dkwX0_leaves_2 : List UInt8 := [182, 0, 232, 54, 4, 42, 21, 4, 182, 0, 125, 153, 0, 33, 42, 44, 21, 4, 182, 0, 232, 29]
abbrev dktX0_leaves_2 : List UInt8 := dkwX0_leaves_2 ++ dktX0_leaves_3
def dkwX0_leaves_1 : List UInt8 := [18, 231, 172, 42, 182, 0, 195, 3, 62, 29, 42, 180, 0, 72, 180, 0, 118, 162, 0, 76, 42, 44, 29]
abbrev dktX0_leaves_1 : List UInt8 := dkwX0_leaves_1 ++ dktX0_leaves_2
def dkwX0_leaves_0 : List UInt8 := [27, 184, 0, 224, 154, 0, 6, 18, 135, 172, 42, 180, 0, 103, 27, 50, 180, 0, 227, 77, 44, 199, 0, 6]
abbrev dktX0_leaves_0 : List UInt8 := dkwX0_leaves_0 ++ dktX0_leaves_1
theorem dksX0_leaves_0 : cX0_leaves.data.toList.drop 0 = dktX0_leaves_0 := by decide +kernel
theorem dksX0_leaves_1 : cX0_leaves.data.toList.drop 24 = dktX0_leaves_1 := dk_seg dksX0_leaves_0 24 rfl rfl
theorem dksX0_leaves_2 : cX0_leaves.data.toList.drop 47 = dktX0_leaves_2 := dk_seg dksX0_leaves_1 23 rfl rfl
theorem dksX0_leaves_3 : cX0_leaves.data.toList.drop 69 = dktX0_leaves_3 := dk_seg dksX0_leaves_2 22 rfl rfl
theorem dksX0_leaves_4 : cX0_leaves.data.toList.drop 92 = dktX0_leaves_4 := dk_seg dksX0_leaves_3 23 rfl rfl
theorem dksX0_leaves_5 : cX0_leaves.data.toList.drop 114 = dktX0_leaves_5 := dk_seg dksX0_leaves_4 22 rfl rfl
theorem dksX0_leaves_6 : cX0_leaves.data.toList.drop 138 = dktX0_leaves_6 := dk_seg dksX0_leaves_5 24 rfl rfl
theorem dksX0_leaves_7 : cX0_leaves.data.toList.drop 161 = dktX0_leaves_7 := dk_seg dksX0_leaves_6 23 rfl rfl
theorem dksX0_leaves_8 : cX0_leaves.data.toList.drop 184 = dktX0_leaves_8 := dk_seg dksX0_leaves_7 23 rfl rfl
theorem dksX0_leaves_9 : cX0_leaves.data.toList.drop 206 = dktX0_leaves_9 := dk_seg dksX0_leaves_8 22 rfl rfl
theorem dX0_leaves_0 : decode cX0_leaves 0 = .ok (.iload_n 1, 1) := dk_27 (dk_at dksX0_leaves_0 0 rfl rfl)
theorem dX0_leaves_1 : decode cX0_leaves 1 = .ok (.invokestatic 224, 3) := dk_184 0 224 (dk_at dksX0_leaves_0 1 rfl rfl)
theorem dX0_leaves_4 : decode cX0_leaves 4 = .ok (.ifCond .ne 6, 3) := dk_154 0 6 (dk_at dksX0_leaves_0 4 rfl rfl)
theorem dX0_leaves_7 : decode cX0_leaves 7 = .ok (.ldc 135, 2) := dk_18 135 (dk_at dksX0_leaves_0 7 rfl rfl)
theorem dX0_leaves_9 : decode cX0_leaves 9 = .ok (.ireturn, 1) := dk_172 (dk_at dksX0_leaves_0 9 rfl rfl)
theorem dX0_leaves_10 : decode cX0_leaves 10 = .ok (.aload_n 0, 1) := dk_42 (dk_at dksX0_leaves_0 10 rfl rfl)
theorem dX0_leaves_11 : decode cX0_leaves 11 = .ok (.getfield 103, 3) := dk_180 0 103 (dk_at dksX0_leaves_0 11 rfl rfl)
theorem dX0_leaves_14 : decode cX0_leaves 14 = .ok (.iload_n 1, 1) := dk_27 (dk_at dksX0_leaves_0 14 rfl rfl)
theorem dX0_leaves_15 : decode cX0_leaves 15 = .ok (.aaload, 1) := dk_50 (dk_at dksX0_leaves_0 15 rfl rfl)
theorem dX0_leaves_16 : decode cX0_leaves 16 = .ok (.getfield 227, 3) := dk_180 0 227 (dk_at dksX0_leaves_0 16 rfl rfl)
theorem dX0_leaves_19 : decode cX0_leaves 19 = .ok (.astore_n 2, 1) := dk_77 (dk_at dksX0_leaves_0 19 rfl rfl)
theorem dX0_leaves_20 : decode cX0_leaves 20 = .ok (.aload_n 2, 1) := dk_44 (dk_at dksX0_leaves_0 20 rfl rfl)
theorem dX0_leaves_21 : decode cX0_leaves 21 = .ok (.ifnonnull 6, 3) := dk_199 0 6 (dk_at dksX0_leaves_0 21 rfl rfl)
theorem dX0_leaves_24 : decode cX0_leaves 24 = .ok (.ldc 231, 2) := dk_18 231 (dk_at dksX0_leaves_1 0 rfl rfl)
theorem dX0_leaves_26 : decode cX0_leaves 26 = .ok (.ireturn, 1) := dk_172 (dk_at dksX0_leaves_1 2 rfl rfl)
theorem dX0_leaves_27 : decode cX0_leaves 27 = .ok (.aload_n 0, 1) := dk_42 (dk_at dksX0_leaves_1 3 rfl rfl)
theorem dX0_leaves_28 : decode cX0_leaves 28 = .ok (.invokevirtual 195, 3) := dk_182 0 195 (dk_at dksX0_leaves_1 4 rfl rfl)
theorem dX0_leaves_31 : decode cX0_leaves 31 = .ok (.iconst 0, 1) := dk_3 (dk_at dksX0_leaves_1 7 rfl rfl)
theorem dX0_leaves_32 : decode cX0_leaves 32 = .ok (.istore_n 3, 1) := dk_62 (dk_at dksX0_leaves_1 8 rfl rfl)
theorem dX0_leaves_33 : decode cX0_leaves 33 = .ok (.iload_n 3, 1) := dk_29 (dk_at dksX0_leaves_1 9 rfl rfl)
theorem dX0_leaves_34 : decode cX0_leaves 34 = .ok (.aload_n 0, 1) := dk_42 (dk_at dksX0_leaves_1 10 rfl rfl)
theorem dX0_leaves_35 : decode cX0_leaves 35 = .ok (.getfield 72, 3) := dk_180 0 72 (dk_at dksX0_leaves_1 11 rfl rfl)
theorem dX0_leaves_38 : decode cX0_leaves 38 = .ok (.getfield 118, 3) := dk_180 0 118 (dk_at dksX0_leaves_1 14 rfl rfl)
theorem dX0_leaves_41 : decode cX0_leaves 41 = .ok (.if_icmp .ge 76, 3) := dk_162 0 76 (dk_at dksX0_leaves_1 17 rfl rfl)
theorem dX0_leaves_44 : decode cX0_leaves 44 = .ok (.aload_n 0, 1) := dk_42 (dk_at dksX0_leaves_1 20 rfl rfl)
theorem dX0_leaves_45 : decode cX0_leaves 45 = .ok (.aload_n 2, 1) := dk_44 (dk_at dksX0_leaves_1 21 rfl rfl)
theorem dX0_leaves_46 : decode cX0_leaves 46 = .ok (.iload_n 3, 1) := dk_29 (dk_at dksX0_leaves_1 22 rfl rfl)
theorem dX0_leaves_47 : decode cX0_leaves 47 = .ok (.invokevirtual 232, 3) := dk_182 0 232 (dk_at dksX0_leaves_2 0 rfl rfl)
theorem dX0_leaves_50 : decode cX0_leaves 50 = .ok (.istore 4, 2) := dk_54 4 (dk_at dksX0_leaves_2 3 rfl rfl)
theorem dX0_leaves_52 : decode cX0_leaves 52 = .ok (.aload_n 0, 1) := dk_42 (dk_at dksX0_leaves_2 5 rfl rfl)
theorem dX0_leaves_53 : decode cX0_leaves 53 = .ok (.iload 4, 2) := dk_21 4 (dk_at dksX0_leaves_2 6 rfl rfl)
theorem dX0_leaves_55 : decode cX0_leaves 55 = .ok (.invokevirtual 125, 3) := dk_182 0 125 (dk_at dksX0_leaves_2 8 rfl rfl)
theorem dX0_leaves_58 : decode cX0_leaves 58 = .ok (.ifCond .eq 33, 3) := dk_153 0 33 (dk_at dksX0_leaves_2 11 rfl rfl)
theorem dX0_leaves_61 : decode cX0_leaves 61 = .ok (.aload_n 0, 1) := dk_42 (dk_at dksX0_leaves_2 14 rfl rfl)
theorem dX0_leaves_62 : decode cX0_leaves 62 = .ok (.aload_n 2, 1) := dk_44 (dk_at dksX0_leaves_2 15 rfl rfl)
theorem dX0_leaves_63 : decode cX0_leaves 63 = .ok (.iload 4, 2) := dk_21 4 (dk_at dksX0_leaves_2 16 rfl rfl)
theorem dX0_leaves_65 : decode cX0_leaves 65 = .ok (.invokevirtual 232, 3) := dk_182 0 232 (dk_at dksX0_leaves_2 18 rfl rfl)
theorem dX0_leaves_68 : decode cX0_leaves 68 = .ok (.iload_n 3, 1) := dk_29 (dk_at dksX0_leaves_2 21 rfl rfl)
theorem dX0_leaves_69 : decode cX0_leaves 69 = .ok (.if_icmp .ne 22, 3) := dk_160 0 22 (dk_at dksX0_leaves_3 0 rfl rfl)
theorem dX0_leaves_72 : decode cX0_leaves 72 = .ok (.aload_n 0, 1) := dk_42 (dk_at dksX0_leaves_3 3 rfl rfl)
theorem dX0_leaves_73 : decode cX0_leaves 73 = .ok (.getfield 82, 3) := dk_180 0 82 (dk_at dksX0_leaves_3 4 rfl rfl)
theorem dX0_leaves_76 : decode cX0_leaves 76 = .ok (.bipush 10, 2) := dk_16 10 (dk_at dksX0_leaves_3 7 rfl rfl)
theorem dX0_leaves_78 : decode cX0_leaves 78 = .ok (.iload_n 3, 1) := dk_29 (dk_at dksX0_leaves_3 9 rfl rfl)
theorem dX0_leaves_79 : decode cX0_leaves 79 = .ok (.imul, 1) := dk_104 (dk_at dksX0_leaves_3 10 rfl rfl)
theorem dX0_leaves_80 : decode cX0_leaves 80 = .ok (.iload 4, 2) := dk_21 4 (dk_at dksX0_leaves_3 11 rfl rfl)
theorem dX0_leaves_82 : decode cX0_leaves 82 = .ok (.iadd, 1) := dk_96 (dk_at dksX0_leaves_3 13 rfl rfl)
theorem dX0_leaves_83 : decode cX0_leaves 83 = .ok (.iaload, 1) := dk_46 (dk_at dksX0_leaves_3 14 rfl rfl)
theorem dX0_leaves_84 : decode cX0_leaves 84 = .ok (.ifCond .lt 7, 3) := dk_155 0 7 (dk_at dksX0_leaves_3 15 rfl rfl)
theorem dX0_leaves_87 : decode cX0_leaves 87 = .ok (.iconst 1, 1) := dk_4 (dk_at dksX0_leaves_3 18 rfl rfl)
theorem dX0_leaves_88 : decode cX0_leaves 88 = .ok (.goto 4, 3) := dk_167 0 4 (dk_at dksX0_leaves_3 19 rfl rfl)
theorem dX0_leaves_91 : decode cX0_leaves 91 = .ok (.iconst 0, 1) := dk_3 (dk_at dksX0_leaves_3 22 rfl rfl)
theorem dX0_leaves_92 : decode cX0_leaves 92 = .ok (.istore 5, 2) := dk_54 5 (dk_at dksX0_leaves_4 0 rfl rfl)
theorem dX0_leaves_94 : decode cX0_leaves 94 = .ok (.aload_n 0, 1) := dk_42 (dk_at dksX0_leaves_4 2 rfl rfl)
theorem dX0_leaves_95 : decode cX0_leaves 95 = .ok (.getfield 88, 3) := dk_180 0 88 (dk_at dksX0_leaves_4 3 rfl rfl)
theorem dX0_leaves_98 : decode cX0_leaves 98 = .ok (.iload_n 3, 1) := dk_29 (dk_at dksX0_leaves_4 6 rfl rfl)
theorem dX0_leaves_99 : decode cX0_leaves 99 = .ok (.iload 5, 2) := dk_21 5 (dk_at dksX0_leaves_4 7 rfl rfl)
theorem dX0_leaves_101 : decode cX0_leaves 101 = .ok (.ifCond .eq 8, 3) := dk_153 0 8 (dk_at dksX0_leaves_4 9 rfl rfl)
theorem dX0_leaves_104 : decode cX0_leaves 104 = .ok (.iload 4, 2) := dk_21 4 (dk_at dksX0_leaves_4 12 rfl rfl)
theorem dX0_leaves_106 : decode cX0_leaves 106 = .ok (.goto 4, 3) := dk_167 0 4 (dk_at dksX0_leaves_4 14 rfl rfl)
theorem dX0_leaves_109 : decode cX0_leaves 109 = .ok (.iconst (-1), 1) := dk_2 (dk_at dksX0_leaves_4 17 rfl rfl)
theorem dX0_leaves_110 : decode cX0_leaves 110 = .ok (.iastore, 1) := dk_79 (dk_at dksX0_leaves_4 18 rfl rfl)
theorem dX0_leaves_111 : decode cX0_leaves 111 = .ok (.iinc 3 1, 3) := dk_132 3 1 (dk_at dksX0_leaves_4 19 rfl rfl)
theorem dX0_leaves_114 : decode cX0_leaves 114 = .ok (.goto (-81), 3) := dk_167 255 175 (dk_at dksX0_leaves_5 0 rfl rfl)
theorem dX0_leaves_117 : decode cX0_leaves 117 = .ok (.iconst 0, 1) := dk_3 (dk_at dksX0_leaves_5 3 rfl rfl)
theorem dX0_leaves_118 : decode cX0_leaves 118 = .ok (.istore_n 3, 1) := dk_62 (dk_at dksX0_leaves_5 4 rfl rfl)
theorem dX0_leaves_119 : decode cX0_leaves 119 = .ok (.iload_n 3, 1) := dk_29 (dk_at dksX0_leaves_5 5 rfl rfl)
theorem dX0_leaves_120 : decode cX0_leaves 120 = .ok (.aload_n 0, 1) := dk_42 (dk_at dksX0_leaves_5 6 rfl rfl)
theorem dX0_leaves_121 : decode cX0_leaves 121 = .ok (.getfield 72, 3) := dk_180 0 72 (dk_at dksX0_leaves_5 7 rfl rfl)
theorem dX0_leaves_124 : decode cX0_leaves 124 = .ok (.getfield 118, 3) := dk_180 0 118 (dk_at dksX0_leaves_5 10 rfl rfl)
theorem dX0_leaves_127 : decode cX0_leaves 127 = .ok (.if_icmp .ge 91, 3) := dk_162 0 91 (dk_at dksX0_leaves_5 13 rfl rfl)
theorem dX0_leaves_130 : decode cX0_leaves 130 = .ok (.iload_n 3, 1) := dk_29 (dk_at dksX0_leaves_5 16 rfl rfl)
theorem dX0_leaves_131 : decode cX0_leaves 131 = .ok (.iconst 1, 1) := dk_4 (dk_at dksX0_leaves_5 17 rfl rfl)
theorem dX0_leaves_132 : decode cX0_leaves 132 = .ok (.iadd, 1) := dk_96 (dk_at dksX0_leaves_5 18 rfl rfl)
theorem dX0_leaves_133 : decode cX0_leaves 133 = .ok (.istore 4, 2) := dk_54 4 (dk_at dksX0_leaves_5 19 rfl rfl)
theorem dX0_leaves_135 : decode cX0_leaves 135 = .ok (.iload 4, 2) := dk_21 4 (dk_at dksX0_leaves_5 21 rfl rfl)
theorem dX0_leaves_137 : decode cX0_leaves 137 = .ok (.aload_n 0, 1) := dk_42 (dk_at dksX0_leaves_5 23 rfl rfl)
theorem dX0_leaves_138 : decode cX0_leaves 138 = .ok (.getfield 72, 3) := dk_180 0 72 (dk_at dksX0_leaves_6 0 rfl rfl)
theorem dX0_leaves_141 : decode cX0_leaves 141 = .ok (.getfield 118, 3) := dk_180 0 118 (dk_at dksX0_leaves_6 3 rfl rfl)
theorem dX0_leaves_144 : decode cX0_leaves 144 = .ok (.if_icmp .ge 68, 3) := dk_162 0 68 (dk_at dksX0_leaves_6 6 rfl rfl)
theorem dX0_leaves_147 : decode cX0_leaves 147 = .ok (.aload_n 0, 1) := dk_42 (dk_at dksX0_leaves_6 9 rfl rfl)
theorem dX0_leaves_148 : decode cX0_leaves 148 = .ok (.getfield 82, 3) := dk_180 0 82 (dk_at dksX0_leaves_6 10 rfl rfl)
theorem dX0_leaves_151 : decode cX0_leaves 151 = .ok (.bipush 10, 2) := dk_16 10 (dk_at dksX0_leaves_6 13 rfl rfl)
theorem dX0_leaves_153 : decode cX0_leaves 153 = .ok (.iload_n 3, 1) := dk_29 (dk_at dksX0_leaves_6 15 rfl rfl)
theorem dX0_leaves_154 : decode cX0_leaves 154 = .ok (.imul, 1) := dk_104 (dk_at dksX0_leaves_6 16 rfl rfl)
theorem dX0_leaves_155 : decode cX0_leaves 155 = .ok (.iload 4, 2) := dk_21 4 (dk_at dksX0_leaves_6 17 rfl rfl)
theorem dX0_leaves_157 : decode cX0_leaves 157 = .ok (.iadd, 1) := dk_96 (dk_at dksX0_leaves_6 19 rfl rfl)
theorem dX0_leaves_158 : decode cX0_leaves 158 = .ok (.iaload, 1) := dk_46 (dk_at dksX0_leaves_6 20 rfl rfl)
theorem dX0_leaves_159 : decode cX0_leaves 159 = .ok (.istore 5, 2) := dk_54 5 (dk_at dksX0_leaves_6 21 rfl rfl)
theorem dX0_leaves_161 : decode cX0_leaves 161 = .ok (.iload 5, 2) := dk_21 5 (dk_at dksX0_leaves_7 0 rfl rfl)
theorem dX0_leaves_163 : decode cX0_leaves 163 = .ok (.ifCond .lt 43, 3) := dk_155 0 43 (dk_at dksX0_leaves_7 2 rfl rfl)
theorem dX0_leaves_166 : decode cX0_leaves 166 = .ok (.aload_n 0, 1) := dk_42 (dk_at dksX0_leaves_7 5 rfl rfl)
theorem dX0_leaves_167 : decode cX0_leaves 167 = .ok (.getfield 88, 3) := dk_180 0 88 (dk_at dksX0_leaves_7 6 rfl rfl)
theorem dX0_leaves_170 : decode cX0_leaves 170 = .ok (.iload_n 3, 1) := dk_29 (dk_at dksX0_leaves_7 9 rfl rfl)
theorem dX0_leaves_171 : decode cX0_leaves 171 = .ok (.iaload, 1) := dk_46 (dk_at dksX0_leaves_7 10 rfl rfl)
theorem dX0_leaves_172 : decode cX0_leaves 172 = .ok (.iload 4, 2) := dk_21 4 (dk_at dksX0_leaves_7 11 rfl rfl)
theorem dX0_leaves_174 : decode cX0_leaves 174 = .ok (.if_icmp .eq 32, 3) := dk_159 0 32 (dk_at dksX0_leaves_7 13 rfl rfl)
theorem dX0_leaves_177 : decode cX0_leaves 177 = .ok (.iload 5, 2) := dk_21 5 (dk_at dksX0_leaves_7 16 rfl rfl)
theorem dX0_leaves_179 : decode cX0_leaves 179 = .ok (.aload_n 0, 1) := dk_42 (dk_at dksX0_leaves_7 18 rfl rfl)
theorem dX0_leaves_180 : decode cX0_leaves 180 = .ok (.iload_n 3, 1) := dk_29 (dk_at dksX0_leaves_7 19 rfl rfl)
theorem dX0_leaves_181 : decode cX0_leaves 181 = .ok (.invokevirtual 235, 3) := dk_182 0 235 (dk_at dksX0_leaves_7 20 rfl rfl)
theorem dX0_leaves_184 : decode cX0_leaves 184 = .ok (.if_icmp .le 22, 3) := dk_164 0 22 (dk_at dksX0_leaves_8 0 rfl rfl)
theorem dX0_leaves_187 : decode cX0_leaves 187 = .ok (.iload 5, 2) := dk_21 5 (dk_at dksX0_leaves_8 3 rfl rfl)
theorem dX0_leaves_189 : decode cX0_leaves 189 = .ok (.aload_n 0, 1) := dk_42 (dk_at dksX0_leaves_8 5 rfl rfl)
theorem dX0_leaves_190 : decode cX0_leaves 190 = .ok (.iload 4, 2) := dk_21 4 (dk_at dksX0_leaves_8 6 rfl rfl)
theorem dX0_leaves_192 : decode cX0_leaves 192 = .ok (.invokevirtual 235, 3) := dk_182 0 235 (dk_at dksX0_leaves_8 8 rfl rfl)
theorem dX0_leaves_195 : decode cX0_leaves 195 = .ok (.if_icmp .le 11, 3) := dk_164 0 11 (dk_at dksX0_leaves_8 11 rfl rfl)
theorem dX0_leaves_198 : decode cX0_leaves 198 = .ok (.bipush 100, 2) := dk_16 100 (dk_at dksX0_leaves_8 14 rfl rfl)
theorem dX0_leaves_200 : decode cX0_leaves 200 = .ok (.iload_n 3, 1) := dk_29 (dk_at dksX0_leaves_8 16 rfl rfl)
theorem dX0_leaves_201 : decode cX0_leaves 201 = .ok (.imul, 1) := dk_104 (dk_at dksX0_leaves_8 17 rfl rfl)
theorem dX0_leaves_202 : decode cX0_leaves 202 = .ok (.iload 4, 2) := dk_21 4 (dk_at dksX0_leaves_8 18 rfl rfl)
theorem dX0_leaves_204 : decode cX0_leaves 204 = .ok (.iadd, 1) := dk_96 (dk_at dksX0_leaves_8 20 rfl rfl)
theorem dX0_leaves_205 : decode cX0_leaves 205 = .ok (.ireturn, 1) := dk_172 (dk_at dksX0_leaves_8 21 rfl rfl)
theorem dX0_leaves_206 : decode cX0_leaves 206 = .ok (.iinc 4 1, 3) := dk_132 4 1 (dk_at dksX0_leaves_9 0 rfl rfl)
theorem dX0_leaves_209 : decode cX0_leaves 209 = .ok (.goto (-74), 3) := dk_167 255 182 (dk_at dksX0_leaves_9 3 rfl rfl)
theorem dX0_leaves_212 : decode cX0_leaves 212 = .ok (.iinc 3 1, 3) := dk_132 3 1 (dk_at dksX0_leaves_9 6 rfl rfl)
theorem dX0_leaves_215 : decode cX0_leaves 215 = .ok (.goto (-96), 3) := dk_167 255 160 (dk_at dksX0_leaves_9 9 rfl rfl)
theorem dX0_leaves_218 : decode cX0_leaves 218 = .ok (.ldc 3, 2) := dk_18 3 (dk_at dksX0_leaves_9 12 rfl rfl)
theorem dX0_leaves_220 : decode cX0_leaves 220 = .ok (.ireturn, 1) := dk_172 (dk_at dksX0_leaves_9 14 rfl rfl)
abbrev cX0_isSheet : ByteArray := prog_1_method_67_code
def yX0_isSheet : MethodName := ⟨RX0, "isSheet", "(I)Z"⟩
def dkwX0_isSheet_0 : List UInt8 := [26, 133, 9, 20, 1, 175, 184, 0, 121, 172]
abbrev dktX0_isSheet_0 : List UInt8 := dkwX0_isSheet_0 ++ []
theorem dksX0_isSheet_0 : cX0_isSheet.data.toList.drop 0 = dktX0_isSheet_0 := by decide +kernel
theorem dX0_isSheet_0 : decode cX0_isSheet 0 = .ok (.iload_n 0, 1) := dk_26 (dk_at dksX0_isSheet_0 0 rfl rfl)
theorem dX0_isSheet_1 : decode cX0_isSheet 1 = .ok (.i2l, 1) := dk_133 (dk_at dksX0_isSheet_0 1 rfl rfl)
theorem dX0_isSheet_2 : decode cX0_isSheet 2 = .ok (.lconst 0, 1) := dk_9 (dk_at dksX0_isSheet_0 2 rfl rfl)
theorem dX0_isSheet_3 : decode cX0_isSheet 3 = .ok (.ldc2_w 431, 3) := dk_20 1 175 (dk_at dksX0_isSheet_0 3 rfl rfl)
theorem dX0_isSheet_6 : decode cX0_isSheet 6 = .ok (.invokestatic 121, 3) := dk_184 0 121 (dk_at dksX0_isSheet_0 6 rfl rfl)
theorem dX0_isSheet_9 : decode cX0_isSheet 9 = .ok (.ireturn, 1) := dk_172 (dk_at dksX0_isSheet_0 9 rfl rfl)
abbrev cX0_toldBy : ByteArray := prog_1_method_29_code
def yX0_toldBy : MethodName := ⟨RX0, "toldBy", "(Ljava/lang/Object;I)I"⟩
def dkwX0_toldBy_0 : List UInt8 := [28, 43, 184, 0, 216, 162, 0, 11, 43, 28, 184, 0, 220, 167, 0, 5, 18, 3, 172]
abbrev dktX0_toldBy_0 : List UInt8 := dkwX0_toldBy_0 ++ []
theorem dksX0_toldBy_0 : cX0_toldBy.data.toList.drop 0 = dktX0_toldBy_0 := by decide +kernel
theorem dX0_toldBy_0 : decode cX0_toldBy 0 = .ok (.iload_n 2, 1) := dk_28 (dk_at dksX0_toldBy_0 0 rfl rfl)
theorem dX0_toldBy_1 : decode cX0_toldBy 1 = .ok (.aload_n 1, 1) := dk_43 (dk_at dksX0_toldBy_0 1 rfl rfl)
theorem dX0_toldBy_2 : decode cX0_toldBy 2 = .ok (.invokestatic 216, 3) := dk_184 0 216 (dk_at dksX0_toldBy_0 2 rfl rfl)
theorem dX0_toldBy_5 : decode cX0_toldBy 5 = .ok (.if_icmp .ge 11, 3) := dk_162 0 11 (dk_at dksX0_toldBy_0 5 rfl rfl)
theorem dX0_toldBy_8 : decode cX0_toldBy 8 = .ok (.aload_n 1, 1) := dk_43 (dk_at dksX0_toldBy_0 8 rfl rfl)
theorem dX0_toldBy_9 : decode cX0_toldBy 9 = .ok (.iload_n 2, 1) := dk_28 (dk_at dksX0_toldBy_0 9 rfl rfl)
theorem dX0_toldBy_10 : decode cX0_toldBy 10 = .ok (.invokestatic 220, 3) := dk_184 0 220 (dk_at dksX0_toldBy_0 10 rfl rfl)
theorem dX0_toldBy_13 : decode cX0_toldBy 13 = .ok (.goto 5, 3) := dk_167 0 5 (dk_at dksX0_toldBy_0 13 rfl rfl)
theorem dX0_toldBy_16 : decode cX0_toldBy 16 = .ok (.ldc 3, 2) := dk_18 3 (dk_at dksX0_toldBy_0 16 rfl rfl)
theorem dX0_toldBy_18 : decode cX0_toldBy 18 = .ok (.ireturn, 1) := dk_172 (dk_at dksX0_toldBy_0 18 rfl rfl)
abbrev cX0_lengthOf : ByteArray := prog_1_method_69_code
def yX0_lengthOf : MethodName := ⟨RX0, "lengthOf", "(Ljava/lang/Object;)I"⟩
def dkwX0_lengthOf_0 : List UInt8 := [42, 193, 1, 177, 153, 0, 11, 42, 192, 1, 177, 190, 167, 0, 8, 42, 192, 1, 179, 190, 172]
abbrev dktX0_lengthOf_0 : List UInt8 := dkwX0_lengthOf_0 ++ []
theorem dksX0_lengthOf_0 : cX0_lengthOf.data.toList.drop 0 = dktX0_lengthOf_0 := by decide +kernel
theorem dX0_lengthOf_0 : decode cX0_lengthOf 0 = .ok (.aload_n 0, 1) := dk_42 (dk_at dksX0_lengthOf_0 0 rfl rfl)
theorem dX0_lengthOf_1 : decode cX0_lengthOf 1 = .ok (.instanceof 433, 3) := dk_193 1 177 (dk_at dksX0_lengthOf_0 1 rfl rfl)
theorem dX0_lengthOf_4 : decode cX0_lengthOf 4 = .ok (.ifCond .eq 11, 3) := dk_153 0 11 (dk_at dksX0_lengthOf_0 4 rfl rfl)
theorem dX0_lengthOf_7 : decode cX0_lengthOf 7 = .ok (.aload_n 0, 1) := dk_42 (dk_at dksX0_lengthOf_0 7 rfl rfl)
theorem dX0_lengthOf_8 : decode cX0_lengthOf 8 = .ok (.checkcast 433, 3) := dk_192 1 177 (dk_at dksX0_lengthOf_0 8 rfl rfl)
theorem dX0_lengthOf_11 : decode cX0_lengthOf 11 = .ok (.arraylength, 1) := dk_190 (dk_at dksX0_lengthOf_0 11 rfl rfl)
theorem dX0_lengthOf_12 : decode cX0_lengthOf 12 = .ok (.goto 8, 3) := dk_167 0 8 (dk_at dksX0_lengthOf_0 12 rfl rfl)
theorem dX0_lengthOf_15 : decode cX0_lengthOf 15 = .ok (.aload_n 0, 1) := dk_42 (dk_at dksX0_lengthOf_0 15 rfl rfl)
theorem dX0_lengthOf_16 : decode cX0_lengthOf 16 = .ok (.checkcast 435, 3) := dk_192 1 179 (dk_at dksX0_lengthOf_0 16 rfl rfl)
theorem dX0_lengthOf_19 : decode cX0_lengthOf 19 = .ok (.arraylength, 1) := dk_190 (dk_at dksX0_lengthOf_0 19 rfl rfl)
theorem dX0_lengthOf_20 : decode cX0_lengthOf 20 = .ok (.ireturn, 1) := dk_172 (dk_at dksX0_lengthOf_0 20 rfl rfl)
abbrev cX0_numberAt : ByteArray := prog_1_method_70_code
def yX0_numberAt : MethodName := ⟨RX0, "numberAt", "(Ljava/lang/Object;I)I"⟩
def dkwX0_numberAt_1 : List UInt8 := [153, 0, 8, 18, 3, 167, 0, 5, 36, 139, 172]
abbrev dktX0_numberAt_1 : List UInt8 := dkwX0_numberAt_1 ++ []
def dkwX0_numberAt_0 : List UInt8 := [42, 193, 1, 177, 153, 0, 10, 42, 192, 1, 177, 27, 53, 172, 42, 192, 1, 179, 27, 48, 69, 36, 36, 149]
abbrev dktX0_numberAt_0 : List UInt8 := dkwX0_numberAt_0 ++ dktX0_numberAt_1
theorem dksX0_numberAt_0 : cX0_numberAt.data.toList.drop 0 = dktX0_numberAt_0 := by decide +kernel
theorem dksX0_numberAt_1 : cX0_numberAt.data.toList.drop 24 = dktX0_numberAt_1 := dk_seg dksX0_numberAt_0 24 rfl rfl
theorem dX0_numberAt_0 : decode cX0_numberAt 0 = .ok (.aload_n 0, 1) := dk_42 (dk_at dksX0_numberAt_0 0 rfl rfl)
theorem dX0_numberAt_1 : decode cX0_numberAt 1 = .ok (.instanceof 433, 3) := dk_193 1 177 (dk_at dksX0_numberAt_0 1 rfl rfl)
theorem dX0_numberAt_4 : decode cX0_numberAt 4 = .ok (.ifCond .eq 10, 3) := dk_153 0 10 (dk_at dksX0_numberAt_0 4 rfl rfl)
theorem dX0_numberAt_7 : decode cX0_numberAt 7 = .ok (.aload_n 0, 1) := dk_42 (dk_at dksX0_numberAt_0 7 rfl rfl)
theorem dX0_numberAt_8 : decode cX0_numberAt 8 = .ok (.checkcast 433, 3) := dk_192 1 177 (dk_at dksX0_numberAt_0 8 rfl rfl)
theorem dX0_numberAt_11 : decode cX0_numberAt 11 = .ok (.iload_n 1, 1) := dk_27 (dk_at dksX0_numberAt_0 11 rfl rfl)
theorem dX0_numberAt_12 : decode cX0_numberAt 12 = .ok (.saload, 1) := dk_53 (dk_at dksX0_numberAt_0 12 rfl rfl)
theorem dX0_numberAt_13 : decode cX0_numberAt 13 = .ok (.ireturn, 1) := dk_172 (dk_at dksX0_numberAt_0 13 rfl rfl)
theorem dX0_numberAt_14 : decode cX0_numberAt 14 = .ok (.aload_n 0, 1) := dk_42 (dk_at dksX0_numberAt_0 14 rfl rfl)
theorem dX0_numberAt_15 : decode cX0_numberAt 15 = .ok (.checkcast 435, 3) := dk_192 1 179 (dk_at dksX0_numberAt_0 15 rfl rfl)
theorem dX0_numberAt_18 : decode cX0_numberAt 18 = .ok (.iload_n 1, 1) := dk_27 (dk_at dksX0_numberAt_0 18 rfl rfl)
theorem dX0_numberAt_19 : decode cX0_numberAt 19 = .ok (.faload, 1) := dk_48 (dk_at dksX0_numberAt_0 19 rfl rfl)
theorem dX0_numberAt_20 : decode cX0_numberAt 20 = .ok (.fstore_n 2, 1) := dk_69 (dk_at dksX0_numberAt_0 20 rfl rfl)
theorem dX0_numberAt_21 : decode cX0_numberAt 21 = .ok (.fload_n 2, 1) := dk_36 (dk_at dksX0_numberAt_0 21 rfl rfl)
theorem dX0_numberAt_22 : decode cX0_numberAt 22 = .ok (.fload_n 2, 1) := dk_36 (dk_at dksX0_numberAt_0 22 rfl rfl)
theorem dX0_numberAt_23 : decode cX0_numberAt 23 = .ok (.fcmp .l, 1) := dk_149 (dk_at dksX0_numberAt_0 23 rfl rfl)
theorem dX0_numberAt_24 : decode cX0_numberAt 24 = .ok (.ifCond .eq 8, 3) := dk_153 0 8 (dk_at dksX0_numberAt_1 0 rfl rfl)
theorem dX0_numberAt_27 : decode cX0_numberAt 27 = .ok (.ldc 3, 2) := dk_18 3 (dk_at dksX0_numberAt_1 3 rfl rfl)
theorem dX0_numberAt_29 : decode cX0_numberAt 29 = .ok (.goto 5, 3) := dk_167 0 5 (dk_at dksX0_numberAt_1 5 rfl rfl)
theorem dX0_numberAt_32 : decode cX0_numberAt 32 = .ok (.fload_n 2, 1) := dk_36 (dk_at dksX0_numberAt_1 8 rfl rfl)
theorem dX0_numberAt_33 : decode cX0_numberAt 33 = .ok (.f2i, 1) := dk_139 (dk_at dksX0_numberAt_1 9 rfl rfl)
theorem dX0_numberAt_34 : decode cX0_numberAt 34 = .ok (.ireturn, 1) := dk_172 (dk_at dksX0_numberAt_1 10 rfl rfl)
abbrev cX0_hasBy : ByteArray := prog_1_method_30_code
def yX0_hasBy : MethodName := ⟨RX0, "hasBy", "(I)I"⟩
def dkwX0_hasBy_1 : List UInt8 := [180, 0, 88, 27, 46, 96, 46, 172]
abbrev dktX0_hasBy_1 : List UInt8 := dkwX0_hasBy_1 ++ []
def dkwX0_hasBy_0 : List UInt8 := [42, 180, 0, 88, 27, 46, 156, 0, 7, 3, 167, 0, 19, 42, 180, 0, 82, 16, 10, 27, 104, 42]
abbrev dktX0_hasBy_0 : List UInt8 := dkwX0_hasBy_0 ++ dktX0_hasBy_1
theorem dksX0_hasBy_0 : cX0_hasBy.data.toList.drop 0 = dktX0_hasBy_0 := by decide +kernel
theorem dksX0_hasBy_1 : cX0_hasBy.data.toList.drop 22 = dktX0_hasBy_1 := dk_seg dksX0_hasBy_0 22 rfl rfl
theorem dX0_hasBy_0 : decode cX0_hasBy 0 = .ok (.aload_n 0, 1) := dk_42 (dk_at dksX0_hasBy_0 0 rfl rfl)
theorem dX0_hasBy_1 : decode cX0_hasBy 1 = .ok (.getfield 88, 3) := dk_180 0 88 (dk_at dksX0_hasBy_0 1 rfl rfl)
theorem dX0_hasBy_4 : decode cX0_hasBy 4 = .ok (.iload_n 1, 1) := dk_27 (dk_at dksX0_hasBy_0 4 rfl rfl)
theorem dX0_hasBy_5 : decode cX0_hasBy 5 = .ok (.iaload, 1) := dk_46 (dk_at dksX0_hasBy_0 5 rfl rfl)
theorem dX0_hasBy_6 : decode cX0_hasBy 6 = .ok (.ifCond .ge 7, 3) := dk_156 0 7 (dk_at dksX0_hasBy_0 6 rfl rfl)
theorem dX0_hasBy_9 : decode cX0_hasBy 9 = .ok (.iconst 0, 1) := dk_3 (dk_at dksX0_hasBy_0 9 rfl rfl)
theorem dX0_hasBy_10 : decode cX0_hasBy 10 = .ok (.goto 19, 3) := dk_167 0 19 (dk_at dksX0_hasBy_0 10 rfl rfl)
theorem dX0_hasBy_13 : decode cX0_hasBy 13 = .ok (.aload_n 0, 1) := dk_42 (dk_at dksX0_hasBy_0 13 rfl rfl)
theorem dX0_hasBy_14 : decode cX0_hasBy 14 = .ok (.getfield 82, 3) := dk_180 0 82 (dk_at dksX0_hasBy_0 14 rfl rfl)
theorem dX0_hasBy_17 : decode cX0_hasBy 17 = .ok (.bipush 10, 2) := dk_16 10 (dk_at dksX0_hasBy_0 17 rfl rfl)
theorem dX0_hasBy_19 : decode cX0_hasBy 19 = .ok (.iload_n 1, 1) := dk_27 (dk_at dksX0_hasBy_0 19 rfl rfl)
theorem dX0_hasBy_20 : decode cX0_hasBy 20 = .ok (.imul, 1) := dk_104 (dk_at dksX0_hasBy_0 20 rfl rfl)
theorem dX0_hasBy_21 : decode cX0_hasBy 21 = .ok (.aload_n 0, 1) := dk_42 (dk_at dksX0_hasBy_0 21 rfl rfl)
theorem dX0_hasBy_22 : decode cX0_hasBy 22 = .ok (.getfield 88, 3) := dk_180 0 88 (dk_at dksX0_hasBy_1 0 rfl rfl)
theorem dX0_hasBy_25 : decode cX0_hasBy 25 = .ok (.iload_n 1, 1) := dk_27 (dk_at dksX0_hasBy_1 3 rfl rfl)
theorem dX0_hasBy_26 : decode cX0_hasBy 26 = .ok (.iaload, 1) := dk_46 (dk_at dksX0_hasBy_1 4 rfl rfl)
theorem dX0_hasBy_27 : decode cX0_hasBy 27 = .ok (.iadd, 1) := dk_96 (dk_at dksX0_hasBy_1 5 rfl rfl)
theorem dX0_hasBy_28 : decode cX0_hasBy 28 = .ok (.iaload, 1) := dk_46 (dk_at dksX0_hasBy_1 6 rfl rfl)
theorem dX0_hasBy_29 : decode cX0_hasBy 29 = .ok (.ireturn, 1) := dk_172 (dk_at dksX0_hasBy_1 7 rfl rfl)
abbrev cX0_loss : ByteArray := prog_1_method_32_code
def yX0_loss : MethodName := ⟨RX0, "loss", "(I)I"⟩
def dkwX0_loss_1 : List UInt8 := [180, 0, 72, 27, 181, 0, 240, 28, 172]
abbrev dktX0_loss_1 : List UInt8 := dkwX0_loss_1 ++ []
def dkwX0_loss_0 : List UInt8 := [27, 133, 9, 20, 0, 238, 184, 0, 121, 154, 0, 6, 18, 135, 172, 42, 180, 0, 72, 180, 0, 240, 61, 42]
abbrev dktX0_loss_0 : List UInt8 := dkwX0_loss_0 ++ dktX0_loss_1
theorem dksX0_loss_0 : cX0_loss.data.toList.drop 0 = dktX0_loss_0 := by decide +kernel
theorem dksX0_loss_1 : cX0_loss.data.toList.drop 24 = dktX0_loss_1 := dk_seg dksX0_loss_0 24 rfl rfl
theorem dX0_loss_0 : decode cX0_loss 0 = .ok (.iload_n 1, 1) := dk_27 (dk_at dksX0_loss_0 0 rfl rfl)
theorem dX0_loss_1 : decode cX0_loss 1 = .ok (.i2l, 1) := dk_133 (dk_at dksX0_loss_0 1 rfl rfl)
theorem dX0_loss_2 : decode cX0_loss 2 = .ok (.lconst 0, 1) := dk_9 (dk_at dksX0_loss_0 2 rfl rfl)
theorem dX0_loss_3 : decode cX0_loss 3 = .ok (.ldc2_w 238, 3) := dk_20 0 238 (dk_at dksX0_loss_0 3 rfl rfl)
theorem dX0_loss_6 : decode cX0_loss 6 = .ok (.invokestatic 121, 3) := dk_184 0 121 (dk_at dksX0_loss_0 6 rfl rfl)
theorem dX0_loss_9 : decode cX0_loss 9 = .ok (.ifCond .ne 6, 3) := dk_154 0 6 (dk_at dksX0_loss_0 9 rfl rfl)
theorem dX0_loss_12 : decode cX0_loss 12 = .ok (.ldc 135, 2) := dk_18 135 (dk_at dksX0_loss_0 12 rfl rfl)
theorem dX0_loss_14 : decode cX0_loss 14 = .ok (.ireturn, 1) := dk_172 (dk_at dksX0_loss_0 14 rfl rfl)
theorem dX0_loss_15 : decode cX0_loss 15 = .ok (.aload_n 0, 1) := dk_42 (dk_at dksX0_loss_0 15 rfl rfl)
theorem dX0_loss_16 : decode cX0_loss 16 = .ok (.getfield 72, 3) := dk_180 0 72 (dk_at dksX0_loss_0 16 rfl rfl)
theorem dX0_loss_19 : decode cX0_loss 19 = .ok (.getfield 240, 3) := dk_180 0 240 (dk_at dksX0_loss_0 19 rfl rfl)
theorem dX0_loss_22 : decode cX0_loss 22 = .ok (.istore_n 2, 1) := dk_61 (dk_at dksX0_loss_0 22 rfl rfl)
theorem dX0_loss_23 : decode cX0_loss 23 = .ok (.aload_n 0, 1) := dk_42 (dk_at dksX0_loss_0 23 rfl rfl)
theorem dX0_loss_24 : decode cX0_loss 24 = .ok (.getfield 72, 3) := dk_180 0 72 (dk_at dksX0_loss_1 0 rfl rfl)
theorem dX0_loss_27 : decode cX0_loss 27 = .ok (.iload_n 1, 1) := dk_27 (dk_at dksX0_loss_1 3 rfl rfl)
theorem dX0_loss_28 : decode cX0_loss 28 = .ok (.putfield 240, 3) := dk_181 0 240 (dk_at dksX0_loss_1 4 rfl rfl)
theorem dX0_loss_31 : decode cX0_loss 31 = .ok (.iload_n 2, 1) := dk_28 (dk_at dksX0_loss_1 7 rfl rfl)
theorem dX0_loss_32 : decode cX0_loss 32 = .ok (.ireturn, 1) := dk_172 (dk_at dksX0_loss_1 8 rfl rfl)
abbrev cX0_days : ByteArray := prog_1_method_33_code
def yX0_days : MethodName := ⟨RX0, "days", "(I)I"⟩
def dkwX0_days_2 : List UInt8 := [182, 0, 249, 132, 3, 1, 167, 255, 227, 42, 180, 0, 72, 182, 0, 243, 28, 100, 172]
abbrev dktX0_days_2 : List UInt8 := dkwX0_days_2 ++ []
def dkwX0_days_1 : List UInt8 := [62, 29, 27, 162, 0, 30, 42, 180, 0, 72, 180, 0, 246, 17, 39, 15, 162, 0, 17, 42, 180, 0, 72, 2]
abbrev dktX0_days_1 : List UInt8 := dkwX0_days_1 ++ dktX0_days_2
def dkwX0_days_0 : List UInt8 := [27, 133, 10, 20, 0, 238, 184, 0, 121, 154, 0, 6, 18, 135, 172, 42, 180, 0, 72, 182, 0, 243, 61, 3]
abbrev dktX0_days_0 : List UInt8 := dkwX0_days_0 ++ dktX0_days_1
theorem dksX0_days_0 : cX0_days.data.toList.drop 0 = dktX0_days_0 := by decide +kernel
theorem dksX0_days_1 : cX0_days.data.toList.drop 24 = dktX0_days_1 := dk_seg dksX0_days_0 24 rfl rfl
theorem dksX0_days_2 : cX0_days.data.toList.drop 48 = dktX0_days_2 := dk_seg dksX0_days_1 24 rfl rfl
theorem dX0_days_0 : decode cX0_days 0 = .ok (.iload_n 1, 1) := dk_27 (dk_at dksX0_days_0 0 rfl rfl)
theorem dX0_days_1 : decode cX0_days 1 = .ok (.i2l, 1) := dk_133 (dk_at dksX0_days_0 1 rfl rfl)
theorem dX0_days_2 : decode cX0_days 2 = .ok (.lconst 1, 1) := dk_10 (dk_at dksX0_days_0 2 rfl rfl)
theorem dX0_days_3 : decode cX0_days 3 = .ok (.ldc2_w 238, 3) := dk_20 0 238 (dk_at dksX0_days_0 3 rfl rfl)
theorem dX0_days_6 : decode cX0_days 6 = .ok (.invokestatic 121, 3) := dk_184 0 121 (dk_at dksX0_days_0 6 rfl rfl)
theorem dX0_days_9 : decode cX0_days 9 = .ok (.ifCond .ne 6, 3) := dk_154 0 6 (dk_at dksX0_days_0 9 rfl rfl)
theorem dX0_days_12 : decode cX0_days 12 = .ok (.ldc 135, 2) := dk_18 135 (dk_at dksX0_days_0 12 rfl rfl)
theorem dX0_days_14 : decode cX0_days 14 = .ok (.ireturn, 1) := dk_172 (dk_at dksX0_days_0 14 rfl rfl)
theorem dX0_days_15 : decode cX0_days 15 = .ok (.aload_n 0, 1) := dk_42 (dk_at dksX0_days_0 15 rfl rfl)
theorem dX0_days_16 : decode cX0_days 16 = .ok (.getfield 72, 3) := dk_180 0 72 (dk_at dksX0_days_0 16 rfl rfl)
theorem dX0_days_19 : decode cX0_days 19 = .ok (.invokevirtual 243, 3) := dk_182 0 243 (dk_at dksX0_days_0 19 rfl rfl)
theorem dX0_days_22 : decode cX0_days 22 = .ok (.istore_n 2, 1) := dk_61 (dk_at dksX0_days_0 22 rfl rfl)
theorem dX0_days_23 : decode cX0_days 23 = .ok (.iconst 0, 1) := dk_3 (dk_at dksX0_days_0 23 rfl rfl)
theorem dX0_days_24 : decode cX0_days 24 = .ok (.istore_n 3, 1) := dk_62 (dk_at dksX0_days_1 0 rfl rfl)
theorem dX0_days_25 : decode cX0_days 25 = .ok (.iload_n 3, 1) := dk_29 (dk_at dksX0_days_1 1 rfl rfl)
theorem dX0_days_26 : decode cX0_days 26 = .ok (.iload_n 1, 1) := dk_27 (dk_at dksX0_days_1 2 rfl rfl)
theorem dX0_days_27 : decode cX0_days 27 = .ok (.if_icmp .ge 30, 3) := dk_162 0 30 (dk_at dksX0_days_1 3 rfl rfl)
theorem dX0_days_30 : decode cX0_days 30 = .ok (.aload_n 0, 1) := dk_42 (dk_at dksX0_days_1 6 rfl rfl)
theorem dX0_days_31 : decode cX0_days 31 = .ok (.getfield 72, 3) := dk_180 0 72 (dk_at dksX0_days_1 7 rfl rfl)
theorem dX0_days_34 : decode cX0_days 34 = .ok (.getfield 246, 3) := dk_180 0 246 (dk_at dksX0_days_1 10 rfl rfl)
theorem dX0_days_37 : decode cX0_days 37 = .ok (.sipush 9999, 3) := dk_17 39 15 (dk_at dksX0_days_1 13 rfl rfl)
theorem dX0_days_40 : decode cX0_days 40 = .ok (.if_icmp .ge 17, 3) := dk_162 0 17 (dk_at dksX0_days_1 16 rfl rfl)
theorem dX0_days_43 : decode cX0_days 43 = .ok (.aload_n 0, 1) := dk_42 (dk_at dksX0_days_1 19 rfl rfl)
theorem dX0_days_44 : decode cX0_days 44 = .ok (.getfield 72, 3) := dk_180 0 72 (dk_at dksX0_days_1 20 rfl rfl)
theorem dX0_days_47 : decode cX0_days 47 = .ok (.iconst (-1), 1) := dk_2 (dk_at dksX0_days_1 23 rfl rfl)
theorem dX0_days_48 : decode cX0_days 48 = .ok (.invokevirtual 249, 3) := dk_182 0 249 (dk_at dksX0_days_2 0 rfl rfl)
theorem dX0_days_51 : decode cX0_days 51 = .ok (.iinc 3 1, 3) := dk_132 3 1 (dk_at dksX0_days_2 3 rfl rfl)
theorem dX0_days_54 : decode cX0_days 54 = .ok (.goto (-29), 3) := dk_167 255 227 (dk_at dksX0_days_2 6 rfl rfl)
theorem dX0_days_57 : decode cX0_days 57 = .ok (.aload_n 0, 1) := dk_42 (dk_at dksX0_days_2 9 rfl rfl)
theorem dX0_days_58 : decode cX0_days 58 = .ok (.getfield 72, 3) := dk_180 0 72 (dk_at dksX0_days_2 10 rfl rfl)
theorem dX0_days_61 : decode cX0_days 61 = .ok (.invokevirtual 243, 3) := dk_182 0 243 (dk_at dksX0_days_2 13 rfl rfl)
theorem dX0_days_64 : decode cX0_days 64 = .ok (.iload_n 2, 1) := dk_28 (dk_at dksX0_days_2 16 rfl rfl)
theorem dX0_days_65 : decode cX0_days 65 = .ok (.isub, 1) := dk_100 (dk_at dksX0_days_2 17 rfl rfl)
theorem dX0_days_66 : decode cX0_days 66 = .ok (.ireturn, 1) := dk_172 (dk_at dksX0_days_2 18 rfl rfl)
abbrev cX0_behind : ByteArray := prog_1_method_34_code
def yX0_behind : MethodName := ⟨RX0, "behind", "(II)I"⟩
def dkwX0_behind_4 : List UInt8 := [21, 4, 172, 58, 5, 42, 45, 181, 0, 72, 25, 5, 191]
abbrev dktX0_behind_4 : List UInt8 := dkwX0_behind_4 ++ []
def dkwX0_behind_3 : List UInt8 := [180, 0, 72, 182, 0, 243, 167, 0, 10, 42, 180, 0, 72, 182, 1, 8, 54, 4, 42, 45, 181, 0, 72]
abbrev dktX0_behind_3 : List UInt8 := dkwX0_behind_3 ++ dktX0_behind_4
def dkwX0_behind_2 : List UInt8 := [154, 0, 17, 42, 42, 180, 0, 72, 182, 0, 198, 182, 1, 5, 167, 0, 25, 28, 4, 160, 0, 13, 42]
abbrev dktX0_behind_2 : List UInt8 := dkwX0_behind_2 ++ dktX0_behind_3
def dkwX0_behind_1 : List UInt8 := [18, 135, 172, 42, 180, 0, 72, 78, 42, 45, 182, 0, 255, 42, 180, 0, 72, 2, 27, 182, 1, 2, 28]
abbrev dktX0_behind_1 : List UInt8 := dkwX0_behind_1 ++ dktX0_behind_2
def dkwX0_behind_0 : List UInt8 := [27, 133, 9, 20, 0, 238, 184, 0, 121, 153, 0, 15, 28, 133, 9, 20, 0, 253, 184, 0, 121, 154, 0, 6]
abbrev dktX0_behind_0 : List UInt8 := dkwX0_behind_0 ++ dktX0_behind_1
theorem dksX0_behind_0 : cX0_behind.data.toList.drop 0 = dktX0_behind_0 := by decide +kernel
theorem dksX0_behind_1 : cX0_behind.data.toList.drop 24 = dktX0_behind_1 := dk_seg dksX0_behind_0 24 rfl rfl
theorem dksX0_behind_2 : cX0_behind.data.toList.drop 47 = dktX0_behind_2 := dk_seg dksX0_behind_1 23 rfl rfl
theorem dksX0_behind_3 : cX0_behind.data.toList.drop 70 = dktX0_behind_3 := dk_seg dksX0_behind_2 23 rfl rfl
theorem dksX0_behind_4 : cX0_behind.data.toList.drop 93 = dktX0_behind_4 := dk_seg dksX0_behind_3 23 rfl rfl
theorem dX0_behind_0 : decode cX0_behind 0 = .ok (.iload_n 1, 1) := dk_27 (dk_at dksX0_behind_0 0 rfl rfl)
theorem dX0_behind_1 : decode cX0_behind 1 = .ok (.i2l, 1) := dk_133 (dk_at dksX0_behind_0 1 rfl rfl)
theorem dX0_behind_2 : decode cX0_behind 2 = .ok (.lconst 0, 1) := dk_9 (dk_at dksX0_behind_0 2 rfl rfl)
theorem dX0_behind_3 : decode cX0_behind 3 = .ok (.ldc2_w 238, 3) := dk_20 0 238 (dk_at dksX0_behind_0 3 rfl rfl)
theorem dX0_behind_6 : decode cX0_behind 6 = .ok (.invokestatic 121, 3) := dk_184 0 121 (dk_at dksX0_behind_0 6 rfl rfl)
theorem dX0_behind_9 : decode cX0_behind 9 = .ok (.ifCond .eq 15, 3) := dk_153 0 15 (dk_at dksX0_behind_0 9 rfl rfl)
theorem dX0_behind_12 : decode cX0_behind 12 = .ok (.iload_n 2, 1) := dk_28 (dk_at dksX0_behind_0 12 rfl rfl)
theorem dX0_behind_13 : decode cX0_behind 13 = .ok (.i2l, 1) := dk_133 (dk_at dksX0_behind_0 13 rfl rfl)
theorem dX0_behind_14 : decode cX0_behind 14 = .ok (.lconst 0, 1) := dk_9 (dk_at dksX0_behind_0 14 rfl rfl)
theorem dX0_behind_15 : decode cX0_behind 15 = .ok (.ldc2_w 253, 3) := dk_20 0 253 (dk_at dksX0_behind_0 15 rfl rfl)
theorem dX0_behind_18 : decode cX0_behind 18 = .ok (.invokestatic 121, 3) := dk_184 0 121 (dk_at dksX0_behind_0 18 rfl rfl)
theorem dX0_behind_21 : decode cX0_behind 21 = .ok (.ifCond .ne 6, 3) := dk_154 0 6 (dk_at dksX0_behind_0 21 rfl rfl)
theorem dX0_behind_24 : decode cX0_behind 24 = .ok (.ldc 135, 2) := dk_18 135 (dk_at dksX0_behind_1 0 rfl rfl)
theorem dX0_behind_26 : decode cX0_behind 26 = .ok (.ireturn, 1) := dk_172 (dk_at dksX0_behind_1 2 rfl rfl)
theorem dX0_behind_27 : decode cX0_behind 27 = .ok (.aload_n 0, 1) := dk_42 (dk_at dksX0_behind_1 3 rfl rfl)
theorem dX0_behind_28 : decode cX0_behind 28 = .ok (.getfield 72, 3) := dk_180 0 72 (dk_at dksX0_behind_1 4 rfl rfl)
theorem dX0_behind_31 : decode cX0_behind 31 = .ok (.astore_n 3, 1) := dk_78 (dk_at dksX0_behind_1 7 rfl rfl)
theorem dX0_behind_32 : decode cX0_behind 32 = .ok (.aload_n 0, 1) := dk_42 (dk_at dksX0_behind_1 8 rfl rfl)
theorem dX0_behind_33 : decode cX0_behind 33 = .ok (.aload_n 3, 1) := dk_45 (dk_at dksX0_behind_1 9 rfl rfl)
theorem dX0_behind_34 : decode cX0_behind 34 = .ok (.invokevirtual 255, 3) := dk_182 0 255 (dk_at dksX0_behind_1 10 rfl rfl)
theorem dX0_behind_37 : decode cX0_behind 37 = .ok (.aload_n 0, 1) := dk_42 (dk_at dksX0_behind_1 13 rfl rfl)
theorem dX0_behind_38 : decode cX0_behind 38 = .ok (.getfield 72, 3) := dk_180 0 72 (dk_at dksX0_behind_1 14 rfl rfl)
theorem dX0_behind_41 : decode cX0_behind 41 = .ok (.iconst (-1), 1) := dk_2 (dk_at dksX0_behind_1 17 rfl rfl)
theorem dX0_behind_42 : decode cX0_behind 42 = .ok (.iload_n 1, 1) := dk_27 (dk_at dksX0_behind_1 18 rfl rfl)
theorem dX0_behind_43 : decode cX0_behind 43 = .ok (.invokevirtual 258, 3) := dk_182 1 2 (dk_at dksX0_behind_1 19 rfl rfl)
theorem dX0_behind_46 : decode cX0_behind 46 = .ok (.iload_n 2, 1) := dk_28 (dk_at dksX0_behind_1 22 rfl rfl)
theorem dX0_behind_47 : decode cX0_behind 47 = .ok (.ifCond .ne 17, 3) := dk_154 0 17 (dk_at dksX0_behind_2 0 rfl rfl)
theorem dX0_behind_50 : decode cX0_behind 50 = .ok (.aload_n 0, 1) := dk_42 (dk_at dksX0_behind_2 3 rfl rfl)
theorem dX0_behind_51 : decode cX0_behind 51 = .ok (.aload_n 0, 1) := dk_42 (dk_at dksX0_behind_2 4 rfl rfl)
theorem dX0_behind_52 : decode cX0_behind 52 = .ok (.getfield 72, 3) := dk_180 0 72 (dk_at dksX0_behind_2 5 rfl rfl)
theorem dX0_behind_55 : decode cX0_behind 55 = .ok (.invokevirtual 198, 3) := dk_182 0 198 (dk_at dksX0_behind_2 8 rfl rfl)
theorem dX0_behind_58 : decode cX0_behind 58 = .ok (.invokevirtual 261, 3) := dk_182 1 5 (dk_at dksX0_behind_2 11 rfl rfl)
theorem dX0_behind_61 : decode cX0_behind 61 = .ok (.goto 25, 3) := dk_167 0 25 (dk_at dksX0_behind_2 14 rfl rfl)
theorem dX0_behind_64 : decode cX0_behind 64 = .ok (.iload_n 2, 1) := dk_28 (dk_at dksX0_behind_2 17 rfl rfl)
theorem dX0_behind_65 : decode cX0_behind 65 = .ok (.iconst 1, 1) := dk_4 (dk_at dksX0_behind_2 18 rfl rfl)
theorem dX0_behind_66 : decode cX0_behind 66 = .ok (.if_icmp .ne 13, 3) := dk_160 0 13 (dk_at dksX0_behind_2 19 rfl rfl)
theorem dX0_behind_69 : decode cX0_behind 69 = .ok (.aload_n 0, 1) := dk_42 (dk_at dksX0_behind_2 22 rfl rfl)
theorem dX0_behind_70 : decode cX0_behind 70 = .ok (.getfield 72, 3) := dk_180 0 72 (dk_at dksX0_behind_3 0 rfl rfl)
theorem dX0_behind_73 : decode cX0_behind 73 = .ok (.invokevirtual 243, 3) := dk_182 0 243 (dk_at dksX0_behind_3 3 rfl rfl)
theorem dX0_behind_76 : decode cX0_behind 76 = .ok (.goto 10, 3) := dk_167 0 10 (dk_at dksX0_behind_3 6 rfl rfl)
theorem dX0_behind_79 : decode cX0_behind 79 = .ok (.aload_n 0, 1) := dk_42 (dk_at dksX0_behind_3 9 rfl rfl)
theorem dX0_behind_80 : decode cX0_behind 80 = .ok (.getfield 72, 3) := dk_180 0 72 (dk_at dksX0_behind_3 10 rfl rfl)
theorem dX0_behind_83 : decode cX0_behind 83 = .ok (.invokevirtual 264, 3) := dk_182 1 8 (dk_at dksX0_behind_3 13 rfl rfl)
theorem dX0_behind_86 : decode cX0_behind 86 = .ok (.istore 4, 2) := dk_54 4 (dk_at dksX0_behind_3 16 rfl rfl)
theorem dX0_behind_88 : decode cX0_behind 88 = .ok (.aload_n 0, 1) := dk_42 (dk_at dksX0_behind_3 18 rfl rfl)
theorem dX0_behind_89 : decode cX0_behind 89 = .ok (.aload_n 3, 1) := dk_45 (dk_at dksX0_behind_3 19 rfl rfl)
theorem dX0_behind_90 : decode cX0_behind 90 = .ok (.putfield 72, 3) := dk_181 0 72 (dk_at dksX0_behind_3 20 rfl rfl)
theorem dX0_behind_93 : decode cX0_behind 93 = .ok (.iload 4, 2) := dk_21 4 (dk_at dksX0_behind_4 0 rfl rfl)
theorem dX0_behind_95 : decode cX0_behind 95 = .ok (.ireturn, 1) := dk_172 (dk_at dksX0_behind_4 2 rfl rfl)
theorem dX0_behind_96 : decode cX0_behind 96 = .ok (.astore 5, 2) := dk_58 5 (dk_at dksX0_behind_4 3 rfl rfl)
theorem dX0_behind_98 : decode cX0_behind 98 = .ok (.aload_n 0, 1) := dk_42 (dk_at dksX0_behind_4 5 rfl rfl)
theorem dX0_behind_99 : decode cX0_behind 99 = .ok (.aload_n 3, 1) := dk_45 (dk_at dksX0_behind_4 6 rfl rfl)
theorem dX0_behind_100 : decode cX0_behind 100 = .ok (.putfield 72, 3) := dk_181 0 72 (dk_at dksX0_behind_4 7 rfl rfl)
theorem dX0_behind_103 : decode cX0_behind 103 = .ok (.aload 5, 2) := dk_25 5 (dk_at dksX0_behind_4 10 rfl rfl)
theorem dX0_behind_105 : decode cX0_behind 105 = .ok (.athrow, 1) := dk_191 (dk_at dksX0_behind_4 12 rfl rfl)
abbrev cX0_thinks : ByteArray := prog_1_method_9_code
def yX0_thinks : MethodName := ⟨RX0, "thinks", "(LTwoGuilds$Table;)V"⟩
def dkwX0_thinks_0 : List UInt8 := [42, 180, 0, 76, 43, 182, 0, 114, 42, 42, 180, 0, 76, 181, 0, 72, 177]
abbrev dktX0_thinks_0 : List UInt8 := dkwX0_thinks_0 ++ []
theorem dksX0_thinks_0 : cX0_thinks.data.toList.drop 0 = dktX0_thinks_0 := by decide +kernel
theorem dX0_thinks_0 : decode cX0_thinks 0 = .ok (.aload_n 0, 1) := dk_42 (dk_at dksX0_thinks_0 0 rfl rfl)
theorem dX0_thinks_1 : decode cX0_thinks 1 = .ok (.getfield 76, 3) := dk_180 0 76 (dk_at dksX0_thinks_0 1 rfl rfl)
theorem dX0_thinks_4 : decode cX0_thinks 4 = .ok (.aload_n 1, 1) := dk_43 (dk_at dksX0_thinks_0 4 rfl rfl)
theorem dX0_thinks_5 : decode cX0_thinks 5 = .ok (.invokevirtual 114, 3) := dk_182 0 114 (dk_at dksX0_thinks_0 5 rfl rfl)
theorem dX0_thinks_8 : decode cX0_thinks 8 = .ok (.aload_n 0, 1) := dk_42 (dk_at dksX0_thinks_0 8 rfl rfl)
theorem dX0_thinks_9 : decode cX0_thinks 9 = .ok (.aload_n 0, 1) := dk_42 (dk_at dksX0_thinks_0 9 rfl rfl)
theorem dX0_thinks_10 : decode cX0_thinks 10 = .ok (.getfield 76, 3) := dk_180 0 76 (dk_at dksX0_thinks_0 10 rfl rfl)
theorem dX0_thinks_13 : decode cX0_thinks 13 = .ok (.putfield 72, 3) := dk_181 0 72 (dk_at dksX0_thinks_0 13 rfl rfl)
theorem dX0_thinks_16 : decode cX0_thinks 16 = .ok (.return_, 1) := dk_177 (dk_at dksX0_thinks_0 16 rfl rfl)
abbrev cX0_anew : ByteArray := prog_1_method_6_code
def yX0_anew : MethodName := ⟨RX0, "anew", "(LTwoGuilds$Glove;)LTwoGuilds$Glove;"⟩
def dkwX0_anew_0 : List UInt8 := [42, 43, 182, 0, 34, 182, 0, 38, 43, 182, 0, 42, 176]
abbrev dktX0_anew_0 : List UInt8 := dkwX0_anew_0 ++ []
theorem dksX0_anew_0 : cX0_anew.data.toList.drop 0 = dktX0_anew_0 := by decide +kernel
theorem dX0_anew_0 : decode cX0_anew 0 = .ok (.aload_n 0, 1) := dk_42 (dk_at dksX0_anew_0 0 rfl rfl)
theorem dX0_anew_1 : decode cX0_anew 1 = .ok (.aload_n 1, 1) := dk_43 (dk_at dksX0_anew_0 1 rfl rfl)
theorem dX0_anew_2 : decode cX0_anew 2 = .ok (.invokevirtual 34, 3) := dk_182 0 34 (dk_at dksX0_anew_0 2 rfl rfl)
theorem dX0_anew_5 : decode cX0_anew 5 = .ok (.invokevirtual 38, 3) := dk_182 0 38 (dk_at dksX0_anew_0 5 rfl rfl)
theorem dX0_anew_8 : decode cX0_anew 8 = .ok (.aload_n 1, 1) := dk_43 (dk_at dksX0_anew_0 8 rfl rfl)
theorem dX0_anew_9 : decode cX0_anew 9 = .ok (.invokevirtual 42, 3) := dk_182 0 42 (dk_at dksX0_anew_0 9 rfl rfl)
theorem dX0_anew_12 : decode cX0_anew 12 = .ok (.areturn, 1) := dk_176 (dk_at dksX0_anew_0 12 rfl rfl)
abbrev cX0_keepHome : ByteArray := prog_1_method_35_code
def yX0_keepHome : MethodName := ⟨RX0, "keepHome", "(I)I"⟩
def dkwX0_keepHome_4 : List UInt8 := [54, 5, 42, 44, 181, 0, 72, 21, 5, 172, 58, 7, 42, 44, 181, 0, 72, 25, 7, 191]
abbrev dktX0_keepHome_4 : List UInt8 := dkwX0_keepHome_4 ++ []
def dkwX0_keepHome_3 : List UInt8 := [21, 6, 21, 4, 164, 0, 10, 21, 5, 62, 21, 6, 54, 4, 132, 5, 1, 167, 255, 198, 29, 184, 0, 213]
abbrev dktX0_keepHome_3 : List UInt8 := dkwX0_keepHome_3 ++ dktX0_keepHome_4
def dkwX0_keepHome_2 : List UInt8 := [21, 5, 27, 182, 1, 2, 42, 42, 180, 0, 72, 182, 0, 198, 182, 1, 5, 54, 6, 29, 155, 0, 10]
abbrev dktX0_keepHome_2 : List UInt8 := dkwX0_keepHome_2 ++ dktX0_keepHome_3
def dkwX0_keepHome_1 : List UInt8 := [54, 4, 3, 54, 5, 21, 5, 44, 180, 0, 118, 162, 0, 55, 42, 44, 182, 0, 255, 42, 180, 0, 72]
abbrev dktX0_keepHome_1 : List UInt8 := dkwX0_keepHome_1 ++ dktX0_keepHome_2
def dkwX0_keepHome_0 : List UInt8 := [27, 133, 10, 20, 1, 11, 184, 0, 121, 154, 0, 6, 18, 135, 172, 42, 180, 0, 72, 77, 2, 62, 3]
abbrev dktX0_keepHome_0 : List UInt8 := dkwX0_keepHome_0 ++ dktX0_keepHome_1
theorem dksX0_keepHome_0 : cX0_keepHome.data.toList.drop 0 = dktX0_keepHome_0 := by decide +kernel
theorem dksX0_keepHome_1 : cX0_keepHome.data.toList.drop 23 = dktX0_keepHome_1 := dk_seg dksX0_keepHome_0 23 rfl rfl
theorem dksX0_keepHome_2 : cX0_keepHome.data.toList.drop 46 = dktX0_keepHome_2 := dk_seg dksX0_keepHome_1 23 rfl rfl
theorem dksX0_keepHome_3 : cX0_keepHome.data.toList.drop 69 = dktX0_keepHome_3 := dk_seg dksX0_keepHome_2 23 rfl rfl
theorem dksX0_keepHome_4 : cX0_keepHome.data.toList.drop 93 = dktX0_keepHome_4 := dk_seg dksX0_keepHome_3 24 rfl rfl
theorem dX0_keepHome_0 : decode cX0_keepHome 0 = .ok (.iload_n 1, 1) := dk_27 (dk_at dksX0_keepHome_0 0 rfl rfl)
theorem dX0_keepHome_1 : decode cX0_keepHome 1 = .ok (.i2l, 1) := dk_133 (dk_at dksX0_keepHome_0 1 rfl rfl)
theorem dX0_keepHome_2 : decode cX0_keepHome 2 = .ok (.lconst 1, 1) := dk_10 (dk_at dksX0_keepHome_0 2 rfl rfl)
theorem dX0_keepHome_3 : decode cX0_keepHome 3 = .ok (.ldc2_w 267, 3) := dk_20 1 11 (dk_at dksX0_keepHome_0 3 rfl rfl)
theorem dX0_keepHome_6 : decode cX0_keepHome 6 = .ok (.invokestatic 121, 3) := dk_184 0 121 (dk_at dksX0_keepHome_0 6 rfl rfl)
theorem dX0_keepHome_9 : decode cX0_keepHome 9 = .ok (.ifCond .ne 6, 3) := dk_154 0 6 (dk_at dksX0_keepHome_0 9 rfl rfl)
theorem dX0_keepHome_12 : decode cX0_keepHome 12 = .ok (.ldc 135, 2) := dk_18 135 (dk_at dksX0_keepHome_0 12 rfl rfl)
theorem dX0_keepHome_14 : decode cX0_keepHome 14 = .ok (.ireturn, 1) := dk_172 (dk_at dksX0_keepHome_0 14 rfl rfl)
theorem dX0_keepHome_15 : decode cX0_keepHome 15 = .ok (.aload_n 0, 1) := dk_42 (dk_at dksX0_keepHome_0 15 rfl rfl)
theorem dX0_keepHome_16 : decode cX0_keepHome 16 = .ok (.getfield 72, 3) := dk_180 0 72 (dk_at dksX0_keepHome_0 16 rfl rfl)
theorem dX0_keepHome_19 : decode cX0_keepHome 19 = .ok (.astore_n 2, 1) := dk_77 (dk_at dksX0_keepHome_0 19 rfl rfl)
theorem dX0_keepHome_20 : decode cX0_keepHome 20 = .ok (.iconst (-1), 1) := dk_2 (dk_at dksX0_keepHome_0 20 rfl rfl)
theorem dX0_keepHome_21 : decode cX0_keepHome 21 = .ok (.istore_n 3, 1) := dk_62 (dk_at dksX0_keepHome_0 21 rfl rfl)
theorem dX0_keepHome_22 : decode cX0_keepHome 22 = .ok (.iconst 0, 1) := dk_3 (dk_at dksX0_keepHome_0 22 rfl rfl)
theorem dX0_keepHome_23 : decode cX0_keepHome 23 = .ok (.istore 4, 2) := dk_54 4 (dk_at dksX0_keepHome_1 0 rfl rfl)
theorem dX0_keepHome_25 : decode cX0_keepHome 25 = .ok (.iconst 0, 1) := dk_3 (dk_at dksX0_keepHome_1 2 rfl rfl)
theorem dX0_keepHome_26 : decode cX0_keepHome 26 = .ok (.istore 5, 2) := dk_54 5 (dk_at dksX0_keepHome_1 3 rfl rfl)
theorem dX0_keepHome_28 : decode cX0_keepHome 28 = .ok (.iload 5, 2) := dk_21 5 (dk_at dksX0_keepHome_1 5 rfl rfl)
theorem dX0_keepHome_30 : decode cX0_keepHome 30 = .ok (.aload_n 2, 1) := dk_44 (dk_at dksX0_keepHome_1 7 rfl rfl)
theorem dX0_keepHome_31 : decode cX0_keepHome 31 = .ok (.getfield 118, 3) := dk_180 0 118 (dk_at dksX0_keepHome_1 8 rfl rfl)
theorem dX0_keepHome_34 : decode cX0_keepHome 34 = .ok (.if_icmp .ge 55, 3) := dk_162 0 55 (dk_at dksX0_keepHome_1 11 rfl rfl)
theorem dX0_keepHome_37 : decode cX0_keepHome 37 = .ok (.aload_n 0, 1) := dk_42 (dk_at dksX0_keepHome_1 14 rfl rfl)
theorem dX0_keepHome_38 : decode cX0_keepHome 38 = .ok (.aload_n 2, 1) := dk_44 (dk_at dksX0_keepHome_1 15 rfl rfl)
theorem dX0_keepHome_39 : decode cX0_keepHome 39 = .ok (.invokevirtual 255, 3) := dk_182 0 255 (dk_at dksX0_keepHome_1 16 rfl rfl)
theorem dX0_keepHome_42 : decode cX0_keepHome 42 = .ok (.aload_n 0, 1) := dk_42 (dk_at dksX0_keepHome_1 19 rfl rfl)
theorem dX0_keepHome_43 : decode cX0_keepHome 43 = .ok (.getfield 72, 3) := dk_180 0 72 (dk_at dksX0_keepHome_1 20 rfl rfl)
theorem dX0_keepHome_46 : decode cX0_keepHome 46 = .ok (.iload 5, 2) := dk_21 5 (dk_at dksX0_keepHome_2 0 rfl rfl)
theorem dX0_keepHome_48 : decode cX0_keepHome 48 = .ok (.iload_n 1, 1) := dk_27 (dk_at dksX0_keepHome_2 2 rfl rfl)
theorem dX0_keepHome_49 : decode cX0_keepHome 49 = .ok (.invokevirtual 258, 3) := dk_182 1 2 (dk_at dksX0_keepHome_2 3 rfl rfl)
theorem dX0_keepHome_52 : decode cX0_keepHome 52 = .ok (.aload_n 0, 1) := dk_42 (dk_at dksX0_keepHome_2 6 rfl rfl)
theorem dX0_keepHome_53 : decode cX0_keepHome 53 = .ok (.aload_n 0, 1) := dk_42 (dk_at dksX0_keepHome_2 7 rfl rfl)
theorem dX0_keepHome_54 : decode cX0_keepHome 54 = .ok (.getfield 72, 3) := dk_180 0 72 (dk_at dksX0_keepHome_2 8 rfl rfl)
theorem dX0_keepHome_57 : decode cX0_keepHome 57 = .ok (.invokevirtual 198, 3) := dk_182 0 198 (dk_at dksX0_keepHome_2 11 rfl rfl)
theorem dX0_keepHome_60 : decode cX0_keepHome 60 = .ok (.invokevirtual 261, 3) := dk_182 1 5 (dk_at dksX0_keepHome_2 14 rfl rfl)
theorem dX0_keepHome_63 : decode cX0_keepHome 63 = .ok (.istore 6, 2) := dk_54 6 (dk_at dksX0_keepHome_2 17 rfl rfl)
theorem dX0_keepHome_65 : decode cX0_keepHome 65 = .ok (.iload_n 3, 1) := dk_29 (dk_at dksX0_keepHome_2 19 rfl rfl)
theorem dX0_keepHome_66 : decode cX0_keepHome 66 = .ok (.ifCond .lt 10, 3) := dk_155 0 10 (dk_at dksX0_keepHome_2 20 rfl rfl)
theorem dX0_keepHome_69 : decode cX0_keepHome 69 = .ok (.iload 6, 2) := dk_21 6 (dk_at dksX0_keepHome_3 0 rfl rfl)
theorem dX0_keepHome_71 : decode cX0_keepHome 71 = .ok (.iload 4, 2) := dk_21 4 (dk_at dksX0_keepHome_3 2 rfl rfl)
theorem dX0_keepHome_73 : decode cX0_keepHome 73 = .ok (.if_icmp .le 10, 3) := dk_164 0 10 (dk_at dksX0_keepHome_3 4 rfl rfl)
theorem dX0_keepHome_76 : decode cX0_keepHome 76 = .ok (.iload 5, 2) := dk_21 5 (dk_at dksX0_keepHome_3 7 rfl rfl)
theorem dX0_keepHome_78 : decode cX0_keepHome 78 = .ok (.istore_n 3, 1) := dk_62 (dk_at dksX0_keepHome_3 9 rfl rfl)
theorem dX0_keepHome_79 : decode cX0_keepHome 79 = .ok (.iload 6, 2) := dk_21 6 (dk_at dksX0_keepHome_3 10 rfl rfl)
theorem dX0_keepHome_81 : decode cX0_keepHome 81 = .ok (.istore 4, 2) := dk_54 4 (dk_at dksX0_keepHome_3 12 rfl rfl)
theorem dX0_keepHome_83 : decode cX0_keepHome 83 = .ok (.iinc 5 1, 3) := dk_132 5 1 (dk_at dksX0_keepHome_3 14 rfl rfl)
theorem dX0_keepHome_86 : decode cX0_keepHome 86 = .ok (.goto (-58), 3) := dk_167 255 198 (dk_at dksX0_keepHome_3 17 rfl rfl)
theorem dX0_keepHome_89 : decode cX0_keepHome 89 = .ok (.iload_n 3, 1) := dk_29 (dk_at dksX0_keepHome_3 20 rfl rfl)
theorem dX0_keepHome_90 : decode cX0_keepHome 90 = .ok (.invokestatic 213, 3) := dk_184 0 213 (dk_at dksX0_keepHome_3 21 rfl rfl)
theorem dX0_keepHome_93 : decode cX0_keepHome 93 = .ok (.istore 5, 2) := dk_54 5 (dk_at dksX0_keepHome_4 0 rfl rfl)
theorem dX0_keepHome_95 : decode cX0_keepHome 95 = .ok (.aload_n 0, 1) := dk_42 (dk_at dksX0_keepHome_4 2 rfl rfl)
theorem dX0_keepHome_96 : decode cX0_keepHome 96 = .ok (.aload_n 2, 1) := dk_44 (dk_at dksX0_keepHome_4 3 rfl rfl)
theorem dX0_keepHome_97 : decode cX0_keepHome 97 = .ok (.putfield 72, 3) := dk_181 0 72 (dk_at dksX0_keepHome_4 4 rfl rfl)
theorem dX0_keepHome_100 : decode cX0_keepHome 100 = .ok (.iload 5, 2) := dk_21 5 (dk_at dksX0_keepHome_4 7 rfl rfl)
theorem dX0_keepHome_102 : decode cX0_keepHome 102 = .ok (.ireturn, 1) := dk_172 (dk_at dksX0_keepHome_4 9 rfl rfl)
theorem dX0_keepHome_103 : decode cX0_keepHome 103 = .ok (.astore 7, 2) := dk_58 7 (dk_at dksX0_keepHome_4 10 rfl rfl)
theorem dX0_keepHome_105 : decode cX0_keepHome 105 = .ok (.aload_n 0, 1) := dk_42 (dk_at dksX0_keepHome_4 12 rfl rfl)
theorem dX0_keepHome_106 : decode cX0_keepHome 106 = .ok (.aload_n 2, 1) := dk_44 (dk_at dksX0_keepHome_4 13 rfl rfl)
theorem dX0_keepHome_107 : decode cX0_keepHome 107 = .ok (.putfield 72, 3) := dk_181 0 72 (dk_at dksX0_keepHome_4 14 rfl rfl)
theorem dX0_keepHome_110 : decode cX0_keepHome 110 = .ok (.aload 7, 2) := dk_25 7 (dk_at dksX0_keepHome_4 17 rfl rfl)
theorem dX0_keepHome_112 : decode cX0_keepHome 112 = .ok (.athrow, 1) := dk_191 (dk_at dksX0_keepHome_4 19 rfl rfl)
abbrev cX0_fine : ByteArray := prog_1_method_36_code
def yX0_fine : MethodName := ⟨RX0, "fine", "()I"⟩
def dkwX0_fine_1 : List UInt8 := [182, 0, 243, 79, 42, 5, 42, 180, 0, 72, 182, 0, 243, 182, 0, 57, 172]
abbrev dktX0_fine_1 : List UInt8 := dkwX0_fine_1 ++ []
def dkwX0_fine_0 : List UInt8 := [42, 180, 0, 50, 16, 100, 42, 180, 0, 72, 180, 0, 246, 79, 42, 180, 0, 50, 16, 108, 42, 180, 0, 72]
abbrev dktX0_fine_0 : List UInt8 := dkwX0_fine_0 ++ dktX0_fine_1
theorem dksX0_fine_0 : cX0_fine.data.toList.drop 0 = dktX0_fine_0 := by decide +kernel
theorem dksX0_fine_1 : cX0_fine.data.toList.drop 24 = dktX0_fine_1 := dk_seg dksX0_fine_0 24 rfl rfl
theorem dX0_fine_0 : decode cX0_fine 0 = .ok (.aload_n 0, 1) := dk_42 (dk_at dksX0_fine_0 0 rfl rfl)
theorem dX0_fine_1 : decode cX0_fine 1 = .ok (.getfield 50, 3) := dk_180 0 50 (dk_at dksX0_fine_0 1 rfl rfl)
theorem dX0_fine_4 : decode cX0_fine 4 = .ok (.bipush 100, 2) := dk_16 100 (dk_at dksX0_fine_0 4 rfl rfl)
theorem dX0_fine_6 : decode cX0_fine 6 = .ok (.aload_n 0, 1) := dk_42 (dk_at dksX0_fine_0 6 rfl rfl)
theorem dX0_fine_7 : decode cX0_fine 7 = .ok (.getfield 72, 3) := dk_180 0 72 (dk_at dksX0_fine_0 7 rfl rfl)
theorem dX0_fine_10 : decode cX0_fine 10 = .ok (.getfield 246, 3) := dk_180 0 246 (dk_at dksX0_fine_0 10 rfl rfl)
theorem dX0_fine_13 : decode cX0_fine 13 = .ok (.iastore, 1) := dk_79 (dk_at dksX0_fine_0 13 rfl rfl)
theorem dX0_fine_14 : decode cX0_fine 14 = .ok (.aload_n 0, 1) := dk_42 (dk_at dksX0_fine_0 14 rfl rfl)
theorem dX0_fine_15 : decode cX0_fine 15 = .ok (.getfield 50, 3) := dk_180 0 50 (dk_at dksX0_fine_0 15 rfl rfl)
theorem dX0_fine_18 : decode cX0_fine 18 = .ok (.bipush 108, 2) := dk_16 108 (dk_at dksX0_fine_0 18 rfl rfl)
theorem dX0_fine_20 : decode cX0_fine 20 = .ok (.aload_n 0, 1) := dk_42 (dk_at dksX0_fine_0 20 rfl rfl)
theorem dX0_fine_21 : decode cX0_fine 21 = .ok (.getfield 72, 3) := dk_180 0 72 (dk_at dksX0_fine_0 21 rfl rfl)
theorem dX0_fine_24 : decode cX0_fine 24 = .ok (.invokevirtual 243, 3) := dk_182 0 243 (dk_at dksX0_fine_1 0 rfl rfl)
theorem dX0_fine_27 : decode cX0_fine 27 = .ok (.iastore, 1) := dk_79 (dk_at dksX0_fine_1 3 rfl rfl)
theorem dX0_fine_28 : decode cX0_fine 28 = .ok (.aload_n 0, 1) := dk_42 (dk_at dksX0_fine_1 4 rfl rfl)
theorem dX0_fine_29 : decode cX0_fine 29 = .ok (.iconst 2, 1) := dk_5 (dk_at dksX0_fine_1 5 rfl rfl)
theorem dX0_fine_30 : decode cX0_fine 30 = .ok (.aload_n 0, 1) := dk_42 (dk_at dksX0_fine_1 6 rfl rfl)
theorem dX0_fine_31 : decode cX0_fine 31 = .ok (.getfield 72, 3) := dk_180 0 72 (dk_at dksX0_fine_1 7 rfl rfl)
theorem dX0_fine_34 : decode cX0_fine 34 = .ok (.invokevirtual 243, 3) := dk_182 0 243 (dk_at dksX0_fine_1 10 rfl rfl)
theorem dX0_fine_37 : decode cX0_fine 37 = .ok (.invokevirtual 57, 3) := dk_182 0 57 (dk_at dksX0_fine_1 13 rfl rfl)
theorem dX0_fine_40 : decode cX0_fine 40 = .ok (.ireturn, 1) := dk_172 (dk_at dksX0_fine_1 16 rfl rfl)
abbrev cX0_worn : ByteArray := prog_1_method_37_code
def yX0_worn : MethodName := ⟨RX0, "worn", "(II)I"⟩
def dkwX0_worn_4 : List UInt8 := [180, 1, 15, 172]
abbrev dktX0_worn_4 : List UInt8 := dkwX0_worn_4 ++ []
def dkwX0_worn_3 : List UInt8 := [180, 1, 15, 28, 79, 42, 180, 0, 72, 89, 180, 1, 15, 4, 96, 181, 1, 15, 42, 180, 0, 72]
abbrev dktX0_worn_3 : List UInt8 := dkwX0_worn_3 ++ dktX0_worn_4
def dkwX0_worn_2 : List UInt8 := [180, 1, 18, 42, 180, 0, 72, 180, 1, 15, 27, 79, 42, 180, 0, 72, 180, 1, 21, 42, 180, 0, 72]
abbrev dktX0_worn_2 : List UInt8 := dkwX0_worn_2 ++ dktX0_worn_3
def dkwX0_worn_1 : List UInt8 := [18, 135, 172, 42, 180, 0, 72, 180, 1, 15, 16, 10, 160, 0, 6, 18, 136, 172, 42, 180, 0, 72]
abbrev dktX0_worn_1 : List UInt8 := dkwX0_worn_1 ++ dktX0_worn_2
def dkwX0_worn_0 : List UInt8 := [27, 133, 9, 20, 1, 13, 184, 0, 121, 153, 0, 15, 28, 133, 9, 20, 1, 13, 184, 0, 121, 154, 0, 6]
abbrev dktX0_worn_0 : List UInt8 := dkwX0_worn_0 ++ dktX0_worn_1
theorem dksX0_worn_0 : cX0_worn.data.toList.drop 0 = dktX0_worn_0 := by decide +kernel
theorem dksX0_worn_1 : cX0_worn.data.toList.drop 24 = dktX0_worn_1 := dk_seg dksX0_worn_0 24 rfl rfl
theorem dksX0_worn_2 : cX0_worn.data.toList.drop 46 = dktX0_worn_2 := dk_seg dksX0_worn_1 22 rfl rfl
theorem dksX0_worn_3 : cX0_worn.data.toList.drop 69 = dktX0_worn_3 := dk_seg dksX0_worn_2 23 rfl rfl
theorem dksX0_worn_4 : cX0_worn.data.toList.drop 91 = dktX0_worn_4 := dk_seg dksX0_worn_3 22 rfl rfl
theorem dX0_worn_0 : decode cX0_worn 0 = .ok (.iload_n 1, 1) := dk_27 (dk_at dksX0_worn_0 0 rfl rfl)
theorem dX0_worn_1 : decode cX0_worn 1 = .ok (.i2l, 1) := dk_133 (dk_at dksX0_worn_0 1 rfl rfl)
theorem dX0_worn_2 : decode cX0_worn 2 = .ok (.lconst 0, 1) := dk_9 (dk_at dksX0_worn_0 2 rfl rfl)
theorem dX0_worn_3 : decode cX0_worn 3 = .ok (.ldc2_w 269, 3) := dk_20 1 13 (dk_at dksX0_worn_0 3 rfl rfl)
theorem dX0_worn_6 : decode cX0_worn 6 = .ok (.invokestatic 121, 3) := dk_184 0 121 (dk_at dksX0_worn_0 6 rfl rfl)
theorem dX0_worn_9 : decode cX0_worn 9 = .ok (.ifCond .eq 15, 3) := dk_153 0 15 (dk_at dksX0_worn_0 9 rfl rfl)
theorem dX0_worn_12 : decode cX0_worn 12 = .ok (.iload_n 2, 1) := dk_28 (dk_at dksX0_worn_0 12 rfl rfl)
theorem dX0_worn_13 : decode cX0_worn 13 = .ok (.i2l, 1) := dk_133 (dk_at dksX0_worn_0 13 rfl rfl)
theorem dX0_worn_14 : decode cX0_worn 14 = .ok (.lconst 0, 1) := dk_9 (dk_at dksX0_worn_0 14 rfl rfl)
theorem dX0_worn_15 : decode cX0_worn 15 = .ok (.ldc2_w 269, 3) := dk_20 1 13 (dk_at dksX0_worn_0 15 rfl rfl)
theorem dX0_worn_18 : decode cX0_worn 18 = .ok (.invokestatic 121, 3) := dk_184 0 121 (dk_at dksX0_worn_0 18 rfl rfl)
theorem dX0_worn_21 : decode cX0_worn 21 = .ok (.ifCond .ne 6, 3) := dk_154 0 6 (dk_at dksX0_worn_0 21 rfl rfl)
theorem dX0_worn_24 : decode cX0_worn 24 = .ok (.ldc 135, 2) := dk_18 135 (dk_at dksX0_worn_1 0 rfl rfl)
theorem dX0_worn_26 : decode cX0_worn 26 = .ok (.ireturn, 1) := dk_172 (dk_at dksX0_worn_1 2 rfl rfl)
theorem dX0_worn_27 : decode cX0_worn 27 = .ok (.aload_n 0, 1) := dk_42 (dk_at dksX0_worn_1 3 rfl rfl)
theorem dX0_worn_28 : decode cX0_worn 28 = .ok (.getfield 72, 3) := dk_180 0 72 (dk_at dksX0_worn_1 4 rfl rfl)
theorem dX0_worn_31 : decode cX0_worn 31 = .ok (.getfield 271, 3) := dk_180 1 15 (dk_at dksX0_worn_1 7 rfl rfl)
theorem dX0_worn_34 : decode cX0_worn 34 = .ok (.bipush 10, 2) := dk_16 10 (dk_at dksX0_worn_1 10 rfl rfl)
theorem dX0_worn_36 : decode cX0_worn 36 = .ok (.if_icmp .ne 6, 3) := dk_160 0 6 (dk_at dksX0_worn_1 12 rfl rfl)
theorem dX0_worn_39 : decode cX0_worn 39 = .ok (.ldc 136, 2) := dk_18 136 (dk_at dksX0_worn_1 15 rfl rfl)
theorem dX0_worn_41 : decode cX0_worn 41 = .ok (.ireturn, 1) := dk_172 (dk_at dksX0_worn_1 17 rfl rfl)
theorem dX0_worn_42 : decode cX0_worn 42 = .ok (.aload_n 0, 1) := dk_42 (dk_at dksX0_worn_1 18 rfl rfl)
theorem dX0_worn_43 : decode cX0_worn 43 = .ok (.getfield 72, 3) := dk_180 0 72 (dk_at dksX0_worn_1 19 rfl rfl)
theorem dX0_worn_46 : decode cX0_worn 46 = .ok (.getfield 274, 3) := dk_180 1 18 (dk_at dksX0_worn_2 0 rfl rfl)
theorem dX0_worn_49 : decode cX0_worn 49 = .ok (.aload_n 0, 1) := dk_42 (dk_at dksX0_worn_2 3 rfl rfl)
theorem dX0_worn_50 : decode cX0_worn 50 = .ok (.getfield 72, 3) := dk_180 0 72 (dk_at dksX0_worn_2 4 rfl rfl)
theorem dX0_worn_53 : decode cX0_worn 53 = .ok (.getfield 271, 3) := dk_180 1 15 (dk_at dksX0_worn_2 7 rfl rfl)
theorem dX0_worn_56 : decode cX0_worn 56 = .ok (.iload_n 1, 1) := dk_27 (dk_at dksX0_worn_2 10 rfl rfl)
theorem dX0_worn_57 : decode cX0_worn 57 = .ok (.iastore, 1) := dk_79 (dk_at dksX0_worn_2 11 rfl rfl)
theorem dX0_worn_58 : decode cX0_worn 58 = .ok (.aload_n 0, 1) := dk_42 (dk_at dksX0_worn_2 12 rfl rfl)
theorem dX0_worn_59 : decode cX0_worn 59 = .ok (.getfield 72, 3) := dk_180 0 72 (dk_at dksX0_worn_2 13 rfl rfl)
theorem dX0_worn_62 : decode cX0_worn 62 = .ok (.getfield 277, 3) := dk_180 1 21 (dk_at dksX0_worn_2 16 rfl rfl)
theorem dX0_worn_65 : decode cX0_worn 65 = .ok (.aload_n 0, 1) := dk_42 (dk_at dksX0_worn_2 19 rfl rfl)
theorem dX0_worn_66 : decode cX0_worn 66 = .ok (.getfield 72, 3) := dk_180 0 72 (dk_at dksX0_worn_2 20 rfl rfl)
theorem dX0_worn_69 : decode cX0_worn 69 = .ok (.getfield 271, 3) := dk_180 1 15 (dk_at dksX0_worn_3 0 rfl rfl)
theorem dX0_worn_72 : decode cX0_worn 72 = .ok (.iload_n 2, 1) := dk_28 (dk_at dksX0_worn_3 3 rfl rfl)
theorem dX0_worn_73 : decode cX0_worn 73 = .ok (.iastore, 1) := dk_79 (dk_at dksX0_worn_3 4 rfl rfl)
theorem dX0_worn_74 : decode cX0_worn 74 = .ok (.aload_n 0, 1) := dk_42 (dk_at dksX0_worn_3 5 rfl rfl)
theorem dX0_worn_75 : decode cX0_worn 75 = .ok (.getfield 72, 3) := dk_180 0 72 (dk_at dksX0_worn_3 6 rfl rfl)
theorem dX0_worn_78 : decode cX0_worn 78 = .ok (.dup, 1) := dk_89 (dk_at dksX0_worn_3 9 rfl rfl)
theorem dX0_worn_79 : decode cX0_worn 79 = .ok (.getfield 271, 3) := dk_180 1 15 (dk_at dksX0_worn_3 10 rfl rfl)
theorem dX0_worn_82 : decode cX0_worn 82 = .ok (.iconst 1, 1) := dk_4 (dk_at dksX0_worn_3 13 rfl rfl)
theorem dX0_worn_83 : decode cX0_worn 83 = .ok (.iadd, 1) := dk_96 (dk_at dksX0_worn_3 14 rfl rfl)
theorem dX0_worn_84 : decode cX0_worn 84 = .ok (.putfield 271, 3) := dk_181 1 15 (dk_at dksX0_worn_3 15 rfl rfl)
theorem dX0_worn_87 : decode cX0_worn 87 = .ok (.aload_n 0, 1) := dk_42 (dk_at dksX0_worn_3 18 rfl rfl)
theorem dX0_worn_88 : decode cX0_worn 88 = .ok (.getfield 72, 3) := dk_180 0 72 (dk_at dksX0_worn_3 19 rfl rfl)
theorem dX0_worn_91 : decode cX0_worn 91 = .ok (.getfield 271, 3) := dk_180 1 15 (dk_at dksX0_worn_4 0 rfl rfl)
theorem dX0_worn_94 : decode cX0_worn 94 = .ok (.ireturn, 1) := dk_172 (dk_at dksX0_worn_4 3 rfl rfl)
abbrev cX0_forget : ByteArray := prog_1_method_38_code
def yX0_forget : MethodName := ⟨RX0, "forget", "()I"⟩
def dkwX0_forget_0 : List UInt8 := [42, 180, 0, 72, 180, 1, 15, 60, 42, 180, 0, 72, 3, 181, 1, 15, 27, 172]
abbrev dktX0_forget_0 : List UInt8 := dkwX0_forget_0 ++ []
theorem dksX0_forget_0 : cX0_forget.data.toList.drop 0 = dktX0_forget_0 := by decide +kernel
theorem dX0_forget_0 : decode cX0_forget 0 = .ok (.aload_n 0, 1) := dk_42 (dk_at dksX0_forget_0 0 rfl rfl)
theorem dX0_forget_1 : decode cX0_forget 1 = .ok (.getfield 72, 3) := dk_180 0 72 (dk_at dksX0_forget_0 1 rfl rfl)
theorem dX0_forget_4 : decode cX0_forget 4 = .ok (.getfield 271, 3) := dk_180 1 15 (dk_at dksX0_forget_0 4 rfl rfl)
theorem dX0_forget_7 : decode cX0_forget 7 = .ok (.istore_n 1, 1) := dk_60 (dk_at dksX0_forget_0 7 rfl rfl)
theorem dX0_forget_8 : decode cX0_forget 8 = .ok (.aload_n 0, 1) := dk_42 (dk_at dksX0_forget_0 8 rfl rfl)
theorem dX0_forget_9 : decode cX0_forget 9 = .ok (.getfield 72, 3) := dk_180 0 72 (dk_at dksX0_forget_0 9 rfl rfl)
theorem dX0_forget_12 : decode cX0_forget 12 = .ok (.iconst 0, 1) := dk_3 (dk_at dksX0_forget_0 12 rfl rfl)
theorem dX0_forget_13 : decode cX0_forget 13 = .ok (.putfield 271, 3) := dk_181 1 15 (dk_at dksX0_forget_0 13 rfl rfl)
theorem dX0_forget_16 : decode cX0_forget 16 = .ok (.iload_n 1, 1) := dk_27 (dk_at dksX0_forget_0 16 rfl rfl)
theorem dX0_forget_17 : decode cX0_forget 17 = .ok (.ireturn, 1) := dk_172 (dk_at dksX0_forget_0 17 rfl rfl)
abbrev cX0_joins : ByteArray := prog_1_method_42_code
def yX0_joins : MethodName := ⟨RX0, "joins", "()I"⟩
def dkwX0_joins_0 : List UInt8 := [42, 182, 1, 34, 42, 180, 1, 24, 172]
abbrev dktX0_joins_0 : List UInt8 := dkwX0_joins_0 ++ []
theorem dksX0_joins_0 : cX0_joins.data.toList.drop 0 = dktX0_joins_0 := by decide +kernel
theorem dX0_joins_0 : decode cX0_joins 0 = .ok (.aload_n 0, 1) := dk_42 (dk_at dksX0_joins_0 0 rfl rfl)
theorem dX0_joins_1 : decode cX0_joins 1 = .ok (.invokevirtual 290, 3) := dk_182 1 34 (dk_at dksX0_joins_0 1 rfl rfl)
theorem dX0_joins_4 : decode cX0_joins 4 = .ok (.aload_n 0, 1) := dk_42 (dk_at dksX0_joins_0 4 rfl rfl)
theorem dX0_joins_5 : decode cX0_joins 5 = .ok (.getfield 280, 3) := dk_180 1 24 (dk_at dksX0_joins_0 5 rfl rfl)
theorem dX0_joins_8 : decode cX0_joins 8 = .ok (.ireturn, 1) := dk_172 (dk_at dksX0_joins_0 8 rfl rfl)
abbrev cX0_layJoins : ByteArray := prog_1_method_41_code
def yX0_layJoins : MethodName := ⟨RX0, "layJoins", "()V"⟩
def dkwX0_layJoins_4 : List UInt8 := [167, 255, 189, 177]
abbrev dktX0_layJoins_4 : List UInt8 := dkwX0_layJoins_4 ++ []
def dkwX0_layJoins_3 : List UInt8 := [8, 28, 104, 42, 180, 0, 94, 28, 46, 96, 92, 46, 4, 96, 79, 132, 2, 1, 167, 255, 229, 132, 1, 1]
abbrev dktX0_layJoins_3 : List UInt8 := dkwX0_layJoins_3 ++ dktX0_layJoins_4
def dkwX0_layJoins_2 : List UInt8 := [153, 0, 45, 42, 89, 180, 1, 24, 4, 96, 181, 1, 24, 3, 61, 28, 8, 162, 0, 28, 42, 180, 0, 91]
abbrev dktX0_layJoins_2 : List UInt8 := dkwX0_layJoins_2 ++ dktX0_layJoins_3
def dkwX0_layJoins_1 : List UInt8 := [167, 255, 240, 3, 60, 27, 17, 12, 53, 162, 0, 66, 42, 27, 182, 1, 27, 153, 0, 52, 42, 182, 1, 30]
abbrev dktX0_layJoins_1 : List UInt8 := dkwX0_layJoins_1 ++ dktX0_layJoins_2
def dkwX0_layJoins_0 : List UInt8 := [42, 3, 181, 1, 24, 3, 60, 27, 16, 25, 162, 0, 16, 42, 180, 0, 91, 27, 3, 79, 132, 1, 1]
abbrev dktX0_layJoins_0 : List UInt8 := dkwX0_layJoins_0 ++ dktX0_layJoins_1
theorem dksX0_layJoins_0 : cX0_layJoins.data.toList.drop 0 = dktX0_layJoins_0 := by decide +kernel
theorem dksX0_layJoins_1 : cX0_layJoins.data.toList.drop 23 = dktX0_layJoins_1 := dk_seg dksX0_layJoins_0 23 rfl rfl
theorem dksX0_layJoins_2 : cX0_layJoins.data.toList.drop 47 = dktX0_layJoins_2 := dk_seg dksX0_layJoins_1 24 rfl rfl
theorem dksX0_layJoins_3 : cX0_layJoins.data.toList.drop 71 = dktX0_layJoins_3 := dk_seg dksX0_layJoins_2 24 rfl rfl
theorem dksX0_layJoins_4 : cX0_layJoins.data.toList.drop 95 = dktX0_layJoins_4 := dk_seg dksX0_layJoins_3 24 rfl rfl
theorem dX0_layJoins_0 : decode cX0_layJoins 0 = .ok (.aload_n 0, 1) := dk_42 (dk_at dksX0_layJoins_0 0 rfl rfl)
theorem dX0_layJoins_1 : decode cX0_layJoins 1 = .ok (.iconst 0, 1) := dk_3 (dk_at dksX0_layJoins_0 1 rfl rfl)
theorem dX0_layJoins_2 : decode cX0_layJoins 2 = .ok (.putfield 280, 3) := dk_181 1 24 (dk_at dksX0_layJoins_0 2 rfl rfl)
theorem dX0_layJoins_5 : decode cX0_layJoins 5 = .ok (.iconst 0, 1) := dk_3 (dk_at dksX0_layJoins_0 5 rfl rfl)
theorem dX0_layJoins_6 : decode cX0_layJoins 6 = .ok (.istore_n 1, 1) := dk_60 (dk_at dksX0_layJoins_0 6 rfl rfl)
theorem dX0_layJoins_7 : decode cX0_layJoins 7 = .ok (.iload_n 1, 1) := dk_27 (dk_at dksX0_layJoins_0 7 rfl rfl)
theorem dX0_layJoins_8 : decode cX0_layJoins 8 = .ok (.bipush 25, 2) := dk_16 25 (dk_at dksX0_layJoins_0 8 rfl rfl)
theorem dX0_layJoins_10 : decode cX0_layJoins 10 = .ok (.if_icmp .ge 16, 3) := dk_162 0 16 (dk_at dksX0_layJoins_0 10 rfl rfl)
theorem dX0_layJoins_13 : decode cX0_layJoins 13 = .ok (.aload_n 0, 1) := dk_42 (dk_at dksX0_layJoins_0 13 rfl rfl)
theorem dX0_layJoins_14 : decode cX0_layJoins 14 = .ok (.getfield 91, 3) := dk_180 0 91 (dk_at dksX0_layJoins_0 14 rfl rfl)
theorem dX0_layJoins_17 : decode cX0_layJoins 17 = .ok (.iload_n 1, 1) := dk_27 (dk_at dksX0_layJoins_0 17 rfl rfl)
theorem dX0_layJoins_18 : decode cX0_layJoins 18 = .ok (.iconst 0, 1) := dk_3 (dk_at dksX0_layJoins_0 18 rfl rfl)
theorem dX0_layJoins_19 : decode cX0_layJoins 19 = .ok (.iastore, 1) := dk_79 (dk_at dksX0_layJoins_0 19 rfl rfl)
theorem dX0_layJoins_20 : decode cX0_layJoins 20 = .ok (.iinc 1 1, 3) := dk_132 1 1 (dk_at dksX0_layJoins_0 20 rfl rfl)
theorem dX0_layJoins_23 : decode cX0_layJoins 23 = .ok (.goto (-16), 3) := dk_167 255 240 (dk_at dksX0_layJoins_1 0 rfl rfl)
theorem dX0_layJoins_26 : decode cX0_layJoins 26 = .ok (.iconst 0, 1) := dk_3 (dk_at dksX0_layJoins_1 3 rfl rfl)
theorem dX0_layJoins_27 : decode cX0_layJoins 27 = .ok (.istore_n 1, 1) := dk_60 (dk_at dksX0_layJoins_1 4 rfl rfl)
theorem dX0_layJoins_28 : decode cX0_layJoins 28 = .ok (.iload_n 1, 1) := dk_27 (dk_at dksX0_layJoins_1 5 rfl rfl)
theorem dX0_layJoins_29 : decode cX0_layJoins 29 = .ok (.sipush 3125, 3) := dk_17 12 53 (dk_at dksX0_layJoins_1 6 rfl rfl)
theorem dX0_layJoins_32 : decode cX0_layJoins 32 = .ok (.if_icmp .ge 66, 3) := dk_162 0 66 (dk_at dksX0_layJoins_1 9 rfl rfl)
theorem dX0_layJoins_35 : decode cX0_layJoins 35 = .ok (.aload_n 0, 1) := dk_42 (dk_at dksX0_layJoins_1 12 rfl rfl)
theorem dX0_layJoins_36 : decode cX0_layJoins 36 = .ok (.iload_n 1, 1) := dk_27 (dk_at dksX0_layJoins_1 13 rfl rfl)
theorem dX0_layJoins_37 : decode cX0_layJoins 37 = .ok (.invokevirtual 283, 3) := dk_182 1 27 (dk_at dksX0_layJoins_1 14 rfl rfl)
theorem dX0_layJoins_40 : decode cX0_layJoins 40 = .ok (.ifCond .eq 52, 3) := dk_153 0 52 (dk_at dksX0_layJoins_1 17 rfl rfl)
theorem dX0_layJoins_43 : decode cX0_layJoins 43 = .ok (.aload_n 0, 1) := dk_42 (dk_at dksX0_layJoins_1 20 rfl rfl)
theorem dX0_layJoins_44 : decode cX0_layJoins 44 = .ok (.invokevirtual 286, 3) := dk_182 1 30 (dk_at dksX0_layJoins_1 21 rfl rfl)
theorem dX0_layJoins_47 : decode cX0_layJoins 47 = .ok (.ifCond .eq 45, 3) := dk_153 0 45 (dk_at dksX0_layJoins_2 0 rfl rfl)
theorem dX0_layJoins_50 : decode cX0_layJoins 50 = .ok (.aload_n 0, 1) := dk_42 (dk_at dksX0_layJoins_2 3 rfl rfl)
theorem dX0_layJoins_51 : decode cX0_layJoins 51 = .ok (.dup, 1) := dk_89 (dk_at dksX0_layJoins_2 4 rfl rfl)
theorem dX0_layJoins_52 : decode cX0_layJoins 52 = .ok (.getfield 280, 3) := dk_180 1 24 (dk_at dksX0_layJoins_2 5 rfl rfl)
theorem dX0_layJoins_55 : decode cX0_layJoins 55 = .ok (.iconst 1, 1) := dk_4 (dk_at dksX0_layJoins_2 8 rfl rfl)
theorem dX0_layJoins_56 : decode cX0_layJoins 56 = .ok (.iadd, 1) := dk_96 (dk_at dksX0_layJoins_2 9 rfl rfl)
theorem dX0_layJoins_57 : decode cX0_layJoins 57 = .ok (.putfield 280, 3) := dk_181 1 24 (dk_at dksX0_layJoins_2 10 rfl rfl)
theorem dX0_layJoins_60 : decode cX0_layJoins 60 = .ok (.iconst 0, 1) := dk_3 (dk_at dksX0_layJoins_2 13 rfl rfl)
theorem dX0_layJoins_61 : decode cX0_layJoins 61 = .ok (.istore_n 2, 1) := dk_61 (dk_at dksX0_layJoins_2 14 rfl rfl)
theorem dX0_layJoins_62 : decode cX0_layJoins 62 = .ok (.iload_n 2, 1) := dk_28 (dk_at dksX0_layJoins_2 15 rfl rfl)
theorem dX0_layJoins_63 : decode cX0_layJoins 63 = .ok (.iconst 5, 1) := dk_8 (dk_at dksX0_layJoins_2 16 rfl rfl)
theorem dX0_layJoins_64 : decode cX0_layJoins 64 = .ok (.if_icmp .ge 28, 3) := dk_162 0 28 (dk_at dksX0_layJoins_2 17 rfl rfl)
theorem dX0_layJoins_67 : decode cX0_layJoins 67 = .ok (.aload_n 0, 1) := dk_42 (dk_at dksX0_layJoins_2 20 rfl rfl)
theorem dX0_layJoins_68 : decode cX0_layJoins 68 = .ok (.getfield 91, 3) := dk_180 0 91 (dk_at dksX0_layJoins_2 21 rfl rfl)
theorem dX0_layJoins_71 : decode cX0_layJoins 71 = .ok (.iconst 5, 1) := dk_8 (dk_at dksX0_layJoins_3 0 rfl rfl)
theorem dX0_layJoins_72 : decode cX0_layJoins 72 = .ok (.iload_n 2, 1) := dk_28 (dk_at dksX0_layJoins_3 1 rfl rfl)
theorem dX0_layJoins_73 : decode cX0_layJoins 73 = .ok (.imul, 1) := dk_104 (dk_at dksX0_layJoins_3 2 rfl rfl)
theorem dX0_layJoins_74 : decode cX0_layJoins 74 = .ok (.aload_n 0, 1) := dk_42 (dk_at dksX0_layJoins_3 3 rfl rfl)
theorem dX0_layJoins_75 : decode cX0_layJoins 75 = .ok (.getfield 94, 3) := dk_180 0 94 (dk_at dksX0_layJoins_3 4 rfl rfl)
theorem dX0_layJoins_78 : decode cX0_layJoins 78 = .ok (.iload_n 2, 1) := dk_28 (dk_at dksX0_layJoins_3 7 rfl rfl)
theorem dX0_layJoins_79 : decode cX0_layJoins 79 = .ok (.iaload, 1) := dk_46 (dk_at dksX0_layJoins_3 8 rfl rfl)
theorem dX0_layJoins_80 : decode cX0_layJoins 80 = .ok (.iadd, 1) := dk_96 (dk_at dksX0_layJoins_3 9 rfl rfl)
theorem dX0_layJoins_81 : decode cX0_layJoins 81 = .ok (.dup2, 1) := dk_92 (dk_at dksX0_layJoins_3 10 rfl rfl)
theorem dX0_layJoins_82 : decode cX0_layJoins 82 = .ok (.iaload, 1) := dk_46 (dk_at dksX0_layJoins_3 11 rfl rfl)
theorem dX0_layJoins_83 : decode cX0_layJoins 83 = .ok (.iconst 1, 1) := dk_4 (dk_at dksX0_layJoins_3 12 rfl rfl)
theorem dX0_layJoins_84 : decode cX0_layJoins 84 = .ok (.iadd, 1) := dk_96 (dk_at dksX0_layJoins_3 13 rfl rfl)
theorem dX0_layJoins_85 : decode cX0_layJoins 85 = .ok (.iastore, 1) := dk_79 (dk_at dksX0_layJoins_3 14 rfl rfl)
theorem dX0_layJoins_86 : decode cX0_layJoins 86 = .ok (.iinc 2 1, 3) := dk_132 2 1 (dk_at dksX0_layJoins_3 15 rfl rfl)
theorem dX0_layJoins_89 : decode cX0_layJoins 89 = .ok (.goto (-27), 3) := dk_167 255 229 (dk_at dksX0_layJoins_3 18 rfl rfl)
theorem dX0_layJoins_92 : decode cX0_layJoins 92 = .ok (.iinc 1 1, 3) := dk_132 1 1 (dk_at dksX0_layJoins_3 21 rfl rfl)
theorem dX0_layJoins_95 : decode cX0_layJoins 95 = .ok (.goto (-67), 3) := dk_167 255 189 (dk_at dksX0_layJoins_4 0 rfl rfl)
theorem dX0_layJoins_98 : decode cX0_layJoins 98 = .ok (.return_, 1) := dk_177 (dk_at dksX0_layJoins_4 3 rfl rfl)
abbrev cX0_isJoin : ByteArray := prog_1_method_40_code
def yX0_isJoin : MethodName := ⟨RX0, "isJoin", "(I)Z"⟩
def dkwX0_isJoin_2 : List UInt8 := [160, 0, 7, 4, 167, 0, 4, 3, 172]
abbrev dktX0_isJoin_2 : List UInt8 := dkwX0_isJoin_2 ++ []
def dkwX0_isJoin_1 : List UInt8 := [8, 108, 61, 29, 4, 42, 180, 0, 94, 21, 4, 46, 120, 128, 62, 132, 4, 1, 167, 255, 221, 29, 16, 31]
abbrev dktX0_isJoin_1 : List UInt8 := dkwX0_isJoin_1 ++ dktX0_isJoin_2
def dkwX0_isJoin_0 : List UInt8 := [27, 61, 3, 62, 3, 54, 4, 21, 4, 8, 162, 0, 35, 42, 180, 0, 94, 21, 4, 28, 8, 112, 79, 28]
abbrev dktX0_isJoin_0 : List UInt8 := dkwX0_isJoin_0 ++ dktX0_isJoin_1
theorem dksX0_isJoin_0 : cX0_isJoin.data.toList.drop 0 = dktX0_isJoin_0 := by decide +kernel
theorem dksX0_isJoin_1 : cX0_isJoin.data.toList.drop 24 = dktX0_isJoin_1 := dk_seg dksX0_isJoin_0 24 rfl rfl
theorem dksX0_isJoin_2 : cX0_isJoin.data.toList.drop 48 = dktX0_isJoin_2 := dk_seg dksX0_isJoin_1 24 rfl rfl
theorem dX0_isJoin_0 : decode cX0_isJoin 0 = .ok (.iload_n 1, 1) := dk_27 (dk_at dksX0_isJoin_0 0 rfl rfl)
theorem dX0_isJoin_1 : decode cX0_isJoin 1 = .ok (.istore_n 2, 1) := dk_61 (dk_at dksX0_isJoin_0 1 rfl rfl)
theorem dX0_isJoin_2 : decode cX0_isJoin 2 = .ok (.iconst 0, 1) := dk_3 (dk_at dksX0_isJoin_0 2 rfl rfl)
theorem dX0_isJoin_3 : decode cX0_isJoin 3 = .ok (.istore_n 3, 1) := dk_62 (dk_at dksX0_isJoin_0 3 rfl rfl)
theorem dX0_isJoin_4 : decode cX0_isJoin 4 = .ok (.iconst 0, 1) := dk_3 (dk_at dksX0_isJoin_0 4 rfl rfl)
theorem dX0_isJoin_5 : decode cX0_isJoin 5 = .ok (.istore 4, 2) := dk_54 4 (dk_at dksX0_isJoin_0 5 rfl rfl)
theorem dX0_isJoin_7 : decode cX0_isJoin 7 = .ok (.iload 4, 2) := dk_21 4 (dk_at dksX0_isJoin_0 7 rfl rfl)
theorem dX0_isJoin_9 : decode cX0_isJoin 9 = .ok (.iconst 5, 1) := dk_8 (dk_at dksX0_isJoin_0 9 rfl rfl)
theorem dX0_isJoin_10 : decode cX0_isJoin 10 = .ok (.if_icmp .ge 35, 3) := dk_162 0 35 (dk_at dksX0_isJoin_0 10 rfl rfl)
theorem dX0_isJoin_13 : decode cX0_isJoin 13 = .ok (.aload_n 0, 1) := dk_42 (dk_at dksX0_isJoin_0 13 rfl rfl)
theorem dX0_isJoin_14 : decode cX0_isJoin 14 = .ok (.getfield 94, 3) := dk_180 0 94 (dk_at dksX0_isJoin_0 14 rfl rfl)
theorem dX0_isJoin_17 : decode cX0_isJoin 17 = .ok (.iload 4, 2) := dk_21 4 (dk_at dksX0_isJoin_0 17 rfl rfl)
theorem dX0_isJoin_19 : decode cX0_isJoin 19 = .ok (.iload_n 2, 1) := dk_28 (dk_at dksX0_isJoin_0 19 rfl rfl)
theorem dX0_isJoin_20 : decode cX0_isJoin 20 = .ok (.iconst 5, 1) := dk_8 (dk_at dksX0_isJoin_0 20 rfl rfl)
theorem dX0_isJoin_21 : decode cX0_isJoin 21 = .ok (.irem, 1) := dk_112 (dk_at dksX0_isJoin_0 21 rfl rfl)
theorem dX0_isJoin_22 : decode cX0_isJoin 22 = .ok (.iastore, 1) := dk_79 (dk_at dksX0_isJoin_0 22 rfl rfl)
theorem dX0_isJoin_23 : decode cX0_isJoin 23 = .ok (.iload_n 2, 1) := dk_28 (dk_at dksX0_isJoin_0 23 rfl rfl)
theorem dX0_isJoin_24 : decode cX0_isJoin 24 = .ok (.iconst 5, 1) := dk_8 (dk_at dksX0_isJoin_1 0 rfl rfl)
theorem dX0_isJoin_25 : decode cX0_isJoin 25 = .ok (.idiv, 1) := dk_108 (dk_at dksX0_isJoin_1 1 rfl rfl)
theorem dX0_isJoin_26 : decode cX0_isJoin 26 = .ok (.istore_n 2, 1) := dk_61 (dk_at dksX0_isJoin_1 2 rfl rfl)
theorem dX0_isJoin_27 : decode cX0_isJoin 27 = .ok (.iload_n 3, 1) := dk_29 (dk_at dksX0_isJoin_1 3 rfl rfl)
theorem dX0_isJoin_28 : decode cX0_isJoin 28 = .ok (.iconst 1, 1) := dk_4 (dk_at dksX0_isJoin_1 4 rfl rfl)
theorem dX0_isJoin_29 : decode cX0_isJoin 29 = .ok (.aload_n 0, 1) := dk_42 (dk_at dksX0_isJoin_1 5 rfl rfl)
theorem dX0_isJoin_30 : decode cX0_isJoin 30 = .ok (.getfield 94, 3) := dk_180 0 94 (dk_at dksX0_isJoin_1 6 rfl rfl)
theorem dX0_isJoin_33 : decode cX0_isJoin 33 = .ok (.iload 4, 2) := dk_21 4 (dk_at dksX0_isJoin_1 9 rfl rfl)
theorem dX0_isJoin_35 : decode cX0_isJoin 35 = .ok (.iaload, 1) := dk_46 (dk_at dksX0_isJoin_1 11 rfl rfl)
theorem dX0_isJoin_36 : decode cX0_isJoin 36 = .ok (.ishl, 1) := dk_120 (dk_at dksX0_isJoin_1 12 rfl rfl)
theorem dX0_isJoin_37 : decode cX0_isJoin 37 = .ok (.ior, 1) := dk_128 (dk_at dksX0_isJoin_1 13 rfl rfl)
theorem dX0_isJoin_38 : decode cX0_isJoin 38 = .ok (.istore_n 3, 1) := dk_62 (dk_at dksX0_isJoin_1 14 rfl rfl)
theorem dX0_isJoin_39 : decode cX0_isJoin 39 = .ok (.iinc 4 1, 3) := dk_132 4 1 (dk_at dksX0_isJoin_1 15 rfl rfl)
theorem dX0_isJoin_42 : decode cX0_isJoin 42 = .ok (.goto (-35), 3) := dk_167 255 221 (dk_at dksX0_isJoin_1 18 rfl rfl)
theorem dX0_isJoin_45 : decode cX0_isJoin 45 = .ok (.iload_n 3, 1) := dk_29 (dk_at dksX0_isJoin_1 21 rfl rfl)
theorem dX0_isJoin_46 : decode cX0_isJoin 46 = .ok (.bipush 31, 2) := dk_16 31 (dk_at dksX0_isJoin_1 22 rfl rfl)
theorem dX0_isJoin_48 : decode cX0_isJoin 48 = .ok (.if_icmp .ne 7, 3) := dk_160 0 7 (dk_at dksX0_isJoin_2 0 rfl rfl)
theorem dX0_isJoin_51 : decode cX0_isJoin 51 = .ok (.iconst 1, 1) := dk_4 (dk_at dksX0_isJoin_2 3 rfl rfl)
theorem dX0_isJoin_52 : decode cX0_isJoin 52 = .ok (.goto 4, 3) := dk_167 0 4 (dk_at dksX0_isJoin_2 4 rfl rfl)
theorem dX0_isJoin_55 : decode cX0_isJoin 55 = .ok (.iconst 0, 1) := dk_3 (dk_at dksX0_isJoin_2 7 rfl rfl)
theorem dX0_isJoin_56 : decode cX0_isJoin 56 = .ok (.ireturn, 1) := dk_172 (dk_at dksX0_isJoin_2 8 rfl rfl)
abbrev cX0_holds : ByteArray := prog_1_method_39_code
def yX0_holds : MethodName := ⟨RX0, "holds", "()Z"⟩
def dkwX0_holds_2 : List UInt8 := [172]
abbrev dktX0_holds_2 : List UInt8 := dkwX0_holds_2 ++ []
def dkwX0_holds_1 : List UInt8 := [27, 46, 46, 42, 180, 0, 72, 180, 1, 21, 27, 46, 159, 0, 5, 3, 172, 132, 1, 1, 167, 255, 214, 4]
abbrev dktX0_holds_1 : List UInt8 := dkwX0_holds_1 ++ dktX0_holds_2
def dkwX0_holds_0 : List UInt8 := [3, 60, 27, 42, 180, 0, 72, 180, 1, 15, 162, 0, 37, 42, 180, 0, 94, 42, 180, 0, 72, 180, 1, 18]
abbrev dktX0_holds_0 : List UInt8 := dkwX0_holds_0 ++ dktX0_holds_1
theorem dksX0_holds_0 : cX0_holds.data.toList.drop 0 = dktX0_holds_0 := by decide +kernel
theorem dksX0_holds_1 : cX0_holds.data.toList.drop 24 = dktX0_holds_1 := dk_seg dksX0_holds_0 24 rfl rfl
theorem dksX0_holds_2 : cX0_holds.data.toList.drop 48 = dktX0_holds_2 := dk_seg dksX0_holds_1 24 rfl rfl
theorem dX0_holds_0 : decode cX0_holds 0 = .ok (.iconst 0, 1) := dk_3 (dk_at dksX0_holds_0 0 rfl rfl)
theorem dX0_holds_1 : decode cX0_holds 1 = .ok (.istore_n 1, 1) := dk_60 (dk_at dksX0_holds_0 1 rfl rfl)
theorem dX0_holds_2 : decode cX0_holds 2 = .ok (.iload_n 1, 1) := dk_27 (dk_at dksX0_holds_0 2 rfl rfl)
theorem dX0_holds_3 : decode cX0_holds 3 = .ok (.aload_n 0, 1) := dk_42 (dk_at dksX0_holds_0 3 rfl rfl)
theorem dX0_holds_4 : decode cX0_holds 4 = .ok (.getfield 72, 3) := dk_180 0 72 (dk_at dksX0_holds_0 4 rfl rfl)
theorem dX0_holds_7 : decode cX0_holds 7 = .ok (.getfield 271, 3) := dk_180 1 15 (dk_at dksX0_holds_0 7 rfl rfl)
theorem dX0_holds_10 : decode cX0_holds 10 = .ok (.if_icmp .ge 37, 3) := dk_162 0 37 (dk_at dksX0_holds_0 10 rfl rfl)
theorem dX0_holds_13 : decode cX0_holds 13 = .ok (.aload_n 0, 1) := dk_42 (dk_at dksX0_holds_0 13 rfl rfl)
theorem dX0_holds_14 : decode cX0_holds 14 = .ok (.getfield 94, 3) := dk_180 0 94 (dk_at dksX0_holds_0 14 rfl rfl)
theorem dX0_holds_17 : decode cX0_holds 17 = .ok (.aload_n 0, 1) := dk_42 (dk_at dksX0_holds_0 17 rfl rfl)
theorem dX0_holds_18 : decode cX0_holds 18 = .ok (.getfield 72, 3) := dk_180 0 72 (dk_at dksX0_holds_0 18 rfl rfl)
theorem dX0_holds_21 : decode cX0_holds 21 = .ok (.getfield 274, 3) := dk_180 1 18 (dk_at dksX0_holds_0 21 rfl rfl)
theorem dX0_holds_24 : decode cX0_holds 24 = .ok (.iload_n 1, 1) := dk_27 (dk_at dksX0_holds_1 0 rfl rfl)
theorem dX0_holds_25 : decode cX0_holds 25 = .ok (.iaload, 1) := dk_46 (dk_at dksX0_holds_1 1 rfl rfl)
theorem dX0_holds_26 : decode cX0_holds 26 = .ok (.iaload, 1) := dk_46 (dk_at dksX0_holds_1 2 rfl rfl)
theorem dX0_holds_27 : decode cX0_holds 27 = .ok (.aload_n 0, 1) := dk_42 (dk_at dksX0_holds_1 3 rfl rfl)
theorem dX0_holds_28 : decode cX0_holds 28 = .ok (.getfield 72, 3) := dk_180 0 72 (dk_at dksX0_holds_1 4 rfl rfl)
theorem dX0_holds_31 : decode cX0_holds 31 = .ok (.getfield 277, 3) := dk_180 1 21 (dk_at dksX0_holds_1 7 rfl rfl)
theorem dX0_holds_34 : decode cX0_holds 34 = .ok (.iload_n 1, 1) := dk_27 (dk_at dksX0_holds_1 10 rfl rfl)
theorem dX0_holds_35 : decode cX0_holds 35 = .ok (.iaload, 1) := dk_46 (dk_at dksX0_holds_1 11 rfl rfl)
theorem dX0_holds_36 : decode cX0_holds 36 = .ok (.if_icmp .eq 5, 3) := dk_159 0 5 (dk_at dksX0_holds_1 12 rfl rfl)
theorem dX0_holds_39 : decode cX0_holds 39 = .ok (.iconst 0, 1) := dk_3 (dk_at dksX0_holds_1 15 rfl rfl)
theorem dX0_holds_40 : decode cX0_holds 40 = .ok (.ireturn, 1) := dk_172 (dk_at dksX0_holds_1 16 rfl rfl)
theorem dX0_holds_41 : decode cX0_holds 41 = .ok (.iinc 1 1, 3) := dk_132 1 1 (dk_at dksX0_holds_1 17 rfl rfl)
theorem dX0_holds_44 : decode cX0_holds 44 = .ok (.goto (-42), 3) := dk_167 255 214 (dk_at dksX0_holds_1 20 rfl rfl)
theorem dX0_holds_47 : decode cX0_holds 47 = .ok (.iconst 1, 1) := dk_4 (dk_at dksX0_holds_1 23 rfl rfl)
theorem dX0_holds_48 : decode cX0_holds 48 = .ok (.ireturn, 1) := dk_172 (dk_at dksX0_holds_2 0 rfl rfl)
abbrev cX0_sure : ByteArray := prog_1_method_43_code
def yX0_sure : MethodName := ⟨RX0, "sure", "(I)I"⟩
def dkwX0_sure_2 : List UInt8 := [160, 0, 5, 28, 172, 132, 2, 1, 167, 255, 222, 18, 3, 172]
abbrev dktX0_sure_2 : List UInt8 := dkwX0_sure_2 ++ []
def dkwX0_sure_1 : List UInt8 := [162, 0, 35, 42, 180, 1, 24, 158, 0, 22, 42, 180, 0, 91, 8, 27, 104, 28, 96, 46, 42, 180, 1, 24]
abbrev dktX0_sure_1 : List UInt8 := dkwX0_sure_1 ++ dktX0_sure_2
def dkwX0_sure_0 : List UInt8 := [27, 133, 9, 20, 1, 13, 184, 0, 121, 154, 0, 6, 18, 135, 172, 42, 182, 1, 34, 3, 61, 28, 8]
abbrev dktX0_sure_0 : List UInt8 := dkwX0_sure_0 ++ dktX0_sure_1
theorem dksX0_sure_0 : cX0_sure.data.toList.drop 0 = dktX0_sure_0 := by decide +kernel
theorem dksX0_sure_1 : cX0_sure.data.toList.drop 23 = dktX0_sure_1 := dk_seg dksX0_sure_0 23 rfl rfl
theorem dksX0_sure_2 : cX0_sure.data.toList.drop 47 = dktX0_sure_2 := dk_seg dksX0_sure_1 24 rfl rfl
theorem dX0_sure_0 : decode cX0_sure 0 = .ok (.iload_n 1, 1) := dk_27 (dk_at dksX0_sure_0 0 rfl rfl)
theorem dX0_sure_1 : decode cX0_sure 1 = .ok (.i2l, 1) := dk_133 (dk_at dksX0_sure_0 1 rfl rfl)
theorem dX0_sure_2 : decode cX0_sure 2 = .ok (.lconst 0, 1) := dk_9 (dk_at dksX0_sure_0 2 rfl rfl)
theorem dX0_sure_3 : decode cX0_sure 3 = .ok (.ldc2_w 269, 3) := dk_20 1 13 (dk_at dksX0_sure_0 3 rfl rfl)
theorem dX0_sure_6 : decode cX0_sure 6 = .ok (.invokestatic 121, 3) := dk_184 0 121 (dk_at dksX0_sure_0 6 rfl rfl)
theorem dX0_sure_9 : decode cX0_sure 9 = .ok (.ifCond .ne 6, 3) := dk_154 0 6 (dk_at dksX0_sure_0 9 rfl rfl)
theorem dX0_sure_12 : decode cX0_sure 12 = .ok (.ldc 135, 2) := dk_18 135 (dk_at dksX0_sure_0 12 rfl rfl)
theorem dX0_sure_14 : decode cX0_sure 14 = .ok (.ireturn, 1) := dk_172 (dk_at dksX0_sure_0 14 rfl rfl)
theorem dX0_sure_15 : decode cX0_sure 15 = .ok (.aload_n 0, 1) := dk_42 (dk_at dksX0_sure_0 15 rfl rfl)
theorem dX0_sure_16 : decode cX0_sure 16 = .ok (.invokevirtual 290, 3) := dk_182 1 34 (dk_at dksX0_sure_0 16 rfl rfl)
theorem dX0_sure_19 : decode cX0_sure 19 = .ok (.iconst 0, 1) := dk_3 (dk_at dksX0_sure_0 19 rfl rfl)
theorem dX0_sure_20 : decode cX0_sure 20 = .ok (.istore_n 2, 1) := dk_61 (dk_at dksX0_sure_0 20 rfl rfl)
theorem dX0_sure_21 : decode cX0_sure 21 = .ok (.iload_n 2, 1) := dk_28 (dk_at dksX0_sure_0 21 rfl rfl)
theorem dX0_sure_22 : decode cX0_sure 22 = .ok (.iconst 5, 1) := dk_8 (dk_at dksX0_sure_0 22 rfl rfl)
theorem dX0_sure_23 : decode cX0_sure 23 = .ok (.if_icmp .ge 35, 3) := dk_162 0 35 (dk_at dksX0_sure_1 0 rfl rfl)
theorem dX0_sure_26 : decode cX0_sure 26 = .ok (.aload_n 0, 1) := dk_42 (dk_at dksX0_sure_1 3 rfl rfl)
theorem dX0_sure_27 : decode cX0_sure 27 = .ok (.getfield 280, 3) := dk_180 1 24 (dk_at dksX0_sure_1 4 rfl rfl)
theorem dX0_sure_30 : decode cX0_sure 30 = .ok (.ifCond .le 22, 3) := dk_158 0 22 (dk_at dksX0_sure_1 7 rfl rfl)
theorem dX0_sure_33 : decode cX0_sure 33 = .ok (.aload_n 0, 1) := dk_42 (dk_at dksX0_sure_1 10 rfl rfl)
theorem dX0_sure_34 : decode cX0_sure 34 = .ok (.getfield 91, 3) := dk_180 0 91 (dk_at dksX0_sure_1 11 rfl rfl)
theorem dX0_sure_37 : decode cX0_sure 37 = .ok (.iconst 5, 1) := dk_8 (dk_at dksX0_sure_1 14 rfl rfl)
theorem dX0_sure_38 : decode cX0_sure 38 = .ok (.iload_n 1, 1) := dk_27 (dk_at dksX0_sure_1 15 rfl rfl)
theorem dX0_sure_39 : decode cX0_sure 39 = .ok (.imul, 1) := dk_104 (dk_at dksX0_sure_1 16 rfl rfl)
theorem dX0_sure_40 : decode cX0_sure 40 = .ok (.iload_n 2, 1) := dk_28 (dk_at dksX0_sure_1 17 rfl rfl)
theorem dX0_sure_41 : decode cX0_sure 41 = .ok (.iadd, 1) := dk_96 (dk_at dksX0_sure_1 18 rfl rfl)
theorem dX0_sure_42 : decode cX0_sure 42 = .ok (.iaload, 1) := dk_46 (dk_at dksX0_sure_1 19 rfl rfl)
theorem dX0_sure_43 : decode cX0_sure 43 = .ok (.aload_n 0, 1) := dk_42 (dk_at dksX0_sure_1 20 rfl rfl)
theorem dX0_sure_44 : decode cX0_sure 44 = .ok (.getfield 280, 3) := dk_180 1 24 (dk_at dksX0_sure_1 21 rfl rfl)
theorem dX0_sure_47 : decode cX0_sure 47 = .ok (.if_icmp .ne 5, 3) := dk_160 0 5 (dk_at dksX0_sure_2 0 rfl rfl)
theorem dX0_sure_50 : decode cX0_sure 50 = .ok (.iload_n 2, 1) := dk_28 (dk_at dksX0_sure_2 3 rfl rfl)
theorem dX0_sure_51 : decode cX0_sure 51 = .ok (.ireturn, 1) := dk_172 (dk_at dksX0_sure_2 4 rfl rfl)
theorem dX0_sure_52 : decode cX0_sure 52 = .ok (.iinc 2 1, 3) := dk_132 2 1 (dk_at dksX0_sure_2 5 rfl rfl)
theorem dX0_sure_55 : decode cX0_sure 55 = .ok (.goto (-34), 3) := dk_167 255 222 (dk_at dksX0_sure_2 8 rfl rfl)
theorem dX0_sure_58 : decode cX0_sure 58 = .ok (.ldc 3, 2) := dk_18 3 (dk_at dksX0_sure_2 11 rfl rfl)
theorem dX0_sure_60 : decode cX0_sure 60 = .ok (.ireturn, 1) := dk_172 (dk_at dksX0_sure_2 13 rfl rfl)
abbrev cX0_better : ByteArray := prog_1_method_44_code
def yX0_better : MethodName := ⟨RX0, "better", "(I)I"⟩
def dkwX0_better_5 : List UInt8 := [172]
abbrev dktX0_better_5 : List UInt8 := dkwX0_better_5 ++ []
def dkwX0_better_4 : List UInt8 := [132, 4, 1, 167, 255, 187, 28, 156, 0, 8, 18, 3, 167, 0, 12, 27, 154, 0, 7, 28, 167, 0, 4, 29]
abbrev dktX0_better_4 : List UInt8 := dkwX0_better_4 ++ dktX0_better_5
def dkwX0_better_3 : List UInt8 := [132, 6, 1, 167, 255, 228, 28, 155, 0, 9, 21, 5, 29, 162, 0, 9, 21, 4, 61, 21, 5, 62]
abbrev dktX0_better_3 : List UInt8 := dkwX0_better_3 ++ dktX0_better_4
def dkwX0_better_2 : List UInt8 := [162, 0, 28, 21, 5, 42, 180, 0, 91, 8, 21, 4, 104, 21, 6, 96, 46, 184, 0, 10, 54, 5]
abbrev dktX0_better_2 : List UInt8 := dkwX0_better_2 ++ dktX0_better_3
def dkwX0_better_1 : List UInt8 := [21, 4, 8, 162, 0, 69, 42, 180, 1, 24, 158, 0, 62, 3, 54, 5, 3, 54, 6, 21, 6, 8]
abbrev dktX0_better_1 : List UInt8 := dkwX0_better_1 ++ dktX0_better_2
def dkwX0_better_0 : List UInt8 := [27, 133, 9, 10, 184, 0, 121, 154, 0, 6, 18, 135, 172, 42, 182, 1, 34, 2, 61, 3, 62, 3, 54, 4]
abbrev dktX0_better_0 : List UInt8 := dkwX0_better_0 ++ dktX0_better_1
theorem dksX0_better_0 : cX0_better.data.toList.drop 0 = dktX0_better_0 := by decide +kernel
theorem dksX0_better_1 : cX0_better.data.toList.drop 24 = dktX0_better_1 := dk_seg dksX0_better_0 24 rfl rfl
theorem dksX0_better_2 : cX0_better.data.toList.drop 46 = dktX0_better_2 := dk_seg dksX0_better_1 22 rfl rfl
theorem dksX0_better_3 : cX0_better.data.toList.drop 68 = dktX0_better_3 := dk_seg dksX0_better_2 22 rfl rfl
theorem dksX0_better_4 : cX0_better.data.toList.drop 90 = dktX0_better_4 := dk_seg dksX0_better_3 22 rfl rfl
theorem dksX0_better_5 : cX0_better.data.toList.drop 114 = dktX0_better_5 := dk_seg dksX0_better_4 24 rfl rfl
theorem dX0_better_0 : decode cX0_better 0 = .ok (.iload_n 1, 1) := dk_27 (dk_at dksX0_better_0 0 rfl rfl)
theorem dX0_better_1 : decode cX0_better 1 = .ok (.i2l, 1) := dk_133 (dk_at dksX0_better_0 1 rfl rfl)
theorem dX0_better_2 : decode cX0_better 2 = .ok (.lconst 0, 1) := dk_9 (dk_at dksX0_better_0 2 rfl rfl)
theorem dX0_better_3 : decode cX0_better 3 = .ok (.lconst 1, 1) := dk_10 (dk_at dksX0_better_0 3 rfl rfl)
theorem dX0_better_4 : decode cX0_better 4 = .ok (.invokestatic 121, 3) := dk_184 0 121 (dk_at dksX0_better_0 4 rfl rfl)
theorem dX0_better_7 : decode cX0_better 7 = .ok (.ifCond .ne 6, 3) := dk_154 0 6 (dk_at dksX0_better_0 7 rfl rfl)
theorem dX0_better_10 : decode cX0_better 10 = .ok (.ldc 135, 2) := dk_18 135 (dk_at dksX0_better_0 10 rfl rfl)
theorem dX0_better_12 : decode cX0_better 12 = .ok (.ireturn, 1) := dk_172 (dk_at dksX0_better_0 12 rfl rfl)
theorem dX0_better_13 : decode cX0_better 13 = .ok (.aload_n 0, 1) := dk_42 (dk_at dksX0_better_0 13 rfl rfl)
theorem dX0_better_14 : decode cX0_better 14 = .ok (.invokevirtual 290, 3) := dk_182 1 34 (dk_at dksX0_better_0 14 rfl rfl)
theorem dX0_better_17 : decode cX0_better 17 = .ok (.iconst (-1), 1) := dk_2 (dk_at dksX0_better_0 17 rfl rfl)
theorem dX0_better_18 : decode cX0_better 18 = .ok (.istore_n 2, 1) := dk_61 (dk_at dksX0_better_0 18 rfl rfl)
theorem dX0_better_19 : decode cX0_better 19 = .ok (.iconst 0, 1) := dk_3 (dk_at dksX0_better_0 19 rfl rfl)
theorem dX0_better_20 : decode cX0_better 20 = .ok (.istore_n 3, 1) := dk_62 (dk_at dksX0_better_0 20 rfl rfl)
theorem dX0_better_21 : decode cX0_better 21 = .ok (.iconst 0, 1) := dk_3 (dk_at dksX0_better_0 21 rfl rfl)
theorem dX0_better_22 : decode cX0_better 22 = .ok (.istore 4, 2) := dk_54 4 (dk_at dksX0_better_0 22 rfl rfl)
theorem dX0_better_24 : decode cX0_better 24 = .ok (.iload 4, 2) := dk_21 4 (dk_at dksX0_better_1 0 rfl rfl)
theorem dX0_better_26 : decode cX0_better 26 = .ok (.iconst 5, 1) := dk_8 (dk_at dksX0_better_1 2 rfl rfl)
theorem dX0_better_27 : decode cX0_better 27 = .ok (.if_icmp .ge 69, 3) := dk_162 0 69 (dk_at dksX0_better_1 3 rfl rfl)
theorem dX0_better_30 : decode cX0_better 30 = .ok (.aload_n 0, 1) := dk_42 (dk_at dksX0_better_1 6 rfl rfl)
theorem dX0_better_31 : decode cX0_better 31 = .ok (.getfield 280, 3) := dk_180 1 24 (dk_at dksX0_better_1 7 rfl rfl)
theorem dX0_better_34 : decode cX0_better 34 = .ok (.ifCond .le 62, 3) := dk_158 0 62 (dk_at dksX0_better_1 10 rfl rfl)
theorem dX0_better_37 : decode cX0_better 37 = .ok (.iconst 0, 1) := dk_3 (dk_at dksX0_better_1 13 rfl rfl)
theorem dX0_better_38 : decode cX0_better 38 = .ok (.istore 5, 2) := dk_54 5 (dk_at dksX0_better_1 14 rfl rfl)
theorem dX0_better_40 : decode cX0_better 40 = .ok (.iconst 0, 1) := dk_3 (dk_at dksX0_better_1 16 rfl rfl)
theorem dX0_better_41 : decode cX0_better 41 = .ok (.istore 6, 2) := dk_54 6 (dk_at dksX0_better_1 17 rfl rfl)
theorem dX0_better_43 : decode cX0_better 43 = .ok (.iload 6, 2) := dk_21 6 (dk_at dksX0_better_1 19 rfl rfl)
theorem dX0_better_45 : decode cX0_better 45 = .ok (.iconst 5, 1) := dk_8 (dk_at dksX0_better_1 21 rfl rfl)
theorem dX0_better_46 : decode cX0_better 46 = .ok (.if_icmp .ge 28, 3) := dk_162 0 28 (dk_at dksX0_better_2 0 rfl rfl)
theorem dX0_better_49 : decode cX0_better 49 = .ok (.iload 5, 2) := dk_21 5 (dk_at dksX0_better_2 3 rfl rfl)
theorem dX0_better_51 : decode cX0_better 51 = .ok (.aload_n 0, 1) := dk_42 (dk_at dksX0_better_2 5 rfl rfl)
theorem dX0_better_52 : decode cX0_better 52 = .ok (.getfield 91, 3) := dk_180 0 91 (dk_at dksX0_better_2 6 rfl rfl)
theorem dX0_better_55 : decode cX0_better 55 = .ok (.iconst 5, 1) := dk_8 (dk_at dksX0_better_2 9 rfl rfl)
theorem dX0_better_56 : decode cX0_better 56 = .ok (.iload 4, 2) := dk_21 4 (dk_at dksX0_better_2 10 rfl rfl)
theorem dX0_better_58 : decode cX0_better 58 = .ok (.imul, 1) := dk_104 (dk_at dksX0_better_2 12 rfl rfl)
theorem dX0_better_59 : decode cX0_better 59 = .ok (.iload 6, 2) := dk_21 6 (dk_at dksX0_better_2 13 rfl rfl)
theorem dX0_better_61 : decode cX0_better 61 = .ok (.iadd, 1) := dk_96 (dk_at dksX0_better_2 15 rfl rfl)
theorem dX0_better_62 : decode cX0_better 62 = .ok (.iaload, 1) := dk_46 (dk_at dksX0_better_2 16 rfl rfl)
theorem dX0_better_63 : decode cX0_better 63 = .ok (.invokestatic 10, 3) := dk_184 0 10 (dk_at dksX0_better_2 17 rfl rfl)
theorem dX0_better_66 : decode cX0_better 66 = .ok (.istore 5, 2) := dk_54 5 (dk_at dksX0_better_2 20 rfl rfl)
theorem dX0_better_68 : decode cX0_better 68 = .ok (.iinc 6 1, 3) := dk_132 6 1 (dk_at dksX0_better_3 0 rfl rfl)
theorem dX0_better_71 : decode cX0_better 71 = .ok (.goto (-28), 3) := dk_167 255 228 (dk_at dksX0_better_3 3 rfl rfl)
theorem dX0_better_74 : decode cX0_better 74 = .ok (.iload_n 2, 1) := dk_28 (dk_at dksX0_better_3 6 rfl rfl)
theorem dX0_better_75 : decode cX0_better 75 = .ok (.ifCond .lt 9, 3) := dk_155 0 9 (dk_at dksX0_better_3 7 rfl rfl)
theorem dX0_better_78 : decode cX0_better 78 = .ok (.iload 5, 2) := dk_21 5 (dk_at dksX0_better_3 10 rfl rfl)
theorem dX0_better_80 : decode cX0_better 80 = .ok (.iload_n 3, 1) := dk_29 (dk_at dksX0_better_3 12 rfl rfl)
theorem dX0_better_81 : decode cX0_better 81 = .ok (.if_icmp .ge 9, 3) := dk_162 0 9 (dk_at dksX0_better_3 13 rfl rfl)
theorem dX0_better_84 : decode cX0_better 84 = .ok (.iload 4, 2) := dk_21 4 (dk_at dksX0_better_3 16 rfl rfl)
theorem dX0_better_86 : decode cX0_better 86 = .ok (.istore_n 2, 1) := dk_61 (dk_at dksX0_better_3 18 rfl rfl)
theorem dX0_better_87 : decode cX0_better 87 = .ok (.iload 5, 2) := dk_21 5 (dk_at dksX0_better_3 19 rfl rfl)
theorem dX0_better_89 : decode cX0_better 89 = .ok (.istore_n 3, 1) := dk_62 (dk_at dksX0_better_3 21 rfl rfl)
theorem dX0_better_90 : decode cX0_better 90 = .ok (.iinc 4 1, 3) := dk_132 4 1 (dk_at dksX0_better_4 0 rfl rfl)
theorem dX0_better_93 : decode cX0_better 93 = .ok (.goto (-69), 3) := dk_167 255 187 (dk_at dksX0_better_4 3 rfl rfl)
theorem dX0_better_96 : decode cX0_better 96 = .ok (.iload_n 2, 1) := dk_28 (dk_at dksX0_better_4 6 rfl rfl)
theorem dX0_better_97 : decode cX0_better 97 = .ok (.ifCond .ge 8, 3) := dk_156 0 8 (dk_at dksX0_better_4 7 rfl rfl)
theorem dX0_better_100 : decode cX0_better 100 = .ok (.ldc 3, 2) := dk_18 3 (dk_at dksX0_better_4 10 rfl rfl)
theorem dX0_better_102 : decode cX0_better 102 = .ok (.goto 12, 3) := dk_167 0 12 (dk_at dksX0_better_4 12 rfl rfl)
theorem dX0_better_105 : decode cX0_better 105 = .ok (.iload_n 1, 1) := dk_27 (dk_at dksX0_better_4 15 rfl rfl)
theorem dX0_better_106 : decode cX0_better 106 = .ok (.ifCond .ne 7, 3) := dk_154 0 7 (dk_at dksX0_better_4 16 rfl rfl)
theorem dX0_better_109 : decode cX0_better 109 = .ok (.iload_n 2, 1) := dk_28 (dk_at dksX0_better_4 19 rfl rfl)
theorem dX0_better_110 : decode cX0_better 110 = .ok (.goto 4, 3) := dk_167 0 4 (dk_at dksX0_better_4 20 rfl rfl)
theorem dX0_better_113 : decode cX0_better 113 = .ok (.iload_n 3, 1) := dk_29 (dk_at dksX0_better_4 23 rfl rfl)
theorem dX0_better_114 : decode cX0_better 114 = .ok (.ireturn, 1) := dk_172 (dk_at dksX0_better_5 0 rfl rfl)
abbrev cX0_feed : ByteArray := prog_1_method_60_code
def yX0_feed : MethodName := ⟨RX0, "feed", "(III)I"⟩
def dkwX0_feed_4 : List UInt8 := [180, 1, 37, 172]
abbrev dktX0_feed_4 : List UInt8 := dkwX0_feed_4 ++ []
def dkwX0_feed_3 : List UInt8 := [104, 100, 122, 145, 84, 132, 4, 1, 167, 255, 196, 42, 89, 180, 1, 37, 16, 12, 96, 181, 1, 37, 42]
abbrev dktX0_feed_3 : List UInt8 := dkwX0_feed_3 ++ dktX0_feed_4
def dkwX0_feed_2 : List UInt8 := [29, 54, 5, 42, 180, 0, 97, 42, 180, 1, 37, 21, 4, 96, 21, 5, 16, 24, 16, 8, 21, 4, 7, 112]
abbrev dktX0_feed_2 : List UInt8 := dkwX0_feed_2 ++ dktX0_feed_3
def dkwX0_feed_1 : List UInt8 := [162, 0, 59, 21, 4, 7, 162, 0, 7, 27, 167, 0, 15, 21, 4, 16, 8, 162, 0, 7, 28, 167, 0, 4]
abbrev dktX0_feed_1 : List UInt8 := dkwX0_feed_1 ++ dktX0_feed_2
def dkwX0_feed_0 : List UInt8 := [42, 180, 1, 37, 16, 12, 96, 16, 96, 164, 0, 6, 18, 136, 172, 3, 54, 4, 21, 4, 16, 12]
abbrev dktX0_feed_0 : List UInt8 := dkwX0_feed_0 ++ dktX0_feed_1
theorem dksX0_feed_0 : cX0_feed.data.toList.drop 0 = dktX0_feed_0 := by decide +kernel
theorem dksX0_feed_1 : cX0_feed.data.toList.drop 22 = dktX0_feed_1 := dk_seg dksX0_feed_0 22 rfl rfl
theorem dksX0_feed_2 : cX0_feed.data.toList.drop 46 = dktX0_feed_2 := dk_seg dksX0_feed_1 24 rfl rfl
theorem dksX0_feed_3 : cX0_feed.data.toList.drop 70 = dktX0_feed_3 := dk_seg dksX0_feed_2 24 rfl rfl
theorem dksX0_feed_4 : cX0_feed.data.toList.drop 93 = dktX0_feed_4 := dk_seg dksX0_feed_3 23 rfl rfl
theorem dX0_feed_0 : decode cX0_feed 0 = .ok (.aload_n 0, 1) := dk_42 (dk_at dksX0_feed_0 0 rfl rfl)
theorem dX0_feed_1 : decode cX0_feed 1 = .ok (.getfield 293, 3) := dk_180 1 37 (dk_at dksX0_feed_0 1 rfl rfl)
theorem dX0_feed_4 : decode cX0_feed 4 = .ok (.bipush 12, 2) := dk_16 12 (dk_at dksX0_feed_0 4 rfl rfl)
theorem dX0_feed_6 : decode cX0_feed 6 = .ok (.iadd, 1) := dk_96 (dk_at dksX0_feed_0 6 rfl rfl)
theorem dX0_feed_7 : decode cX0_feed 7 = .ok (.bipush 96, 2) := dk_16 96 (dk_at dksX0_feed_0 7 rfl rfl)
theorem dX0_feed_9 : decode cX0_feed 9 = .ok (.if_icmp .le 6, 3) := dk_164 0 6 (dk_at dksX0_feed_0 9 rfl rfl)
theorem dX0_feed_12 : decode cX0_feed 12 = .ok (.ldc 136, 2) := dk_18 136 (dk_at dksX0_feed_0 12 rfl rfl)
theorem dX0_feed_14 : decode cX0_feed 14 = .ok (.ireturn, 1) := dk_172 (dk_at dksX0_feed_0 14 rfl rfl)
theorem dX0_feed_15 : decode cX0_feed 15 = .ok (.iconst 0, 1) := dk_3 (dk_at dksX0_feed_0 15 rfl rfl)
theorem dX0_feed_16 : decode cX0_feed 16 = .ok (.istore 4, 2) := dk_54 4 (dk_at dksX0_feed_0 16 rfl rfl)
theorem dX0_feed_18 : decode cX0_feed 18 = .ok (.iload 4, 2) := dk_21 4 (dk_at dksX0_feed_0 18 rfl rfl)
theorem dX0_feed_20 : decode cX0_feed 20 = .ok (.bipush 12, 2) := dk_16 12 (dk_at dksX0_feed_0 20 rfl rfl)
theorem dX0_feed_22 : decode cX0_feed 22 = .ok (.if_icmp .ge 59, 3) := dk_162 0 59 (dk_at dksX0_feed_1 0 rfl rfl)
theorem dX0_feed_25 : decode cX0_feed 25 = .ok (.iload 4, 2) := dk_21 4 (dk_at dksX0_feed_1 3 rfl rfl)
theorem dX0_feed_27 : decode cX0_feed 27 = .ok (.iconst 4, 1) := dk_7 (dk_at dksX0_feed_1 5 rfl rfl)
theorem dX0_feed_28 : decode cX0_feed 28 = .ok (.if_icmp .ge 7, 3) := dk_162 0 7 (dk_at dksX0_feed_1 6 rfl rfl)
theorem dX0_feed_31 : decode cX0_feed 31 = .ok (.iload_n 1, 1) := dk_27 (dk_at dksX0_feed_1 9 rfl rfl)
theorem dX0_feed_32 : decode cX0_feed 32 = .ok (.goto 15, 3) := dk_167 0 15 (dk_at dksX0_feed_1 10 rfl rfl)
theorem dX0_feed_35 : decode cX0_feed 35 = .ok (.iload 4, 2) := dk_21 4 (dk_at dksX0_feed_1 13 rfl rfl)
theorem dX0_feed_37 : decode cX0_feed 37 = .ok (.bipush 8, 2) := dk_16 8 (dk_at dksX0_feed_1 15 rfl rfl)
theorem dX0_feed_39 : decode cX0_feed 39 = .ok (.if_icmp .ge 7, 3) := dk_162 0 7 (dk_at dksX0_feed_1 17 rfl rfl)
theorem dX0_feed_42 : decode cX0_feed 42 = .ok (.iload_n 2, 1) := dk_28 (dk_at dksX0_feed_1 20 rfl rfl)
theorem dX0_feed_43 : decode cX0_feed 43 = .ok (.goto 4, 3) := dk_167 0 4 (dk_at dksX0_feed_1 21 rfl rfl)
theorem dX0_feed_46 : decode cX0_feed 46 = .ok (.iload_n 3, 1) := dk_29 (dk_at dksX0_feed_2 0 rfl rfl)
theorem dX0_feed_47 : decode cX0_feed 47 = .ok (.istore 5, 2) := dk_54 5 (dk_at dksX0_feed_2 1 rfl rfl)
theorem dX0_feed_49 : decode cX0_feed 49 = .ok (.aload_n 0, 1) := dk_42 (dk_at dksX0_feed_2 3 rfl rfl)
theorem dX0_feed_50 : decode cX0_feed 50 = .ok (.getfield 97, 3) := dk_180 0 97 (dk_at dksX0_feed_2 4 rfl rfl)
theorem dX0_feed_53 : decode cX0_feed 53 = .ok (.aload_n 0, 1) := dk_42 (dk_at dksX0_feed_2 7 rfl rfl)
theorem dX0_feed_54 : decode cX0_feed 54 = .ok (.getfield 293, 3) := dk_180 1 37 (dk_at dksX0_feed_2 8 rfl rfl)
theorem dX0_feed_57 : decode cX0_feed 57 = .ok (.iload 4, 2) := dk_21 4 (dk_at dksX0_feed_2 11 rfl rfl)
theorem dX0_feed_59 : decode cX0_feed 59 = .ok (.iadd, 1) := dk_96 (dk_at dksX0_feed_2 13 rfl rfl)
theorem dX0_feed_60 : decode cX0_feed 60 = .ok (.iload 5, 2) := dk_21 5 (dk_at dksX0_feed_2 14 rfl rfl)
theorem dX0_feed_62 : decode cX0_feed 62 = .ok (.bipush 24, 2) := dk_16 24 (dk_at dksX0_feed_2 16 rfl rfl)
theorem dX0_feed_64 : decode cX0_feed 64 = .ok (.bipush 8, 2) := dk_16 8 (dk_at dksX0_feed_2 18 rfl rfl)
theorem dX0_feed_66 : decode cX0_feed 66 = .ok (.iload 4, 2) := dk_21 4 (dk_at dksX0_feed_2 20 rfl rfl)
theorem dX0_feed_68 : decode cX0_feed 68 = .ok (.iconst 4, 1) := dk_7 (dk_at dksX0_feed_2 22 rfl rfl)
theorem dX0_feed_69 : decode cX0_feed 69 = .ok (.irem, 1) := dk_112 (dk_at dksX0_feed_2 23 rfl rfl)
theorem dX0_feed_70 : decode cX0_feed 70 = .ok (.imul, 1) := dk_104 (dk_at dksX0_feed_3 0 rfl rfl)
theorem dX0_feed_71 : decode cX0_feed 71 = .ok (.isub, 1) := dk_100 (dk_at dksX0_feed_3 1 rfl rfl)
theorem dX0_feed_72 : decode cX0_feed 72 = .ok (.ishr, 1) := dk_122 (dk_at dksX0_feed_3 2 rfl rfl)
theorem dX0_feed_73 : decode cX0_feed 73 = .ok (.i2b, 1) := dk_145 (dk_at dksX0_feed_3 3 rfl rfl)
theorem dX0_feed_74 : decode cX0_feed 74 = .ok (.bastore, 1) := dk_84 (dk_at dksX0_feed_3 4 rfl rfl)
theorem dX0_feed_75 : decode cX0_feed 75 = .ok (.iinc 4 1, 3) := dk_132 4 1 (dk_at dksX0_feed_3 5 rfl rfl)
theorem dX0_feed_78 : decode cX0_feed 78 = .ok (.goto (-60), 3) := dk_167 255 196 (dk_at dksX0_feed_3 8 rfl rfl)
theorem dX0_feed_81 : decode cX0_feed 81 = .ok (.aload_n 0, 1) := dk_42 (dk_at dksX0_feed_3 11 rfl rfl)
theorem dX0_feed_82 : decode cX0_feed 82 = .ok (.dup, 1) := dk_89 (dk_at dksX0_feed_3 12 rfl rfl)
theorem dX0_feed_83 : decode cX0_feed 83 = .ok (.getfield 293, 3) := dk_180 1 37 (dk_at dksX0_feed_3 13 rfl rfl)
theorem dX0_feed_86 : decode cX0_feed 86 = .ok (.bipush 12, 2) := dk_16 12 (dk_at dksX0_feed_3 16 rfl rfl)
theorem dX0_feed_88 : decode cX0_feed 88 = .ok (.iadd, 1) := dk_96 (dk_at dksX0_feed_3 18 rfl rfl)
theorem dX0_feed_89 : decode cX0_feed 89 = .ok (.putfield 293, 3) := dk_181 1 37 (dk_at dksX0_feed_3 19 rfl rfl)
theorem dX0_feed_92 : decode cX0_feed 92 = .ok (.aload_n 0, 1) := dk_42 (dk_at dksX0_feed_3 22 rfl rfl)
theorem dX0_feed_93 : decode cX0_feed 93 = .ok (.getfield 293, 3) := dk_180 1 37 (dk_at dksX0_feed_4 0 rfl rfl)
theorem dX0_feed_96 : decode cX0_feed 96 = .ok (.ireturn, 1) := dk_172 (dk_at dksX0_feed_4 3 rfl rfl)
abbrev cX0_trim : ByteArray := prog_1_method_61_code
def yX0_trim : MethodName := ⟨RX0, "trim", "(I)I"⟩
def dkwX0_trim_0 : List UInt8 := [27, 133, 9, 42, 180, 1, 37, 133, 184, 0, 121, 154, 0, 6, 18, 135, 172, 42, 27, 181, 1, 37, 27, 172]
abbrev dktX0_trim_0 : List UInt8 := dkwX0_trim_0 ++ []
theorem dksX0_trim_0 : cX0_trim.data.toList.drop 0 = dktX0_trim_0 := by decide +kernel
theorem dX0_trim_0 : decode cX0_trim 0 = .ok (.iload_n 1, 1) := dk_27 (dk_at dksX0_trim_0 0 rfl rfl)
theorem dX0_trim_1 : decode cX0_trim 1 = .ok (.i2l, 1) := dk_133 (dk_at dksX0_trim_0 1 rfl rfl)
theorem dX0_trim_2 : decode cX0_trim 2 = .ok (.lconst 0, 1) := dk_9 (dk_at dksX0_trim_0 2 rfl rfl)
theorem dX0_trim_3 : decode cX0_trim 3 = .ok (.aload_n 0, 1) := dk_42 (dk_at dksX0_trim_0 3 rfl rfl)
theorem dX0_trim_4 : decode cX0_trim 4 = .ok (.getfield 293, 3) := dk_180 1 37 (dk_at dksX0_trim_0 4 rfl rfl)
theorem dX0_trim_7 : decode cX0_trim 7 = .ok (.i2l, 1) := dk_133 (dk_at dksX0_trim_0 7 rfl rfl)
theorem dX0_trim_8 : decode cX0_trim 8 = .ok (.invokestatic 121, 3) := dk_184 0 121 (dk_at dksX0_trim_0 8 rfl rfl)
theorem dX0_trim_11 : decode cX0_trim 11 = .ok (.ifCond .ne 6, 3) := dk_154 0 6 (dk_at dksX0_trim_0 11 rfl rfl)
theorem dX0_trim_14 : decode cX0_trim 14 = .ok (.ldc 135, 2) := dk_18 135 (dk_at dksX0_trim_0 14 rfl rfl)
theorem dX0_trim_16 : decode cX0_trim 16 = .ok (.ireturn, 1) := dk_172 (dk_at dksX0_trim_0 16 rfl rfl)
theorem dX0_trim_17 : decode cX0_trim 17 = .ok (.aload_n 0, 1) := dk_42 (dk_at dksX0_trim_0 17 rfl rfl)
theorem dX0_trim_18 : decode cX0_trim 18 = .ok (.iload_n 1, 1) := dk_27 (dk_at dksX0_trim_0 18 rfl rfl)
theorem dX0_trim_19 : decode cX0_trim 19 = .ok (.putfield 293, 3) := dk_181 1 37 (dk_at dksX0_trim_0 19 rfl rfl)
theorem dX0_trim_22 : decode cX0_trim 22 = .ok (.iload_n 1, 1) := dk_27 (dk_at dksX0_trim_0 22 rfl rfl)
theorem dX0_trim_23 : decode cX0_trim 23 = .ok (.ireturn, 1) := dk_172 (dk_at dksX0_trim_0 23 rfl rfl)
abbrev cX0_text : ByteArray := prog_1_method_62_code
def yX0_text : MethodName := ⟨RX0, "text", "()I"⟩
def dkwX0_text_4 : List UInt8 := [181, 1, 37, 45, 191]
abbrev dktX0_text_4 : List UInt8 := dkwX0_text_4 ++ []
def dkwX0_text_3 : List UInt8 := [181, 1, 37, 28, 172, 76, 16, 156, 43, 180, 1, 160, 100, 61, 42, 3, 181, 1, 37, 28, 172, 78, 42, 3]
abbrev dktX0_text_3 : List UInt8 := dkwX0_text_3 ++ dktX0_text_4
def dkwX0_text_2 : List UInt8 := [180, 0, 72, 89, 180, 1, 153, 4, 96, 181, 1, 153, 42, 180, 0, 72, 180, 1, 153, 4, 100, 61, 42, 3]
abbrev dktX0_text_2 : List UInt8 := dkwX0_text_2 ++ dktX0_text_3
def dkwX0_text_1 : List UInt8 := [181, 1, 37, 28, 172, 42, 180, 0, 72, 180, 1, 156, 42, 180, 0, 72, 180, 1, 153, 43, 83, 42]
abbrev dktX0_text_1 : List UInt8 := dkwX0_text_1 ++ dktX0_text_2
def dkwX0_text_0 : List UInt8 := [42, 182, 1, 149, 76, 42, 180, 0, 72, 180, 1, 153, 16, 14, 160, 0, 13, 18, 136, 61, 42, 3]
abbrev dktX0_text_0 : List UInt8 := dkwX0_text_0 ++ dktX0_text_1
theorem dksX0_text_0 : cX0_text.data.toList.drop 0 = dktX0_text_0 := by decide +kernel
theorem dksX0_text_1 : cX0_text.data.toList.drop 22 = dktX0_text_1 := dk_seg dksX0_text_0 22 rfl rfl
theorem dksX0_text_2 : cX0_text.data.toList.drop 44 = dktX0_text_2 := dk_seg dksX0_text_1 22 rfl rfl
theorem dksX0_text_3 : cX0_text.data.toList.drop 68 = dktX0_text_3 := dk_seg dksX0_text_2 24 rfl rfl
theorem dksX0_text_4 : cX0_text.data.toList.drop 92 = dktX0_text_4 := dk_seg dksX0_text_3 24 rfl rfl
theorem dX0_text_0 : decode cX0_text 0 = .ok (.aload_n 0, 1) := dk_42 (dk_at dksX0_text_0 0 rfl rfl)
theorem dX0_text_1 : decode cX0_text 1 = .ok (.invokevirtual 405, 3) := dk_182 1 149 (dk_at dksX0_text_0 1 rfl rfl)
theorem dX0_text_4 : decode cX0_text 4 = .ok (.astore_n 1, 1) := dk_76 (dk_at dksX0_text_0 4 rfl rfl)
theorem dX0_text_5 : decode cX0_text 5 = .ok (.aload_n 0, 1) := dk_42 (dk_at dksX0_text_0 5 rfl rfl)
theorem dX0_text_6 : decode cX0_text 6 = .ok (.getfield 72, 3) := dk_180 0 72 (dk_at dksX0_text_0 6 rfl rfl)
theorem dX0_text_9 : decode cX0_text 9 = .ok (.getfield 409, 3) := dk_180 1 153 (dk_at dksX0_text_0 9 rfl rfl)
theorem dX0_text_12 : decode cX0_text 12 = .ok (.bipush 14, 2) := dk_16 14 (dk_at dksX0_text_0 12 rfl rfl)
theorem dX0_text_14 : decode cX0_text 14 = .ok (.if_icmp .ne 13, 3) := dk_160 0 13 (dk_at dksX0_text_0 14 rfl rfl)
theorem dX0_text_17 : decode cX0_text 17 = .ok (.ldc 136, 2) := dk_18 136 (dk_at dksX0_text_0 17 rfl rfl)
theorem dX0_text_19 : decode cX0_text 19 = .ok (.istore_n 2, 1) := dk_61 (dk_at dksX0_text_0 19 rfl rfl)
theorem dX0_text_20 : decode cX0_text 20 = .ok (.aload_n 0, 1) := dk_42 (dk_at dksX0_text_0 20 rfl rfl)
theorem dX0_text_21 : decode cX0_text 21 = .ok (.iconst 0, 1) := dk_3 (dk_at dksX0_text_0 21 rfl rfl)
theorem dX0_text_22 : decode cX0_text 22 = .ok (.putfield 293, 3) := dk_181 1 37 (dk_at dksX0_text_1 0 rfl rfl)
theorem dX0_text_25 : decode cX0_text 25 = .ok (.iload_n 2, 1) := dk_28 (dk_at dksX0_text_1 3 rfl rfl)
theorem dX0_text_26 : decode cX0_text 26 = .ok (.ireturn, 1) := dk_172 (dk_at dksX0_text_1 4 rfl rfl)
theorem dX0_text_27 : decode cX0_text 27 = .ok (.aload_n 0, 1) := dk_42 (dk_at dksX0_text_1 5 rfl rfl)
theorem dX0_text_28 : decode cX0_text 28 = .ok (.getfield 72, 3) := dk_180 0 72 (dk_at dksX0_text_1 6 rfl rfl)
theorem dX0_text_31 : decode cX0_text 31 = .ok (.getfield 412, 3) := dk_180 1 156 (dk_at dksX0_text_1 9 rfl rfl)
theorem dX0_text_34 : decode cX0_text 34 = .ok (.aload_n 0, 1) := dk_42 (dk_at dksX0_text_1 12 rfl rfl)
theorem dX0_text_35 : decode cX0_text 35 = .ok (.getfield 72, 3) := dk_180 0 72 (dk_at dksX0_text_1 13 rfl rfl)
theorem dX0_text_38 : decode cX0_text 38 = .ok (.getfield 409, 3) := dk_180 1 153 (dk_at dksX0_text_1 16 rfl rfl)
theorem dX0_text_41 : decode cX0_text 41 = .ok (.aload_n 1, 1) := dk_43 (dk_at dksX0_text_1 19 rfl rfl)
theorem dX0_text_42 : decode cX0_text 42 = .ok (.aastore, 1) := dk_83 (dk_at dksX0_text_1 20 rfl rfl)
theorem dX0_text_43 : decode cX0_text 43 = .ok (.aload_n 0, 1) := dk_42 (dk_at dksX0_text_1 21 rfl rfl)
theorem dX0_text_44 : decode cX0_text 44 = .ok (.getfield 72, 3) := dk_180 0 72 (dk_at dksX0_text_2 0 rfl rfl)
theorem dX0_text_47 : decode cX0_text 47 = .ok (.dup, 1) := dk_89 (dk_at dksX0_text_2 3 rfl rfl)
theorem dX0_text_48 : decode cX0_text 48 = .ok (.getfield 409, 3) := dk_180 1 153 (dk_at dksX0_text_2 4 rfl rfl)
theorem dX0_text_51 : decode cX0_text 51 = .ok (.iconst 1, 1) := dk_4 (dk_at dksX0_text_2 7 rfl rfl)
theorem dX0_text_52 : decode cX0_text 52 = .ok (.iadd, 1) := dk_96 (dk_at dksX0_text_2 8 rfl rfl)
theorem dX0_text_53 : decode cX0_text 53 = .ok (.putfield 409, 3) := dk_181 1 153 (dk_at dksX0_text_2 9 rfl rfl)
theorem dX0_text_56 : decode cX0_text 56 = .ok (.aload_n 0, 1) := dk_42 (dk_at dksX0_text_2 12 rfl rfl)
theorem dX0_text_57 : decode cX0_text 57 = .ok (.getfield 72, 3) := dk_180 0 72 (dk_at dksX0_text_2 13 rfl rfl)
theorem dX0_text_60 : decode cX0_text 60 = .ok (.getfield 409, 3) := dk_180 1 153 (dk_at dksX0_text_2 16 rfl rfl)
theorem dX0_text_63 : decode cX0_text 63 = .ok (.iconst 1, 1) := dk_4 (dk_at dksX0_text_2 19 rfl rfl)
theorem dX0_text_64 : decode cX0_text 64 = .ok (.isub, 1) := dk_100 (dk_at dksX0_text_2 20 rfl rfl)
theorem dX0_text_65 : decode cX0_text 65 = .ok (.istore_n 2, 1) := dk_61 (dk_at dksX0_text_2 21 rfl rfl)
theorem dX0_text_66 : decode cX0_text 66 = .ok (.aload_n 0, 1) := dk_42 (dk_at dksX0_text_2 22 rfl rfl)
theorem dX0_text_67 : decode cX0_text 67 = .ok (.iconst 0, 1) := dk_3 (dk_at dksX0_text_2 23 rfl rfl)
theorem dX0_text_68 : decode cX0_text 68 = .ok (.putfield 293, 3) := dk_181 1 37 (dk_at dksX0_text_3 0 rfl rfl)
theorem dX0_text_71 : decode cX0_text 71 = .ok (.iload_n 2, 1) := dk_28 (dk_at dksX0_text_3 3 rfl rfl)
theorem dX0_text_72 : decode cX0_text 72 = .ok (.ireturn, 1) := dk_172 (dk_at dksX0_text_3 4 rfl rfl)
theorem dX0_text_73 : decode cX0_text 73 = .ok (.astore_n 1, 1) := dk_76 (dk_at dksX0_text_3 5 rfl rfl)
theorem dX0_text_74 : decode cX0_text 74 = .ok (.bipush (-100), 2) := dk_16 156 (dk_at dksX0_text_3 6 rfl rfl)
theorem dX0_text_76 : decode cX0_text 76 = .ok (.aload_n 1, 1) := dk_43 (dk_at dksX0_text_3 8 rfl rfl)
theorem dX0_text_77 : decode cX0_text 77 = .ok (.getfield 416, 3) := dk_180 1 160 (dk_at dksX0_text_3 9 rfl rfl)
theorem dX0_text_80 : decode cX0_text 80 = .ok (.isub, 1) := dk_100 (dk_at dksX0_text_3 12 rfl rfl)
theorem dX0_text_81 : decode cX0_text 81 = .ok (.istore_n 2, 1) := dk_61 (dk_at dksX0_text_3 13 rfl rfl)
theorem dX0_text_82 : decode cX0_text 82 = .ok (.aload_n 0, 1) := dk_42 (dk_at dksX0_text_3 14 rfl rfl)
theorem dX0_text_83 : decode cX0_text 83 = .ok (.iconst 0, 1) := dk_3 (dk_at dksX0_text_3 15 rfl rfl)
theorem dX0_text_84 : decode cX0_text 84 = .ok (.putfield 293, 3) := dk_181 1 37 (dk_at dksX0_text_3 16 rfl rfl)
theorem dX0_text_87 : decode cX0_text 87 = .ok (.iload_n 2, 1) := dk_28 (dk_at dksX0_text_3 19 rfl rfl)
theorem dX0_text_88 : decode cX0_text 88 = .ok (.ireturn, 1) := dk_172 (dk_at dksX0_text_3 20 rfl rfl)
theorem dX0_text_89 : decode cX0_text 89 = .ok (.astore_n 3, 1) := dk_78 (dk_at dksX0_text_3 21 rfl rfl)
theorem dX0_text_90 : decode cX0_text 90 = .ok (.aload_n 0, 1) := dk_42 (dk_at dksX0_text_3 22 rfl rfl)
theorem dX0_text_91 : decode cX0_text 91 = .ok (.iconst 0, 1) := dk_3 (dk_at dksX0_text_3 23 rfl rfl)
theorem dX0_text_92 : decode cX0_text 92 = .ok (.putfield 293, 3) := dk_181 1 37 (dk_at dksX0_text_4 0 rfl rfl)
theorem dX0_text_95 : decode cX0_text 95 = .ok (.aload_n 3, 1) := dk_45 (dk_at dksX0_text_4 3 rfl rfl)
theorem dX0_text_96 : decode cX0_text 96 = .ok (.athrow, 1) := dk_191 (dk_at dksX0_text_4 4 rfl rfl)
abbrev cX0_readText : ByteArray := prog_1_method_59_code
def yX0_readText : MethodName := ⟨RX0, "readText", "()LTwoGuilds$Text;"⟩
def dkwX0_readText_5 : List UInt8 := [187, 1, 144, 89, 42, 180, 1, 100, 42, 180, 1, 106, 43, 183, 1, 146, 176]
abbrev dktX0_readText_5 : List UInt8 := dkwX0_readText_5 ++ []
def dkwX0_readText_4 : List UInt8 := [182, 1, 81, 42, 182, 1, 132, 76, 42, 42, 180, 1, 40, 154, 0, 7, 4, 167, 0, 4, 3, 182, 1, 120]
abbrev dktX0_readText_4 : List UInt8 := dkwX0_readText_4 ++ dktX0_readText_5
def dkwX0_readText_3 : List UInt8 := [167, 0, 4, 2, 181, 1, 100, 42, 42, 180, 1, 100, 155, 0, 7, 4, 167, 0, 4, 3, 182, 1, 120, 42]
abbrev dktX0_readText_3 : List UInt8 := dkwX0_readText_3 ++ dktX0_readText_4
def dkwX0_readText_2 : List UInt8 := [19, 1, 141, 182, 1, 137, 153, 0, 7, 4, 167, 0, 18, 42, 19, 1, 142, 182, 1, 137, 153, 0, 7, 5]
abbrev dktX0_readText_2 : List UInt8 := dkwX0_readText_2 ++ dktX0_readText_3
def dkwX0_readText_1 : List UInt8 := [181, 1, 106, 42, 182, 1, 81, 42, 42, 19, 1, 135, 182, 1, 137, 153, 0, 7, 3, 167, 0, 32, 42]
abbrev dktX0_readText_1 : List UInt8 := dkwX0_readText_1 ++ dktX0_readText_2
def dkwX0_readText_0 : List UInt8 := [42, 3, 181, 1, 40, 42, 3, 181, 1, 43, 42, 3, 181, 1, 129, 42, 3, 181, 1, 117, 42, 3]
abbrev dktX0_readText_0 : List UInt8 := dkwX0_readText_0 ++ dktX0_readText_1
theorem dksX0_readText_0 : cX0_readText.data.toList.drop 0 = dktX0_readText_0 := by decide +kernel
theorem dksX0_readText_1 : cX0_readText.data.toList.drop 22 = dktX0_readText_1 := dk_seg dksX0_readText_0 22 rfl rfl
theorem dksX0_readText_2 : cX0_readText.data.toList.drop 45 = dktX0_readText_2 := dk_seg dksX0_readText_1 23 rfl rfl
theorem dksX0_readText_3 : cX0_readText.data.toList.drop 69 = dktX0_readText_3 := dk_seg dksX0_readText_2 24 rfl rfl
theorem dksX0_readText_4 : cX0_readText.data.toList.drop 93 = dktX0_readText_4 := dk_seg dksX0_readText_3 24 rfl rfl
theorem dksX0_readText_5 : cX0_readText.data.toList.drop 117 = dktX0_readText_5 := dk_seg dksX0_readText_4 24 rfl rfl
theorem dX0_readText_0 : decode cX0_readText 0 = .ok (.aload_n 0, 1) := dk_42 (dk_at dksX0_readText_0 0 rfl rfl)
theorem dX0_readText_1 : decode cX0_readText 1 = .ok (.iconst 0, 1) := dk_3 (dk_at dksX0_readText_0 1 rfl rfl)
theorem dX0_readText_2 : decode cX0_readText 2 = .ok (.putfield 296, 3) := dk_181 1 40 (dk_at dksX0_readText_0 2 rfl rfl)
theorem dX0_readText_5 : decode cX0_readText 5 = .ok (.aload_n 0, 1) := dk_42 (dk_at dksX0_readText_0 5 rfl rfl)
theorem dX0_readText_6 : decode cX0_readText 6 = .ok (.iconst 0, 1) := dk_3 (dk_at dksX0_readText_0 6 rfl rfl)
theorem dX0_readText_7 : decode cX0_readText 7 = .ok (.putfield 299, 3) := dk_181 1 43 (dk_at dksX0_readText_0 7 rfl rfl)
theorem dX0_readText_10 : decode cX0_readText 10 = .ok (.aload_n 0, 1) := dk_42 (dk_at dksX0_readText_0 10 rfl rfl)
theorem dX0_readText_11 : decode cX0_readText 11 = .ok (.iconst 0, 1) := dk_3 (dk_at dksX0_readText_0 11 rfl rfl)
theorem dX0_readText_12 : decode cX0_readText 12 = .ok (.putfield 385, 3) := dk_181 1 129 (dk_at dksX0_readText_0 12 rfl rfl)
theorem dX0_readText_15 : decode cX0_readText 15 = .ok (.aload_n 0, 1) := dk_42 (dk_at dksX0_readText_0 15 rfl rfl)
theorem dX0_readText_16 : decode cX0_readText 16 = .ok (.iconst 0, 1) := dk_3 (dk_at dksX0_readText_0 16 rfl rfl)
theorem dX0_readText_17 : decode cX0_readText 17 = .ok (.putfield 373, 3) := dk_181 1 117 (dk_at dksX0_readText_0 17 rfl rfl)
theorem dX0_readText_20 : decode cX0_readText 20 = .ok (.aload_n 0, 1) := dk_42 (dk_at dksX0_readText_0 20 rfl rfl)
theorem dX0_readText_21 : decode cX0_readText 21 = .ok (.iconst 0, 1) := dk_3 (dk_at dksX0_readText_0 21 rfl rfl)
theorem dX0_readText_22 : decode cX0_readText 22 = .ok (.putfield 362, 3) := dk_181 1 106 (dk_at dksX0_readText_1 0 rfl rfl)
theorem dX0_readText_25 : decode cX0_readText 25 = .ok (.aload_n 0, 1) := dk_42 (dk_at dksX0_readText_1 3 rfl rfl)
theorem dX0_readText_26 : decode cX0_readText 26 = .ok (.invokevirtual 337, 3) := dk_182 1 81 (dk_at dksX0_readText_1 4 rfl rfl)
theorem dX0_readText_29 : decode cX0_readText 29 = .ok (.aload_n 0, 1) := dk_42 (dk_at dksX0_readText_1 7 rfl rfl)
theorem dX0_readText_30 : decode cX0_readText 30 = .ok (.aload_n 0, 1) := dk_42 (dk_at dksX0_readText_1 8 rfl rfl)
theorem dX0_readText_31 : decode cX0_readText 31 = .ok (.ldc_w 391, 3) := dk_19 1 135 (dk_at dksX0_readText_1 9 rfl rfl)
theorem dX0_readText_34 : decode cX0_readText 34 = .ok (.invokevirtual 393, 3) := dk_182 1 137 (dk_at dksX0_readText_1 12 rfl rfl)
theorem dX0_readText_37 : decode cX0_readText 37 = .ok (.ifCond .eq 7, 3) := dk_153 0 7 (dk_at dksX0_readText_1 15 rfl rfl)
theorem dX0_readText_40 : decode cX0_readText 40 = .ok (.iconst 0, 1) := dk_3 (dk_at dksX0_readText_1 18 rfl rfl)
theorem dX0_readText_41 : decode cX0_readText 41 = .ok (.goto 32, 3) := dk_167 0 32 (dk_at dksX0_readText_1 19 rfl rfl)
theorem dX0_readText_44 : decode cX0_readText 44 = .ok (.aload_n 0, 1) := dk_42 (dk_at dksX0_readText_1 22 rfl rfl)
theorem dX0_readText_45 : decode cX0_readText 45 = .ok (.ldc_w 397, 3) := dk_19 1 141 (dk_at dksX0_readText_2 0 rfl rfl)
theorem dX0_readText_48 : decode cX0_readText 48 = .ok (.invokevirtual 393, 3) := dk_182 1 137 (dk_at dksX0_readText_2 3 rfl rfl)
theorem dX0_readText_51 : decode cX0_readText 51 = .ok (.ifCond .eq 7, 3) := dk_153 0 7 (dk_at dksX0_readText_2 6 rfl rfl)
theorem dX0_readText_54 : decode cX0_readText 54 = .ok (.iconst 1, 1) := dk_4 (dk_at dksX0_readText_2 9 rfl rfl)
theorem dX0_readText_55 : decode cX0_readText 55 = .ok (.goto 18, 3) := dk_167 0 18 (dk_at dksX0_readText_2 10 rfl rfl)
theorem dX0_readText_58 : decode cX0_readText 58 = .ok (.aload_n 0, 1) := dk_42 (dk_at dksX0_readText_2 13 rfl rfl)
theorem dX0_readText_59 : decode cX0_readText 59 = .ok (.ldc_w 398, 3) := dk_19 1 142 (dk_at dksX0_readText_2 14 rfl rfl)
theorem dX0_readText_62 : decode cX0_readText 62 = .ok (.invokevirtual 393, 3) := dk_182 1 137 (dk_at dksX0_readText_2 17 rfl rfl)
theorem dX0_readText_65 : decode cX0_readText 65 = .ok (.ifCond .eq 7, 3) := dk_153 0 7 (dk_at dksX0_readText_2 20 rfl rfl)
theorem dX0_readText_68 : decode cX0_readText 68 = .ok (.iconst 2, 1) := dk_5 (dk_at dksX0_readText_2 23 rfl rfl)
theorem dX0_readText_69 : decode cX0_readText 69 = .ok (.goto 4, 3) := dk_167 0 4 (dk_at dksX0_readText_3 0 rfl rfl)
theorem dX0_readText_72 : decode cX0_readText 72 = .ok (.iconst (-1), 1) := dk_2 (dk_at dksX0_readText_3 3 rfl rfl)
theorem dX0_readText_73 : decode cX0_readText 73 = .ok (.putfield 356, 3) := dk_181 1 100 (dk_at dksX0_readText_3 4 rfl rfl)
theorem dX0_readText_76 : decode cX0_readText 76 = .ok (.aload_n 0, 1) := dk_42 (dk_at dksX0_readText_3 7 rfl rfl)
theorem dX0_readText_77 : decode cX0_readText 77 = .ok (.aload_n 0, 1) := dk_42 (dk_at dksX0_readText_3 8 rfl rfl)
theorem dX0_readText_78 : decode cX0_readText 78 = .ok (.getfield 356, 3) := dk_180 1 100 (dk_at dksX0_readText_3 9 rfl rfl)
theorem dX0_readText_81 : decode cX0_readText 81 = .ok (.ifCond .lt 7, 3) := dk_155 0 7 (dk_at dksX0_readText_3 12 rfl rfl)
theorem dX0_readText_84 : decode cX0_readText 84 = .ok (.iconst 1, 1) := dk_4 (dk_at dksX0_readText_3 15 rfl rfl)
theorem dX0_readText_85 : decode cX0_readText 85 = .ok (.goto 4, 3) := dk_167 0 4 (dk_at dksX0_readText_3 16 rfl rfl)
theorem dX0_readText_88 : decode cX0_readText 88 = .ok (.iconst 0, 1) := dk_3 (dk_at dksX0_readText_3 19 rfl rfl)
theorem dX0_readText_89 : decode cX0_readText 89 = .ok (.invokevirtual 376, 3) := dk_182 1 120 (dk_at dksX0_readText_3 20 rfl rfl)
theorem dX0_readText_92 : decode cX0_readText 92 = .ok (.aload_n 0, 1) := dk_42 (dk_at dksX0_readText_3 23 rfl rfl)
theorem dX0_readText_93 : decode cX0_readText 93 = .ok (.invokevirtual 337, 3) := dk_182 1 81 (dk_at dksX0_readText_4 0 rfl rfl)
theorem dX0_readText_96 : decode cX0_readText 96 = .ok (.aload_n 0, 1) := dk_42 (dk_at dksX0_readText_4 3 rfl rfl)
theorem dX0_readText_97 : decode cX0_readText 97 = .ok (.invokevirtual 388, 3) := dk_182 1 132 (dk_at dksX0_readText_4 4 rfl rfl)
theorem dX0_readText_100 : decode cX0_readText 100 = .ok (.astore_n 1, 1) := dk_76 (dk_at dksX0_readText_4 7 rfl rfl)
theorem dX0_readText_101 : decode cX0_readText 101 = .ok (.aload_n 0, 1) := dk_42 (dk_at dksX0_readText_4 8 rfl rfl)
theorem dX0_readText_102 : decode cX0_readText 102 = .ok (.aload_n 0, 1) := dk_42 (dk_at dksX0_readText_4 9 rfl rfl)
theorem dX0_readText_103 : decode cX0_readText 103 = .ok (.getfield 296, 3) := dk_180 1 40 (dk_at dksX0_readText_4 10 rfl rfl)
theorem dX0_readText_106 : decode cX0_readText 106 = .ok (.ifCond .ne 7, 3) := dk_154 0 7 (dk_at dksX0_readText_4 13 rfl rfl)
theorem dX0_readText_109 : decode cX0_readText 109 = .ok (.iconst 1, 1) := dk_4 (dk_at dksX0_readText_4 16 rfl rfl)
theorem dX0_readText_110 : decode cX0_readText 110 = .ok (.goto 4, 3) := dk_167 0 4 (dk_at dksX0_readText_4 17 rfl rfl)
theorem dX0_readText_113 : decode cX0_readText 113 = .ok (.iconst 0, 1) := dk_3 (dk_at dksX0_readText_4 20 rfl rfl)
theorem dX0_readText_114 : decode cX0_readText 114 = .ok (.invokevirtual 376, 3) := dk_182 1 120 (dk_at dksX0_readText_4 21 rfl rfl)
theorem dX0_readText_117 : decode cX0_readText 117 = .ok (.new 400, 3) := dk_187 1 144 (dk_at dksX0_readText_5 0 rfl rfl)
theorem dX0_readText_120 : decode cX0_readText 120 = .ok (.dup, 1) := dk_89 (dk_at dksX0_readText_5 3 rfl rfl)
theorem dX0_readText_121 : decode cX0_readText 121 = .ok (.aload_n 0, 1) := dk_42 (dk_at dksX0_readText_5 4 rfl rfl)
theorem dX0_readText_122 : decode cX0_readText 122 = .ok (.getfield 356, 3) := dk_180 1 100 (dk_at dksX0_readText_5 5 rfl rfl)
theorem dX0_readText_125 : decode cX0_readText 125 = .ok (.aload_n 0, 1) := dk_42 (dk_at dksX0_readText_5 8 rfl rfl)
theorem dX0_readText_126 : decode cX0_readText 126 = .ok (.getfield 362, 3) := dk_180 1 106 (dk_at dksX0_readText_5 9 rfl rfl)
theorem dX0_readText_129 : decode cX0_readText 129 = .ok (.aload_n 1, 1) := dk_43 (dk_at dksX0_readText_5 12 rfl rfl)
theorem dX0_readText_130 : decode cX0_readText 130 = .ok (.invokespecial 402, 3) := dk_183 1 146 (dk_at dksX0_readText_5 13 rfl rfl)
theorem dX0_readText_133 : decode cX0_readText 133 = .ok (.areturn, 1) := dk_176 (dk_at dksX0_readText_5 16 rfl rfl)
abbrev cX0_goesOn : ByteArray := prog_1_method_48_code
def yX0_goesOn : MethodName := ⟨RX0, "goesOn", "()V"⟩
def dkwX0_goesOn_13 : List UInt8 := [42, 180, 1, 49, 100, 7, 164, 0, 8, 42, 7, 181, 1, 40, 177]
abbrev dktX0_goesOn_13 : List UInt8 := dkwX0_goesOn_13 ++ []
def dkwX0_goesOn_12 : List UInt8 := [4, 167, 0, 4, 3, 54, 4, 21, 4, 154, 0, 24, 42, 180, 1, 40, 5, 160, 0, 21, 42, 180, 1, 43]
abbrev dktX0_goesOn_12 : List UInt8 := dkwX0_goesOn_12 ++ dktX0_goesOn_13
def dkwX0_goesOn_11 : List UInt8 := [28, 42, 180, 1, 49, 160, 0, 23, 42, 180, 1, 40, 4, 159, 0, 11, 42, 180, 1, 40, 5, 160, 0, 7]
abbrev dktX0_goesOn_11 : List UInt8 := dkwX0_goesOn_11 ++ dktX0_goesOn_12
def dkwX0_goesOn_10 : List UInt8 := [167, 0, 4, 29, 181, 1, 58, 42, 89, 180, 1, 43, 4, 96, 181, 1, 43, 167, 255, 154, 27, 153, 0, 31]
abbrev dktX0_goesOn_10 : List UInt8 := dkwX0_goesOn_10 ++ dktX0_goesOn_11
def dkwX0_goesOn_9 : List UInt8 := [162, 0, 25, 16, 10, 42, 180, 1, 58, 104, 42, 42, 180, 1, 43, 182, 1, 46, 96, 16, 48, 100]
abbrev dktX0_goesOn_9 : List UInt8 := dkwX0_goesOn_9 ++ dktX0_goesOn_10
def dkwX0_goesOn_8 : List UInt8 := [153, 0, 64, 42, 42, 180, 1, 40, 5, 160, 0, 38, 42, 180, 1, 43, 42, 180, 1, 49, 100, 7]
abbrev dktX0_goesOn_8 : List UInt8 := dkwX0_goesOn_8 ++ dktX0_goesOn_9
def dkwX0_goesOn_7 : List UInt8 := [154, 0, 25, 42, 180, 1, 40, 5, 160, 0, 78, 42, 42, 180, 1, 43, 182, 1, 46, 184, 1, 55]
abbrev dktX0_goesOn_7 : List UInt8 := dkwX0_goesOn_7 ++ dktX0_goesOn_8
def dkwX0_goesOn_6 : List UInt8 := [181, 1, 43, 42, 180, 1, 40, 4, 160, 0, 17, 42, 42, 180, 1, 43, 182, 1, 46, 184, 1, 52]
abbrev dktX0_goesOn_6 : List UInt8 := dkwX0_goesOn_6 ++ dktX0_goesOn_7
def dkwX0_goesOn_5 : List UInt8 := [3, 181, 1, 58, 42, 89, 180, 1, 43, 42, 180, 1, 40, 6, 160, 0, 7, 4, 167, 0, 4, 3, 96]
abbrev dktX0_goesOn_5 : List UInt8 := dkwX0_goesOn_5 ++ dktX0_goesOn_6
def dkwX0_goesOn_4 : List UInt8 := [153, 0, 7, 5, 167, 0, 4, 6, 181, 1, 40, 42, 42, 180, 1, 40, 6, 160, 0, 7, 29, 167, 0, 4]
abbrev dktX0_goesOn_4 : List UInt8 := dkwX0_goesOn_4 ++ dktX0_goesOn_5
def dkwX0_goesOn_3 : List UInt8 := [29, 156, 0, 7, 3, 167, 0, 26, 29, 184, 1, 52, 153, 0, 7, 4, 167, 0, 15, 29, 184, 1, 55]
abbrev dktX0_goesOn_3 : List UInt8 := dkwX0_goesOn_3 ++ dktX0_goesOn_4
def dkwX0_goesOn_2 : List UInt8 := [181, 1, 43, 167, 255, 233, 42, 42, 180, 1, 43, 181, 1, 49, 42, 42, 180, 1, 49, 182, 1, 46, 62, 42]
abbrev dktX0_goesOn_2 : List UInt8 := dkwX0_goesOn_2 ++ dktX0_goesOn_3
def dkwX0_goesOn_1 : List UInt8 := [180, 1, 43, 61, 42, 42, 180, 1, 43, 182, 1, 46, 16, 32, 160, 0, 16, 42, 89, 180, 1, 43, 4, 96]
abbrev dktX0_goesOn_1 : List UInt8 := dkwX0_goesOn_1 ++ dktX0_goesOn_2
def dkwX0_goesOn_0 : List UInt8 := [42, 180, 1, 40, 4, 159, 0, 11, 42, 180, 1, 40, 5, 160, 0, 7, 4, 167, 0, 4, 3, 60, 42]
abbrev dktX0_goesOn_0 : List UInt8 := dkwX0_goesOn_0 ++ dktX0_goesOn_1
theorem dksX0_goesOn_0 : cX0_goesOn.data.toList.drop 0 = dktX0_goesOn_0 := by decide +kernel
theorem dksX0_goesOn_1 : cX0_goesOn.data.toList.drop 23 = dktX0_goesOn_1 := dk_seg dksX0_goesOn_0 23 rfl rfl
theorem dksX0_goesOn_2 : cX0_goesOn.data.toList.drop 47 = dktX0_goesOn_2 := dk_seg dksX0_goesOn_1 24 rfl rfl
theorem dksX0_goesOn_3 : cX0_goesOn.data.toList.drop 71 = dktX0_goesOn_3 := dk_seg dksX0_goesOn_2 24 rfl rfl
theorem dksX0_goesOn_4 : cX0_goesOn.data.toList.drop 94 = dktX0_goesOn_4 := dk_seg dksX0_goesOn_3 23 rfl rfl
theorem dksX0_goesOn_5 : cX0_goesOn.data.toList.drop 118 = dktX0_goesOn_5 := dk_seg dksX0_goesOn_4 24 rfl rfl
theorem dksX0_goesOn_6 : cX0_goesOn.data.toList.drop 141 = dktX0_goesOn_6 := dk_seg dksX0_goesOn_5 23 rfl rfl
theorem dksX0_goesOn_7 : cX0_goesOn.data.toList.drop 163 = dktX0_goesOn_7 := dk_seg dksX0_goesOn_6 22 rfl rfl
theorem dksX0_goesOn_8 : cX0_goesOn.data.toList.drop 185 = dktX0_goesOn_8 := dk_seg dksX0_goesOn_7 22 rfl rfl
theorem dksX0_goesOn_9 : cX0_goesOn.data.toList.drop 207 = dktX0_goesOn_9 := dk_seg dksX0_goesOn_8 22 rfl rfl
theorem dksX0_goesOn_10 : cX0_goesOn.data.toList.drop 229 = dktX0_goesOn_10 := dk_seg dksX0_goesOn_9 22 rfl rfl
theorem dksX0_goesOn_11 : cX0_goesOn.data.toList.drop 253 = dktX0_goesOn_11 := dk_seg dksX0_goesOn_10 24 rfl rfl
theorem dksX0_goesOn_12 : cX0_goesOn.data.toList.drop 277 = dktX0_goesOn_12 := dk_seg dksX0_goesOn_11 24 rfl rfl
theorem dksX0_goesOn_13 : cX0_goesOn.data.toList.drop 301 = dktX0_goesOn_13 := dk_seg dksX0_goesOn_12 24 rfl rfl
theorem dX0_goesOn_0 : decode cX0_goesOn 0 = .ok (.aload_n 0, 1) := dk_42 (dk_at dksX0_goesOn_0 0 rfl rfl)
theorem dX0_goesOn_1 : decode cX0_goesOn 1 = .ok (.getfield 296, 3) := dk_180 1 40 (dk_at dksX0_goesOn_0 1 rfl rfl)
theorem dX0_goesOn_4 : decode cX0_goesOn 4 = .ok (.iconst 1, 1) := dk_4 (dk_at dksX0_goesOn_0 4 rfl rfl)
theorem dX0_goesOn_5 : decode cX0_goesOn 5 = .ok (.if_icmp .eq 11, 3) := dk_159 0 11 (dk_at dksX0_goesOn_0 5 rfl rfl)
theorem dX0_goesOn_8 : decode cX0_goesOn 8 = .ok (.aload_n 0, 1) := dk_42 (dk_at dksX0_goesOn_0 8 rfl rfl)
theorem dX0_goesOn_9 : decode cX0_goesOn 9 = .ok (.getfield 296, 3) := dk_180 1 40 (dk_at dksX0_goesOn_0 9 rfl rfl)
theorem dX0_goesOn_12 : decode cX0_goesOn 12 = .ok (.iconst 2, 1) := dk_5 (dk_at dksX0_goesOn_0 12 rfl rfl)
theorem dX0_goesOn_13 : decode cX0_goesOn 13 = .ok (.if_icmp .ne 7, 3) := dk_160 0 7 (dk_at dksX0_goesOn_0 13 rfl rfl)
theorem dX0_goesOn_16 : decode cX0_goesOn 16 = .ok (.iconst 1, 1) := dk_4 (dk_at dksX0_goesOn_0 16 rfl rfl)
theorem dX0_goesOn_17 : decode cX0_goesOn 17 = .ok (.goto 4, 3) := dk_167 0 4 (dk_at dksX0_goesOn_0 17 rfl rfl)
theorem dX0_goesOn_20 : decode cX0_goesOn 20 = .ok (.iconst 0, 1) := dk_3 (dk_at dksX0_goesOn_0 20 rfl rfl)
theorem dX0_goesOn_21 : decode cX0_goesOn 21 = .ok (.istore_n 1, 1) := dk_60 (dk_at dksX0_goesOn_0 21 rfl rfl)
theorem dX0_goesOn_22 : decode cX0_goesOn 22 = .ok (.aload_n 0, 1) := dk_42 (dk_at dksX0_goesOn_0 22 rfl rfl)
theorem dX0_goesOn_23 : decode cX0_goesOn 23 = .ok (.getfield 299, 3) := dk_180 1 43 (dk_at dksX0_goesOn_1 0 rfl rfl)
theorem dX0_goesOn_26 : decode cX0_goesOn 26 = .ok (.istore_n 2, 1) := dk_61 (dk_at dksX0_goesOn_1 3 rfl rfl)
theorem dX0_goesOn_27 : decode cX0_goesOn 27 = .ok (.aload_n 0, 1) := dk_42 (dk_at dksX0_goesOn_1 4 rfl rfl)
theorem dX0_goesOn_28 : decode cX0_goesOn 28 = .ok (.aload_n 0, 1) := dk_42 (dk_at dksX0_goesOn_1 5 rfl rfl)
theorem dX0_goesOn_29 : decode cX0_goesOn 29 = .ok (.getfield 299, 3) := dk_180 1 43 (dk_at dksX0_goesOn_1 6 rfl rfl)
theorem dX0_goesOn_32 : decode cX0_goesOn 32 = .ok (.invokevirtual 302, 3) := dk_182 1 46 (dk_at dksX0_goesOn_1 9 rfl rfl)
theorem dX0_goesOn_35 : decode cX0_goesOn 35 = .ok (.bipush 32, 2) := dk_16 32 (dk_at dksX0_goesOn_1 12 rfl rfl)
theorem dX0_goesOn_37 : decode cX0_goesOn 37 = .ok (.if_icmp .ne 16, 3) := dk_160 0 16 (dk_at dksX0_goesOn_1 14 rfl rfl)
theorem dX0_goesOn_40 : decode cX0_goesOn 40 = .ok (.aload_n 0, 1) := dk_42 (dk_at dksX0_goesOn_1 17 rfl rfl)
theorem dX0_goesOn_41 : decode cX0_goesOn 41 = .ok (.dup, 1) := dk_89 (dk_at dksX0_goesOn_1 18 rfl rfl)
theorem dX0_goesOn_42 : decode cX0_goesOn 42 = .ok (.getfield 299, 3) := dk_180 1 43 (dk_at dksX0_goesOn_1 19 rfl rfl)
theorem dX0_goesOn_45 : decode cX0_goesOn 45 = .ok (.iconst 1, 1) := dk_4 (dk_at dksX0_goesOn_1 22 rfl rfl)
theorem dX0_goesOn_46 : decode cX0_goesOn 46 = .ok (.iadd, 1) := dk_96 (dk_at dksX0_goesOn_1 23 rfl rfl)
theorem dX0_goesOn_47 : decode cX0_goesOn 47 = .ok (.putfield 299, 3) := dk_181 1 43 (dk_at dksX0_goesOn_2 0 rfl rfl)
theorem dX0_goesOn_50 : decode cX0_goesOn 50 = .ok (.goto (-23), 3) := dk_167 255 233 (dk_at dksX0_goesOn_2 3 rfl rfl)
theorem dX0_goesOn_53 : decode cX0_goesOn 53 = .ok (.aload_n 0, 1) := dk_42 (dk_at dksX0_goesOn_2 6 rfl rfl)
theorem dX0_goesOn_54 : decode cX0_goesOn 54 = .ok (.aload_n 0, 1) := dk_42 (dk_at dksX0_goesOn_2 7 rfl rfl)
theorem dX0_goesOn_55 : decode cX0_goesOn 55 = .ok (.getfield 299, 3) := dk_180 1 43 (dk_at dksX0_goesOn_2 8 rfl rfl)
theorem dX0_goesOn_58 : decode cX0_goesOn 58 = .ok (.putfield 305, 3) := dk_181 1 49 (dk_at dksX0_goesOn_2 11 rfl rfl)
theorem dX0_goesOn_61 : decode cX0_goesOn 61 = .ok (.aload_n 0, 1) := dk_42 (dk_at dksX0_goesOn_2 14 rfl rfl)
theorem dX0_goesOn_62 : decode cX0_goesOn 62 = .ok (.aload_n 0, 1) := dk_42 (dk_at dksX0_goesOn_2 15 rfl rfl)
theorem dX0_goesOn_63 : decode cX0_goesOn 63 = .ok (.getfield 305, 3) := dk_180 1 49 (dk_at dksX0_goesOn_2 16 rfl rfl)
theorem dX0_goesOn_66 : decode cX0_goesOn 66 = .ok (.invokevirtual 302, 3) := dk_182 1 46 (dk_at dksX0_goesOn_2 19 rfl rfl)
theorem dX0_goesOn_69 : decode cX0_goesOn 69 = .ok (.istore_n 3, 1) := dk_62 (dk_at dksX0_goesOn_2 22 rfl rfl)
theorem dX0_goesOn_70 : decode cX0_goesOn 70 = .ok (.aload_n 0, 1) := dk_42 (dk_at dksX0_goesOn_2 23 rfl rfl)
theorem dX0_goesOn_71 : decode cX0_goesOn 71 = .ok (.iload_n 3, 1) := dk_29 (dk_at dksX0_goesOn_3 0 rfl rfl)
theorem dX0_goesOn_72 : decode cX0_goesOn 72 = .ok (.ifCond .ge 7, 3) := dk_156 0 7 (dk_at dksX0_goesOn_3 1 rfl rfl)
theorem dX0_goesOn_75 : decode cX0_goesOn 75 = .ok (.iconst 0, 1) := dk_3 (dk_at dksX0_goesOn_3 4 rfl rfl)
theorem dX0_goesOn_76 : decode cX0_goesOn 76 = .ok (.goto 26, 3) := dk_167 0 26 (dk_at dksX0_goesOn_3 5 rfl rfl)
theorem dX0_goesOn_79 : decode cX0_goesOn 79 = .ok (.iload_n 3, 1) := dk_29 (dk_at dksX0_goesOn_3 8 rfl rfl)
theorem dX0_goesOn_80 : decode cX0_goesOn 80 = .ok (.invokestatic 308, 3) := dk_184 1 52 (dk_at dksX0_goesOn_3 9 rfl rfl)
theorem dX0_goesOn_83 : decode cX0_goesOn 83 = .ok (.ifCond .eq 7, 3) := dk_153 0 7 (dk_at dksX0_goesOn_3 12 rfl rfl)
theorem dX0_goesOn_86 : decode cX0_goesOn 86 = .ok (.iconst 1, 1) := dk_4 (dk_at dksX0_goesOn_3 15 rfl rfl)
theorem dX0_goesOn_87 : decode cX0_goesOn 87 = .ok (.goto 15, 3) := dk_167 0 15 (dk_at dksX0_goesOn_3 16 rfl rfl)
theorem dX0_goesOn_90 : decode cX0_goesOn 90 = .ok (.iload_n 3, 1) := dk_29 (dk_at dksX0_goesOn_3 19 rfl rfl)
theorem dX0_goesOn_91 : decode cX0_goesOn 91 = .ok (.invokestatic 311, 3) := dk_184 1 55 (dk_at dksX0_goesOn_3 20 rfl rfl)
theorem dX0_goesOn_94 : decode cX0_goesOn 94 = .ok (.ifCond .eq 7, 3) := dk_153 0 7 (dk_at dksX0_goesOn_4 0 rfl rfl)
theorem dX0_goesOn_97 : decode cX0_goesOn 97 = .ok (.iconst 2, 1) := dk_5 (dk_at dksX0_goesOn_4 3 rfl rfl)
theorem dX0_goesOn_98 : decode cX0_goesOn 98 = .ok (.goto 4, 3) := dk_167 0 4 (dk_at dksX0_goesOn_4 4 rfl rfl)
theorem dX0_goesOn_101 : decode cX0_goesOn 101 = .ok (.iconst 3, 1) := dk_6 (dk_at dksX0_goesOn_4 7 rfl rfl)
theorem dX0_goesOn_102 : decode cX0_goesOn 102 = .ok (.putfield 296, 3) := dk_181 1 40 (dk_at dksX0_goesOn_4 8 rfl rfl)
theorem dX0_goesOn_105 : decode cX0_goesOn 105 = .ok (.aload_n 0, 1) := dk_42 (dk_at dksX0_goesOn_4 11 rfl rfl)
theorem dX0_goesOn_106 : decode cX0_goesOn 106 = .ok (.aload_n 0, 1) := dk_42 (dk_at dksX0_goesOn_4 12 rfl rfl)
theorem dX0_goesOn_107 : decode cX0_goesOn 107 = .ok (.getfield 296, 3) := dk_180 1 40 (dk_at dksX0_goesOn_4 13 rfl rfl)
theorem dX0_goesOn_110 : decode cX0_goesOn 110 = .ok (.iconst 3, 1) := dk_6 (dk_at dksX0_goesOn_4 16 rfl rfl)
theorem dX0_goesOn_111 : decode cX0_goesOn 111 = .ok (.if_icmp .ne 7, 3) := dk_160 0 7 (dk_at dksX0_goesOn_4 17 rfl rfl)
theorem dX0_goesOn_114 : decode cX0_goesOn 114 = .ok (.iload_n 3, 1) := dk_29 (dk_at dksX0_goesOn_4 20 rfl rfl)
theorem dX0_goesOn_115 : decode cX0_goesOn 115 = .ok (.goto 4, 3) := dk_167 0 4 (dk_at dksX0_goesOn_4 21 rfl rfl)
theorem dX0_goesOn_118 : decode cX0_goesOn 118 = .ok (.iconst 0, 1) := dk_3 (dk_at dksX0_goesOn_5 0 rfl rfl)
theorem dX0_goesOn_119 : decode cX0_goesOn 119 = .ok (.putfield 314, 3) := dk_181 1 58 (dk_at dksX0_goesOn_5 1 rfl rfl)
theorem dX0_goesOn_122 : decode cX0_goesOn 122 = .ok (.aload_n 0, 1) := dk_42 (dk_at dksX0_goesOn_5 4 rfl rfl)
theorem dX0_goesOn_123 : decode cX0_goesOn 123 = .ok (.dup, 1) := dk_89 (dk_at dksX0_goesOn_5 5 rfl rfl)
theorem dX0_goesOn_124 : decode cX0_goesOn 124 = .ok (.getfield 299, 3) := dk_180 1 43 (dk_at dksX0_goesOn_5 6 rfl rfl)
theorem dX0_goesOn_127 : decode cX0_goesOn 127 = .ok (.aload_n 0, 1) := dk_42 (dk_at dksX0_goesOn_5 9 rfl rfl)
theorem dX0_goesOn_128 : decode cX0_goesOn 128 = .ok (.getfield 296, 3) := dk_180 1 40 (dk_at dksX0_goesOn_5 10 rfl rfl)
theorem dX0_goesOn_131 : decode cX0_goesOn 131 = .ok (.iconst 3, 1) := dk_6 (dk_at dksX0_goesOn_5 13 rfl rfl)
theorem dX0_goesOn_132 : decode cX0_goesOn 132 = .ok (.if_icmp .ne 7, 3) := dk_160 0 7 (dk_at dksX0_goesOn_5 14 rfl rfl)
theorem dX0_goesOn_135 : decode cX0_goesOn 135 = .ok (.iconst 1, 1) := dk_4 (dk_at dksX0_goesOn_5 17 rfl rfl)
theorem dX0_goesOn_136 : decode cX0_goesOn 136 = .ok (.goto 4, 3) := dk_167 0 4 (dk_at dksX0_goesOn_5 18 rfl rfl)
theorem dX0_goesOn_139 : decode cX0_goesOn 139 = .ok (.iconst 0, 1) := dk_3 (dk_at dksX0_goesOn_5 21 rfl rfl)
theorem dX0_goesOn_140 : decode cX0_goesOn 140 = .ok (.iadd, 1) := dk_96 (dk_at dksX0_goesOn_5 22 rfl rfl)
theorem dX0_goesOn_141 : decode cX0_goesOn 141 = .ok (.putfield 299, 3) := dk_181 1 43 (dk_at dksX0_goesOn_6 0 rfl rfl)
theorem dX0_goesOn_144 : decode cX0_goesOn 144 = .ok (.aload_n 0, 1) := dk_42 (dk_at dksX0_goesOn_6 3 rfl rfl)
theorem dX0_goesOn_145 : decode cX0_goesOn 145 = .ok (.getfield 296, 3) := dk_180 1 40 (dk_at dksX0_goesOn_6 4 rfl rfl)
theorem dX0_goesOn_148 : decode cX0_goesOn 148 = .ok (.iconst 1, 1) := dk_4 (dk_at dksX0_goesOn_6 7 rfl rfl)
theorem dX0_goesOn_149 : decode cX0_goesOn 149 = .ok (.if_icmp .ne 17, 3) := dk_160 0 17 (dk_at dksX0_goesOn_6 8 rfl rfl)
theorem dX0_goesOn_152 : decode cX0_goesOn 152 = .ok (.aload_n 0, 1) := dk_42 (dk_at dksX0_goesOn_6 11 rfl rfl)
theorem dX0_goesOn_153 : decode cX0_goesOn 153 = .ok (.aload_n 0, 1) := dk_42 (dk_at dksX0_goesOn_6 12 rfl rfl)
theorem dX0_goesOn_154 : decode cX0_goesOn 154 = .ok (.getfield 299, 3) := dk_180 1 43 (dk_at dksX0_goesOn_6 13 rfl rfl)
theorem dX0_goesOn_157 : decode cX0_goesOn 157 = .ok (.invokevirtual 302, 3) := dk_182 1 46 (dk_at dksX0_goesOn_6 16 rfl rfl)
theorem dX0_goesOn_160 : decode cX0_goesOn 160 = .ok (.invokestatic 308, 3) := dk_184 1 52 (dk_at dksX0_goesOn_6 19 rfl rfl)
theorem dX0_goesOn_163 : decode cX0_goesOn 163 = .ok (.ifCond .ne 25, 3) := dk_154 0 25 (dk_at dksX0_goesOn_7 0 rfl rfl)
theorem dX0_goesOn_166 : decode cX0_goesOn 166 = .ok (.aload_n 0, 1) := dk_42 (dk_at dksX0_goesOn_7 3 rfl rfl)
theorem dX0_goesOn_167 : decode cX0_goesOn 167 = .ok (.getfield 296, 3) := dk_180 1 40 (dk_at dksX0_goesOn_7 4 rfl rfl)
theorem dX0_goesOn_170 : decode cX0_goesOn 170 = .ok (.iconst 2, 1) := dk_5 (dk_at dksX0_goesOn_7 7 rfl rfl)
theorem dX0_goesOn_171 : decode cX0_goesOn 171 = .ok (.if_icmp .ne 78, 3) := dk_160 0 78 (dk_at dksX0_goesOn_7 8 rfl rfl)
theorem dX0_goesOn_174 : decode cX0_goesOn 174 = .ok (.aload_n 0, 1) := dk_42 (dk_at dksX0_goesOn_7 11 rfl rfl)
theorem dX0_goesOn_175 : decode cX0_goesOn 175 = .ok (.aload_n 0, 1) := dk_42 (dk_at dksX0_goesOn_7 12 rfl rfl)
theorem dX0_goesOn_176 : decode cX0_goesOn 176 = .ok (.getfield 299, 3) := dk_180 1 43 (dk_at dksX0_goesOn_7 13 rfl rfl)
theorem dX0_goesOn_179 : decode cX0_goesOn 179 = .ok (.invokevirtual 302, 3) := dk_182 1 46 (dk_at dksX0_goesOn_7 16 rfl rfl)
theorem dX0_goesOn_182 : decode cX0_goesOn 182 = .ok (.invokestatic 311, 3) := dk_184 1 55 (dk_at dksX0_goesOn_7 19 rfl rfl)
theorem dX0_goesOn_185 : decode cX0_goesOn 185 = .ok (.ifCond .eq 64, 3) := dk_153 0 64 (dk_at dksX0_goesOn_8 0 rfl rfl)
theorem dX0_goesOn_188 : decode cX0_goesOn 188 = .ok (.aload_n 0, 1) := dk_42 (dk_at dksX0_goesOn_8 3 rfl rfl)
theorem dX0_goesOn_189 : decode cX0_goesOn 189 = .ok (.aload_n 0, 1) := dk_42 (dk_at dksX0_goesOn_8 4 rfl rfl)
theorem dX0_goesOn_190 : decode cX0_goesOn 190 = .ok (.getfield 296, 3) := dk_180 1 40 (dk_at dksX0_goesOn_8 5 rfl rfl)
theorem dX0_goesOn_193 : decode cX0_goesOn 193 = .ok (.iconst 2, 1) := dk_5 (dk_at dksX0_goesOn_8 8 rfl rfl)
theorem dX0_goesOn_194 : decode cX0_goesOn 194 = .ok (.if_icmp .ne 38, 3) := dk_160 0 38 (dk_at dksX0_goesOn_8 9 rfl rfl)
theorem dX0_goesOn_197 : decode cX0_goesOn 197 = .ok (.aload_n 0, 1) := dk_42 (dk_at dksX0_goesOn_8 12 rfl rfl)
theorem dX0_goesOn_198 : decode cX0_goesOn 198 = .ok (.getfield 299, 3) := dk_180 1 43 (dk_at dksX0_goesOn_8 13 rfl rfl)
theorem dX0_goesOn_201 : decode cX0_goesOn 201 = .ok (.aload_n 0, 1) := dk_42 (dk_at dksX0_goesOn_8 16 rfl rfl)
theorem dX0_goesOn_202 : decode cX0_goesOn 202 = .ok (.getfield 305, 3) := dk_180 1 49 (dk_at dksX0_goesOn_8 17 rfl rfl)
theorem dX0_goesOn_205 : decode cX0_goesOn 205 = .ok (.isub, 1) := dk_100 (dk_at dksX0_goesOn_8 20 rfl rfl)
theorem dX0_goesOn_206 : decode cX0_goesOn 206 = .ok (.iconst 4, 1) := dk_7 (dk_at dksX0_goesOn_8 21 rfl rfl)
theorem dX0_goesOn_207 : decode cX0_goesOn 207 = .ok (.if_icmp .ge 25, 3) := dk_162 0 25 (dk_at dksX0_goesOn_9 0 rfl rfl)
theorem dX0_goesOn_210 : decode cX0_goesOn 210 = .ok (.bipush 10, 2) := dk_16 10 (dk_at dksX0_goesOn_9 3 rfl rfl)
theorem dX0_goesOn_212 : decode cX0_goesOn 212 = .ok (.aload_n 0, 1) := dk_42 (dk_at dksX0_goesOn_9 5 rfl rfl)
theorem dX0_goesOn_213 : decode cX0_goesOn 213 = .ok (.getfield 314, 3) := dk_180 1 58 (dk_at dksX0_goesOn_9 6 rfl rfl)
theorem dX0_goesOn_216 : decode cX0_goesOn 216 = .ok (.imul, 1) := dk_104 (dk_at dksX0_goesOn_9 9 rfl rfl)
theorem dX0_goesOn_217 : decode cX0_goesOn 217 = .ok (.aload_n 0, 1) := dk_42 (dk_at dksX0_goesOn_9 10 rfl rfl)
theorem dX0_goesOn_218 : decode cX0_goesOn 218 = .ok (.aload_n 0, 1) := dk_42 (dk_at dksX0_goesOn_9 11 rfl rfl)
theorem dX0_goesOn_219 : decode cX0_goesOn 219 = .ok (.getfield 299, 3) := dk_180 1 43 (dk_at dksX0_goesOn_9 12 rfl rfl)
theorem dX0_goesOn_222 : decode cX0_goesOn 222 = .ok (.invokevirtual 302, 3) := dk_182 1 46 (dk_at dksX0_goesOn_9 15 rfl rfl)
theorem dX0_goesOn_225 : decode cX0_goesOn 225 = .ok (.iadd, 1) := dk_96 (dk_at dksX0_goesOn_9 18 rfl rfl)
theorem dX0_goesOn_226 : decode cX0_goesOn 226 = .ok (.bipush 48, 2) := dk_16 48 (dk_at dksX0_goesOn_9 19 rfl rfl)
theorem dX0_goesOn_228 : decode cX0_goesOn 228 = .ok (.isub, 1) := dk_100 (dk_at dksX0_goesOn_9 21 rfl rfl)
theorem dX0_goesOn_229 : decode cX0_goesOn 229 = .ok (.goto 4, 3) := dk_167 0 4 (dk_at dksX0_goesOn_10 0 rfl rfl)
theorem dX0_goesOn_232 : decode cX0_goesOn 232 = .ok (.iload_n 3, 1) := dk_29 (dk_at dksX0_goesOn_10 3 rfl rfl)
theorem dX0_goesOn_233 : decode cX0_goesOn 233 = .ok (.putfield 314, 3) := dk_181 1 58 (dk_at dksX0_goesOn_10 4 rfl rfl)
theorem dX0_goesOn_236 : decode cX0_goesOn 236 = .ok (.aload_n 0, 1) := dk_42 (dk_at dksX0_goesOn_10 7 rfl rfl)
theorem dX0_goesOn_237 : decode cX0_goesOn 237 = .ok (.dup, 1) := dk_89 (dk_at dksX0_goesOn_10 8 rfl rfl)
theorem dX0_goesOn_238 : decode cX0_goesOn 238 = .ok (.getfield 299, 3) := dk_180 1 43 (dk_at dksX0_goesOn_10 9 rfl rfl)
theorem dX0_goesOn_241 : decode cX0_goesOn 241 = .ok (.iconst 1, 1) := dk_4 (dk_at dksX0_goesOn_10 12 rfl rfl)
theorem dX0_goesOn_242 : decode cX0_goesOn 242 = .ok (.iadd, 1) := dk_96 (dk_at dksX0_goesOn_10 13 rfl rfl)
theorem dX0_goesOn_243 : decode cX0_goesOn 243 = .ok (.putfield 299, 3) := dk_181 1 43 (dk_at dksX0_goesOn_10 14 rfl rfl)
theorem dX0_goesOn_246 : decode cX0_goesOn 246 = .ok (.goto (-102), 3) := dk_167 255 154 (dk_at dksX0_goesOn_10 17 rfl rfl)
theorem dX0_goesOn_249 : decode cX0_goesOn 249 = .ok (.iload_n 1, 1) := dk_27 (dk_at dksX0_goesOn_10 20 rfl rfl)
theorem dX0_goesOn_250 : decode cX0_goesOn 250 = .ok (.ifCond .eq 31, 3) := dk_153 0 31 (dk_at dksX0_goesOn_10 21 rfl rfl)
theorem dX0_goesOn_253 : decode cX0_goesOn 253 = .ok (.iload_n 2, 1) := dk_28 (dk_at dksX0_goesOn_11 0 rfl rfl)
theorem dX0_goesOn_254 : decode cX0_goesOn 254 = .ok (.aload_n 0, 1) := dk_42 (dk_at dksX0_goesOn_11 1 rfl rfl)
theorem dX0_goesOn_255 : decode cX0_goesOn 255 = .ok (.getfield 305, 3) := dk_180 1 49 (dk_at dksX0_goesOn_11 2 rfl rfl)
theorem dX0_goesOn_258 : decode cX0_goesOn 258 = .ok (.if_icmp .ne 23, 3) := dk_160 0 23 (dk_at dksX0_goesOn_11 5 rfl rfl)
theorem dX0_goesOn_261 : decode cX0_goesOn 261 = .ok (.aload_n 0, 1) := dk_42 (dk_at dksX0_goesOn_11 8 rfl rfl)
theorem dX0_goesOn_262 : decode cX0_goesOn 262 = .ok (.getfield 296, 3) := dk_180 1 40 (dk_at dksX0_goesOn_11 9 rfl rfl)
theorem dX0_goesOn_265 : decode cX0_goesOn 265 = .ok (.iconst 1, 1) := dk_4 (dk_at dksX0_goesOn_11 12 rfl rfl)
theorem dX0_goesOn_266 : decode cX0_goesOn 266 = .ok (.if_icmp .eq 11, 3) := dk_159 0 11 (dk_at dksX0_goesOn_11 13 rfl rfl)
theorem dX0_goesOn_269 : decode cX0_goesOn 269 = .ok (.aload_n 0, 1) := dk_42 (dk_at dksX0_goesOn_11 16 rfl rfl)
theorem dX0_goesOn_270 : decode cX0_goesOn 270 = .ok (.getfield 296, 3) := dk_180 1 40 (dk_at dksX0_goesOn_11 17 rfl rfl)
theorem dX0_goesOn_273 : decode cX0_goesOn 273 = .ok (.iconst 2, 1) := dk_5 (dk_at dksX0_goesOn_11 20 rfl rfl)
theorem dX0_goesOn_274 : decode cX0_goesOn 274 = .ok (.if_icmp .ne 7, 3) := dk_160 0 7 (dk_at dksX0_goesOn_11 21 rfl rfl)
theorem dX0_goesOn_277 : decode cX0_goesOn 277 = .ok (.iconst 1, 1) := dk_4 (dk_at dksX0_goesOn_12 0 rfl rfl)
theorem dX0_goesOn_278 : decode cX0_goesOn 278 = .ok (.goto 4, 3) := dk_167 0 4 (dk_at dksX0_goesOn_12 1 rfl rfl)
theorem dX0_goesOn_281 : decode cX0_goesOn 281 = .ok (.iconst 0, 1) := dk_3 (dk_at dksX0_goesOn_12 4 rfl rfl)
theorem dX0_goesOn_282 : decode cX0_goesOn 282 = .ok (.istore 4, 2) := dk_54 4 (dk_at dksX0_goesOn_12 5 rfl rfl)
theorem dX0_goesOn_284 : decode cX0_goesOn 284 = .ok (.iload 4, 2) := dk_21 4 (dk_at dksX0_goesOn_12 7 rfl rfl)
theorem dX0_goesOn_286 : decode cX0_goesOn 286 = .ok (.ifCond .ne 24, 3) := dk_154 0 24 (dk_at dksX0_goesOn_12 9 rfl rfl)
theorem dX0_goesOn_289 : decode cX0_goesOn 289 = .ok (.aload_n 0, 1) := dk_42 (dk_at dksX0_goesOn_12 12 rfl rfl)
theorem dX0_goesOn_290 : decode cX0_goesOn 290 = .ok (.getfield 296, 3) := dk_180 1 40 (dk_at dksX0_goesOn_12 13 rfl rfl)
theorem dX0_goesOn_293 : decode cX0_goesOn 293 = .ok (.iconst 2, 1) := dk_5 (dk_at dksX0_goesOn_12 16 rfl rfl)
theorem dX0_goesOn_294 : decode cX0_goesOn 294 = .ok (.if_icmp .ne 21, 3) := dk_160 0 21 (dk_at dksX0_goesOn_12 17 rfl rfl)
theorem dX0_goesOn_297 : decode cX0_goesOn 297 = .ok (.aload_n 0, 1) := dk_42 (dk_at dksX0_goesOn_12 20 rfl rfl)
theorem dX0_goesOn_298 : decode cX0_goesOn 298 = .ok (.getfield 299, 3) := dk_180 1 43 (dk_at dksX0_goesOn_12 21 rfl rfl)
theorem dX0_goesOn_301 : decode cX0_goesOn 301 = .ok (.aload_n 0, 1) := dk_42 (dk_at dksX0_goesOn_13 0 rfl rfl)
theorem dX0_goesOn_302 : decode cX0_goesOn 302 = .ok (.getfield 305, 3) := dk_180 1 49 (dk_at dksX0_goesOn_13 1 rfl rfl)
theorem dX0_goesOn_305 : decode cX0_goesOn 305 = .ok (.isub, 1) := dk_100 (dk_at dksX0_goesOn_13 4 rfl rfl)
theorem dX0_goesOn_306 : decode cX0_goesOn 306 = .ok (.iconst 4, 1) := dk_7 (dk_at dksX0_goesOn_13 5 rfl rfl)
theorem dX0_goesOn_307 : decode cX0_goesOn 307 = .ok (.if_icmp .le 8, 3) := dk_164 0 8 (dk_at dksX0_goesOn_13 6 rfl rfl)
theorem dX0_goesOn_310 : decode cX0_goesOn 310 = .ok (.aload_n 0, 1) := dk_42 (dk_at dksX0_goesOn_13 9 rfl rfl)
theorem dX0_goesOn_311 : decode cX0_goesOn 311 = .ok (.iconst 4, 1) := dk_7 (dk_at dksX0_goesOn_13 10 rfl rfl)
theorem dX0_goesOn_312 : decode cX0_goesOn 312 = .ok (.putfield 296, 3) := dk_181 1 40 (dk_at dksX0_goesOn_13 11 rfl rfl)
theorem dX0_goesOn_315 : decode cX0_goesOn 315 = .ok (.return_, 1) := dk_177 (dk_at dksX0_goesOn_13 14 rfl rfl)
abbrev cX0_byteAt : ByteArray := prog_1_method_47_code
def yX0_byteAt : MethodName := ⟨RX0, "byteAt", "(I)I"⟩
def dkwX0_byteAt_0 : List UInt8 := [27, 42, 180, 1, 37, 162, 0, 16, 42, 180, 0, 97, 27, 51, 17, 0, 255, 126, 167, 0, 4, 2, 172]
abbrev dktX0_byteAt_0 : List UInt8 := dkwX0_byteAt_0 ++ []
theorem dksX0_byteAt_0 : cX0_byteAt.data.toList.drop 0 = dktX0_byteAt_0 := by decide +kernel
theorem dX0_byteAt_0 : decode cX0_byteAt 0 = .ok (.iload_n 1, 1) := dk_27 (dk_at dksX0_byteAt_0 0 rfl rfl)
theorem dX0_byteAt_1 : decode cX0_byteAt 1 = .ok (.aload_n 0, 1) := dk_42 (dk_at dksX0_byteAt_0 1 rfl rfl)
theorem dX0_byteAt_2 : decode cX0_byteAt 2 = .ok (.getfield 293, 3) := dk_180 1 37 (dk_at dksX0_byteAt_0 2 rfl rfl)
theorem dX0_byteAt_5 : decode cX0_byteAt 5 = .ok (.if_icmp .ge 16, 3) := dk_162 0 16 (dk_at dksX0_byteAt_0 5 rfl rfl)
theorem dX0_byteAt_8 : decode cX0_byteAt 8 = .ok (.aload_n 0, 1) := dk_42 (dk_at dksX0_byteAt_0 8 rfl rfl)
theorem dX0_byteAt_9 : decode cX0_byteAt 9 = .ok (.getfield 97, 3) := dk_180 0 97 (dk_at dksX0_byteAt_0 9 rfl rfl)
theorem dX0_byteAt_12 : decode cX0_byteAt 12 = .ok (.iload_n 1, 1) := dk_27 (dk_at dksX0_byteAt_0 12 rfl rfl)
theorem dX0_byteAt_13 : decode cX0_byteAt 13 = .ok (.baload, 1) := dk_51 (dk_at dksX0_byteAt_0 13 rfl rfl)
theorem dX0_byteAt_14 : decode cX0_byteAt 14 = .ok (.sipush 255, 3) := dk_17 0 255 (dk_at dksX0_byteAt_0 14 rfl rfl)
theorem dX0_byteAt_17 : decode cX0_byteAt 17 = .ok (.iand, 1) := dk_126 (dk_at dksX0_byteAt_0 17 rfl rfl)
theorem dX0_byteAt_18 : decode cX0_byteAt 18 = .ok (.goto 4, 3) := dk_167 0 4 (dk_at dksX0_byteAt_0 18 rfl rfl)
theorem dX0_byteAt_21 : decode cX0_byteAt 21 = .ok (.iconst (-1), 1) := dk_2 (dk_at dksX0_byteAt_0 21 rfl rfl)
theorem dX0_byteAt_22 : decode cX0_byteAt 22 = .ok (.ireturn, 1) := dk_172 (dk_at dksX0_byteAt_0 22 rfl rfl)
abbrev cX0_isLetter : ByteArray := prog_1_method_45_code
def yX0_isLetter : MethodName := ⟨RX0, "isLetter", "(I)Z"⟩
def dkwX0_isLetter_0 : List UInt8 := [26, 16, 97, 161, 0, 13, 26, 16, 122, 163, 0, 7, 4, 167, 0, 4, 3, 172]
abbrev dktX0_isLetter_0 : List UInt8 := dkwX0_isLetter_0 ++ []
theorem dksX0_isLetter_0 : cX0_isLetter.data.toList.drop 0 = dktX0_isLetter_0 := by decide +kernel
theorem dX0_isLetter_0 : decode cX0_isLetter 0 = .ok (.iload_n 0, 1) := dk_26 (dk_at dksX0_isLetter_0 0 rfl rfl)
theorem dX0_isLetter_1 : decode cX0_isLetter 1 = .ok (.bipush 97, 2) := dk_16 97 (dk_at dksX0_isLetter_0 1 rfl rfl)
theorem dX0_isLetter_3 : decode cX0_isLetter 3 = .ok (.if_icmp .lt 13, 3) := dk_161 0 13 (dk_at dksX0_isLetter_0 3 rfl rfl)
theorem dX0_isLetter_6 : decode cX0_isLetter 6 = .ok (.iload_n 0, 1) := dk_26 (dk_at dksX0_isLetter_0 6 rfl rfl)
theorem dX0_isLetter_7 : decode cX0_isLetter 7 = .ok (.bipush 122, 2) := dk_16 122 (dk_at dksX0_isLetter_0 7 rfl rfl)
theorem dX0_isLetter_9 : decode cX0_isLetter 9 = .ok (.if_icmp .gt 7, 3) := dk_163 0 7 (dk_at dksX0_isLetter_0 9 rfl rfl)
theorem dX0_isLetter_12 : decode cX0_isLetter 12 = .ok (.iconst 1, 1) := dk_4 (dk_at dksX0_isLetter_0 12 rfl rfl)
theorem dX0_isLetter_13 : decode cX0_isLetter 13 = .ok (.goto 4, 3) := dk_167 0 4 (dk_at dksX0_isLetter_0 13 rfl rfl)
theorem dX0_isLetter_16 : decode cX0_isLetter 16 = .ok (.iconst 0, 1) := dk_3 (dk_at dksX0_isLetter_0 16 rfl rfl)
theorem dX0_isLetter_17 : decode cX0_isLetter 17 = .ok (.ireturn, 1) := dk_172 (dk_at dksX0_isLetter_0 17 rfl rfl)
abbrev cX0_isDigit : ByteArray := prog_1_method_46_code
def yX0_isDigit : MethodName := ⟨RX0, "isDigit", "(I)Z"⟩
def dkwX0_isDigit_0 : List UInt8 := [26, 16, 48, 161, 0, 13, 26, 16, 57, 163, 0, 7, 4, 167, 0, 4, 3, 172]
abbrev dktX0_isDigit_0 : List UInt8 := dkwX0_isDigit_0 ++ []
theorem dksX0_isDigit_0 : cX0_isDigit.data.toList.drop 0 = dktX0_isDigit_0 := by decide +kernel
theorem dX0_isDigit_0 : decode cX0_isDigit 0 = .ok (.iload_n 0, 1) := dk_26 (dk_at dksX0_isDigit_0 0 rfl rfl)
theorem dX0_isDigit_1 : decode cX0_isDigit 1 = .ok (.bipush 48, 2) := dk_16 48 (dk_at dksX0_isDigit_0 1 rfl rfl)
theorem dX0_isDigit_3 : decode cX0_isDigit 3 = .ok (.if_icmp .lt 13, 3) := dk_161 0 13 (dk_at dksX0_isDigit_0 3 rfl rfl)
theorem dX0_isDigit_6 : decode cX0_isDigit 6 = .ok (.iload_n 0, 1) := dk_26 (dk_at dksX0_isDigit_0 6 rfl rfl)
theorem dX0_isDigit_7 : decode cX0_isDigit 7 = .ok (.bipush 57, 2) := dk_16 57 (dk_at dksX0_isDigit_0 7 rfl rfl)
theorem dX0_isDigit_9 : decode cX0_isDigit 9 = .ok (.if_icmp .gt 7, 3) := dk_163 0 7 (dk_at dksX0_isDigit_0 9 rfl rfl)
theorem dX0_isDigit_12 : decode cX0_isDigit 12 = .ok (.iconst 1, 1) := dk_4 (dk_at dksX0_isDigit_0 12 rfl rfl)
theorem dX0_isDigit_13 : decode cX0_isDigit 13 = .ok (.goto 4, 3) := dk_167 0 4 (dk_at dksX0_isDigit_0 13 rfl rfl)
theorem dX0_isDigit_16 : decode cX0_isDigit 16 = .ok (.iconst 0, 1) := dk_3 (dk_at dksX0_isDigit_0 16 rfl rfl)
theorem dX0_isDigit_17 : decode cX0_isDigit 17 = .ok (.ireturn, 1) := dk_172 (dk_at dksX0_isDigit_0 17 rfl rfl)
abbrev cX0_isWord : ByteArray := prog_1_method_49_code
def yX0_isWord : MethodName := ⟨RX0, "isWord", "(Ljava/lang/String;)Z"⟩
def dkwX0_isWord_3 : List UInt8 := [167, 255, 216, 28, 172]
abbrev dktX0_isWord_3 : List UInt8 := dkwX0_isWord_3 ++ []
def dkwX0_isWord_2 : List UInt8 := [42, 180, 1, 49, 29, 96, 51, 43, 29, 182, 1, 66, 160, 0, 7, 4, 167, 0, 4, 3, 61, 132, 3, 1]
abbrev dktX0_isWord_2 : List UInt8 := dkwX0_isWord_2 ++ dktX0_isWord_3
def dkwX0_isWord_1 : List UInt8 := [4, 167, 0, 4, 3, 61, 3, 62, 28, 153, 0, 42, 29, 43, 182, 1, 61, 162, 0, 34, 42, 180, 0, 97]
abbrev dktX0_isWord_1 : List UInt8 := dkwX0_isWord_1 ++ dktX0_isWord_2
def dkwX0_isWord_0 : List UInt8 := [42, 180, 1, 40, 4, 160, 0, 23, 42, 180, 1, 43, 42, 180, 1, 49, 100, 43, 182, 1, 61, 160, 0, 7]
abbrev dktX0_isWord_0 : List UInt8 := dkwX0_isWord_0 ++ dktX0_isWord_1
theorem dksX0_isWord_0 : cX0_isWord.data.toList.drop 0 = dktX0_isWord_0 := by decide +kernel
theorem dksX0_isWord_1 : cX0_isWord.data.toList.drop 24 = dktX0_isWord_1 := dk_seg dksX0_isWord_0 24 rfl rfl
theorem dksX0_isWord_2 : cX0_isWord.data.toList.drop 48 = dktX0_isWord_2 := dk_seg dksX0_isWord_1 24 rfl rfl
theorem dksX0_isWord_3 : cX0_isWord.data.toList.drop 72 = dktX0_isWord_3 := dk_seg dksX0_isWord_2 24 rfl rfl
theorem dX0_isWord_0 : decode cX0_isWord 0 = .ok (.aload_n 0, 1) := dk_42 (dk_at dksX0_isWord_0 0 rfl rfl)
theorem dX0_isWord_1 : decode cX0_isWord 1 = .ok (.getfield 296, 3) := dk_180 1 40 (dk_at dksX0_isWord_0 1 rfl rfl)
theorem dX0_isWord_4 : decode cX0_isWord 4 = .ok (.iconst 1, 1) := dk_4 (dk_at dksX0_isWord_0 4 rfl rfl)
theorem dX0_isWord_5 : decode cX0_isWord 5 = .ok (.if_icmp .ne 23, 3) := dk_160 0 23 (dk_at dksX0_isWord_0 5 rfl rfl)
theorem dX0_isWord_8 : decode cX0_isWord 8 = .ok (.aload_n 0, 1) := dk_42 (dk_at dksX0_isWord_0 8 rfl rfl)
theorem dX0_isWord_9 : decode cX0_isWord 9 = .ok (.getfield 299, 3) := dk_180 1 43 (dk_at dksX0_isWord_0 9 rfl rfl)
theorem dX0_isWord_12 : decode cX0_isWord 12 = .ok (.aload_n 0, 1) := dk_42 (dk_at dksX0_isWord_0 12 rfl rfl)
theorem dX0_isWord_13 : decode cX0_isWord 13 = .ok (.getfield 305, 3) := dk_180 1 49 (dk_at dksX0_isWord_0 13 rfl rfl)
theorem dX0_isWord_16 : decode cX0_isWord 16 = .ok (.isub, 1) := dk_100 (dk_at dksX0_isWord_0 16 rfl rfl)
theorem dX0_isWord_17 : decode cX0_isWord 17 = .ok (.aload_n 1, 1) := dk_43 (dk_at dksX0_isWord_0 17 rfl rfl)
theorem dX0_isWord_18 : decode cX0_isWord 18 = .ok (.invokevirtual 317, 3) := dk_182 1 61 (dk_at dksX0_isWord_0 18 rfl rfl)
theorem dX0_isWord_21 : decode cX0_isWord 21 = .ok (.if_icmp .ne 7, 3) := dk_160 0 7 (dk_at dksX0_isWord_0 21 rfl rfl)
theorem dX0_isWord_24 : decode cX0_isWord 24 = .ok (.iconst 1, 1) := dk_4 (dk_at dksX0_isWord_1 0 rfl rfl)
theorem dX0_isWord_25 : decode cX0_isWord 25 = .ok (.goto 4, 3) := dk_167 0 4 (dk_at dksX0_isWord_1 1 rfl rfl)
theorem dX0_isWord_28 : decode cX0_isWord 28 = .ok (.iconst 0, 1) := dk_3 (dk_at dksX0_isWord_1 4 rfl rfl)
theorem dX0_isWord_29 : decode cX0_isWord 29 = .ok (.istore_n 2, 1) := dk_61 (dk_at dksX0_isWord_1 5 rfl rfl)
theorem dX0_isWord_30 : decode cX0_isWord 30 = .ok (.iconst 0, 1) := dk_3 (dk_at dksX0_isWord_1 6 rfl rfl)
theorem dX0_isWord_31 : decode cX0_isWord 31 = .ok (.istore_n 3, 1) := dk_62 (dk_at dksX0_isWord_1 7 rfl rfl)
theorem dX0_isWord_32 : decode cX0_isWord 32 = .ok (.iload_n 2, 1) := dk_28 (dk_at dksX0_isWord_1 8 rfl rfl)
theorem dX0_isWord_33 : decode cX0_isWord 33 = .ok (.ifCond .eq 42, 3) := dk_153 0 42 (dk_at dksX0_isWord_1 9 rfl rfl)
theorem dX0_isWord_36 : decode cX0_isWord 36 = .ok (.iload_n 3, 1) := dk_29 (dk_at dksX0_isWord_1 12 rfl rfl)
theorem dX0_isWord_37 : decode cX0_isWord 37 = .ok (.aload_n 1, 1) := dk_43 (dk_at dksX0_isWord_1 13 rfl rfl)
theorem dX0_isWord_38 : decode cX0_isWord 38 = .ok (.invokevirtual 317, 3) := dk_182 1 61 (dk_at dksX0_isWord_1 14 rfl rfl)
theorem dX0_isWord_41 : decode cX0_isWord 41 = .ok (.if_icmp .ge 34, 3) := dk_162 0 34 (dk_at dksX0_isWord_1 17 rfl rfl)
theorem dX0_isWord_44 : decode cX0_isWord 44 = .ok (.aload_n 0, 1) := dk_42 (dk_at dksX0_isWord_1 20 rfl rfl)
theorem dX0_isWord_45 : decode cX0_isWord 45 = .ok (.getfield 97, 3) := dk_180 0 97 (dk_at dksX0_isWord_1 21 rfl rfl)
theorem dX0_isWord_48 : decode cX0_isWord 48 = .ok (.aload_n 0, 1) := dk_42 (dk_at dksX0_isWord_2 0 rfl rfl)
theorem dX0_isWord_49 : decode cX0_isWord 49 = .ok (.getfield 305, 3) := dk_180 1 49 (dk_at dksX0_isWord_2 1 rfl rfl)
theorem dX0_isWord_52 : decode cX0_isWord 52 = .ok (.iload_n 3, 1) := dk_29 (dk_at dksX0_isWord_2 4 rfl rfl)
theorem dX0_isWord_53 : decode cX0_isWord 53 = .ok (.iadd, 1) := dk_96 (dk_at dksX0_isWord_2 5 rfl rfl)
theorem dX0_isWord_54 : decode cX0_isWord 54 = .ok (.baload, 1) := dk_51 (dk_at dksX0_isWord_2 6 rfl rfl)
theorem dX0_isWord_55 : decode cX0_isWord 55 = .ok (.aload_n 1, 1) := dk_43 (dk_at dksX0_isWord_2 7 rfl rfl)
theorem dX0_isWord_56 : decode cX0_isWord 56 = .ok (.iload_n 3, 1) := dk_29 (dk_at dksX0_isWord_2 8 rfl rfl)
theorem dX0_isWord_57 : decode cX0_isWord 57 = .ok (.invokevirtual 322, 3) := dk_182 1 66 (dk_at dksX0_isWord_2 9 rfl rfl)
theorem dX0_isWord_60 : decode cX0_isWord 60 = .ok (.if_icmp .ne 7, 3) := dk_160 0 7 (dk_at dksX0_isWord_2 12 rfl rfl)
theorem dX0_isWord_63 : decode cX0_isWord 63 = .ok (.iconst 1, 1) := dk_4 (dk_at dksX0_isWord_2 15 rfl rfl)
theorem dX0_isWord_64 : decode cX0_isWord 64 = .ok (.goto 4, 3) := dk_167 0 4 (dk_at dksX0_isWord_2 16 rfl rfl)
theorem dX0_isWord_67 : decode cX0_isWord 67 = .ok (.iconst 0, 1) := dk_3 (dk_at dksX0_isWord_2 19 rfl rfl)
theorem dX0_isWord_68 : decode cX0_isWord 68 = .ok (.istore_n 2, 1) := dk_61 (dk_at dksX0_isWord_2 20 rfl rfl)
theorem dX0_isWord_69 : decode cX0_isWord 69 = .ok (.iinc 3 1, 3) := dk_132 3 1 (dk_at dksX0_isWord_2 21 rfl rfl)
theorem dX0_isWord_72 : decode cX0_isWord 72 = .ok (.goto (-40), 3) := dk_167 255 216 (dk_at dksX0_isWord_3 0 rfl rfl)
theorem dX0_isWord_75 : decode cX0_isWord 75 = .ok (.iload_n 2, 1) := dk_28 (dk_at dksX0_isWord_3 3 rfl rfl)
theorem dX0_isWord_76 : decode cX0_isWord 76 = .ok (.ireturn, 1) := dk_172 (dk_at dksX0_isWord_3 4 rfl rfl)
abbrev cX0_must : ByteArray := prog_1_method_51_code
def yX0_must : MethodName := ⟨RX0, "must", "(Z)V"⟩
def dkwX0_must_0 : List UInt8 := [27, 154, 0, 15, 187, 1, 70, 89, 42, 180, 1, 49, 183, 1, 72, 191, 177]
abbrev dktX0_must_0 : List UInt8 := dkwX0_must_0 ++ []
theorem dksX0_must_0 : cX0_must.data.toList.drop 0 = dktX0_must_0 := by decide +kernel
theorem dX0_must_0 : decode cX0_must 0 = .ok (.iload_n 1, 1) := dk_27 (dk_at dksX0_must_0 0 rfl rfl)
theorem dX0_must_1 : decode cX0_must 1 = .ok (.ifCond .ne 15, 3) := dk_154 0 15 (dk_at dksX0_must_0 1 rfl rfl)
theorem dX0_must_4 : decode cX0_must 4 = .ok (.new 326, 3) := dk_187 1 70 (dk_at dksX0_must_0 4 rfl rfl)
theorem dX0_must_7 : decode cX0_must 7 = .ok (.dup, 1) := dk_89 (dk_at dksX0_must_0 7 rfl rfl)
theorem dX0_must_8 : decode cX0_must 8 = .ok (.aload_n 0, 1) := dk_42 (dk_at dksX0_must_0 8 rfl rfl)
theorem dX0_must_9 : decode cX0_must 9 = .ok (.getfield 305, 3) := dk_180 1 49 (dk_at dksX0_must_0 9 rfl rfl)
theorem dX0_must_12 : decode cX0_must 12 = .ok (.invokespecial 328, 3) := dk_183 1 72 (dk_at dksX0_must_0 12 rfl rfl)
theorem dX0_must_15 : decode cX0_must 15 = .ok (.athrow, 1) := dk_191 (dk_at dksX0_must_0 15 rfl rfl)
theorem dX0_must_16 : decode cX0_must 16 = .ok (.return_, 1) := dk_177 (dk_at dksX0_must_0 16 rfl rfl)
abbrev cX0_either : ByteArray := prog_1_method_52_code
def yX0_either : MethodName := ⟨RX0, "either", "()LTwoGuilds$Worth;"⟩
def dkwX0_either_1 : List UInt8 := [43, 42, 182, 1, 74, 183, 1, 85, 76, 167, 255, 228, 43, 176]
abbrev dktX0_either_1 : List UInt8 := dkwX0_either_1 ++ []
def dkwX0_either_0 : List UInt8 := [42, 182, 1, 74, 76, 42, 16, 124, 182, 1, 78, 153, 0, 25, 42, 182, 1, 81, 187, 1, 83, 89, 16, 124]
abbrev dktX0_either_0 : List UInt8 := dkwX0_either_0 ++ dktX0_either_1
theorem dksX0_either_0 : cX0_either.data.toList.drop 0 = dktX0_either_0 := by decide +kernel
theorem dksX0_either_1 : cX0_either.data.toList.drop 24 = dktX0_either_1 := dk_seg dksX0_either_0 24 rfl rfl
theorem dX0_either_0 : decode cX0_either 0 = .ok (.aload_n 0, 1) := dk_42 (dk_at dksX0_either_0 0 rfl rfl)
theorem dX0_either_1 : decode cX0_either 1 = .ok (.invokevirtual 330, 3) := dk_182 1 74 (dk_at dksX0_either_0 1 rfl rfl)
theorem dX0_either_4 : decode cX0_either 4 = .ok (.astore_n 1, 1) := dk_76 (dk_at dksX0_either_0 4 rfl rfl)
theorem dX0_either_5 : decode cX0_either 5 = .ok (.aload_n 0, 1) := dk_42 (dk_at dksX0_either_0 5 rfl rfl)
theorem dX0_either_6 : decode cX0_either 6 = .ok (.bipush 124, 2) := dk_16 124 (dk_at dksX0_either_0 6 rfl rfl)
theorem dX0_either_8 : decode cX0_either 8 = .ok (.invokevirtual 334, 3) := dk_182 1 78 (dk_at dksX0_either_0 8 rfl rfl)
theorem dX0_either_11 : decode cX0_either 11 = .ok (.ifCond .eq 25, 3) := dk_153 0 25 (dk_at dksX0_either_0 11 rfl rfl)
theorem dX0_either_14 : decode cX0_either 14 = .ok (.aload_n 0, 1) := dk_42 (dk_at dksX0_either_0 14 rfl rfl)
theorem dX0_either_15 : decode cX0_either 15 = .ok (.invokevirtual 337, 3) := dk_182 1 81 (dk_at dksX0_either_0 15 rfl rfl)
theorem dX0_either_18 : decode cX0_either 18 = .ok (.new 339, 3) := dk_187 1 83 (dk_at dksX0_either_0 18 rfl rfl)
theorem dX0_either_21 : decode cX0_either 21 = .ok (.dup, 1) := dk_89 (dk_at dksX0_either_0 21 rfl rfl)
theorem dX0_either_22 : decode cX0_either 22 = .ok (.bipush 124, 2) := dk_16 124 (dk_at dksX0_either_0 22 rfl rfl)
theorem dX0_either_24 : decode cX0_either 24 = .ok (.aload_n 1, 1) := dk_43 (dk_at dksX0_either_1 0 rfl rfl)
theorem dX0_either_25 : decode cX0_either 25 = .ok (.aload_n 0, 1) := dk_42 (dk_at dksX0_either_1 1 rfl rfl)
theorem dX0_either_26 : decode cX0_either 26 = .ok (.invokevirtual 330, 3) := dk_182 1 74 (dk_at dksX0_either_1 2 rfl rfl)
theorem dX0_either_29 : decode cX0_either 29 = .ok (.invokespecial 341, 3) := dk_183 1 85 (dk_at dksX0_either_1 5 rfl rfl)
theorem dX0_either_32 : decode cX0_either 32 = .ok (.astore_n 1, 1) := dk_76 (dk_at dksX0_either_1 8 rfl rfl)
theorem dX0_either_33 : decode cX0_either 33 = .ok (.goto (-28), 3) := dk_167 255 228 (dk_at dksX0_either_1 9 rfl rfl)
theorem dX0_either_36 : decode cX0_either 36 = .ok (.aload_n 1, 1) := dk_43 (dk_at dksX0_either_1 12 rfl rfl)
theorem dX0_either_37 : decode cX0_either 37 = .ok (.areturn, 1) := dk_176 (dk_at dksX0_either_1 13 rfl rfl)
abbrev cX0_both : ByteArray := prog_1_method_53_code
def yX0_both : MethodName := ⟨RX0, "both", "()LTwoGuilds$Worth;"⟩
def dkwX0_both_1 : List UInt8 := [43, 42, 182, 1, 88, 183, 1, 85, 76, 167, 255, 228, 43, 176]
abbrev dktX0_both_1 : List UInt8 := dkwX0_both_1 ++ []
def dkwX0_both_0 : List UInt8 := [42, 182, 1, 88, 76, 42, 16, 38, 182, 1, 78, 153, 0, 25, 42, 182, 1, 81, 187, 1, 83, 89, 16, 38]
abbrev dktX0_both_0 : List UInt8 := dkwX0_both_0 ++ dktX0_both_1
theorem dksX0_both_0 : cX0_both.data.toList.drop 0 = dktX0_both_0 := by decide +kernel
theorem dksX0_both_1 : cX0_both.data.toList.drop 24 = dktX0_both_1 := dk_seg dksX0_both_0 24 rfl rfl
theorem dX0_both_0 : decode cX0_both 0 = .ok (.aload_n 0, 1) := dk_42 (dk_at dksX0_both_0 0 rfl rfl)
theorem dX0_both_1 : decode cX0_both 1 = .ok (.invokevirtual 344, 3) := dk_182 1 88 (dk_at dksX0_both_0 1 rfl rfl)
theorem dX0_both_4 : decode cX0_both 4 = .ok (.astore_n 1, 1) := dk_76 (dk_at dksX0_both_0 4 rfl rfl)
theorem dX0_both_5 : decode cX0_both 5 = .ok (.aload_n 0, 1) := dk_42 (dk_at dksX0_both_0 5 rfl rfl)
theorem dX0_both_6 : decode cX0_both 6 = .ok (.bipush 38, 2) := dk_16 38 (dk_at dksX0_both_0 6 rfl rfl)
theorem dX0_both_8 : decode cX0_both 8 = .ok (.invokevirtual 334, 3) := dk_182 1 78 (dk_at dksX0_both_0 8 rfl rfl)
theorem dX0_both_11 : decode cX0_both 11 = .ok (.ifCond .eq 25, 3) := dk_153 0 25 (dk_at dksX0_both_0 11 rfl rfl)
theorem dX0_both_14 : decode cX0_both 14 = .ok (.aload_n 0, 1) := dk_42 (dk_at dksX0_both_0 14 rfl rfl)
theorem dX0_both_15 : decode cX0_both 15 = .ok (.invokevirtual 337, 3) := dk_182 1 81 (dk_at dksX0_both_0 15 rfl rfl)
theorem dX0_both_18 : decode cX0_both 18 = .ok (.new 339, 3) := dk_187 1 83 (dk_at dksX0_both_0 18 rfl rfl)
theorem dX0_both_21 : decode cX0_both 21 = .ok (.dup, 1) := dk_89 (dk_at dksX0_both_0 21 rfl rfl)
theorem dX0_both_22 : decode cX0_both 22 = .ok (.bipush 38, 2) := dk_16 38 (dk_at dksX0_both_0 22 rfl rfl)
theorem dX0_both_24 : decode cX0_both 24 = .ok (.aload_n 1, 1) := dk_43 (dk_at dksX0_both_1 0 rfl rfl)
theorem dX0_both_25 : decode cX0_both 25 = .ok (.aload_n 0, 1) := dk_42 (dk_at dksX0_both_1 1 rfl rfl)
theorem dX0_both_26 : decode cX0_both 26 = .ok (.invokevirtual 344, 3) := dk_182 1 88 (dk_at dksX0_both_1 2 rfl rfl)
theorem dX0_both_29 : decode cX0_both 29 = .ok (.invokespecial 341, 3) := dk_183 1 85 (dk_at dksX0_both_1 5 rfl rfl)
theorem dX0_both_32 : decode cX0_both 32 = .ok (.astore_n 1, 1) := dk_76 (dk_at dksX0_both_1 8 rfl rfl)
theorem dX0_both_33 : decode cX0_both 33 = .ok (.goto (-28), 3) := dk_167 255 228 (dk_at dksX0_both_1 9 rfl rfl)
theorem dX0_both_36 : decode cX0_both 36 = .ok (.aload_n 1, 1) := dk_43 (dk_at dksX0_both_1 12 rfl rfl)
theorem dX0_both_37 : decode cX0_both 37 = .ok (.areturn, 1) := dk_176 (dk_at dksX0_both_1 13 rfl rfl)
abbrev cX0_test : ByteArray := prog_1_method_54_code
def yX0_test : MethodName := ⟨RX0, "test", "()LTwoGuilds$Worth;"⟩
def dkwX0_test_2 : List UInt8 := [182, 1, 91, 183, 1, 85, 76, 43, 176]
abbrev dktX0_test_2 : List UInt8 := dkwX0_test_2 ++ []
def dkwX0_test_1 : List UInt8 := [16, 62, 182, 1, 78, 153, 0, 26, 42, 180, 1, 58, 61, 42, 182, 1, 81, 187, 1, 83, 89, 28, 43, 42]
abbrev dktX0_test_1 : List UInt8 := dkwX0_test_1 ++ dktX0_test_2
def dkwX0_test_0 : List UInt8 := [42, 182, 1, 91, 76, 42, 16, 60, 182, 1, 78, 154, 0, 21, 42, 16, 61, 182, 1, 78, 154, 0, 12, 42]
abbrev dktX0_test_0 : List UInt8 := dkwX0_test_0 ++ dktX0_test_1
theorem dksX0_test_0 : cX0_test.data.toList.drop 0 = dktX0_test_0 := by decide +kernel
theorem dksX0_test_1 : cX0_test.data.toList.drop 24 = dktX0_test_1 := dk_seg dksX0_test_0 24 rfl rfl
theorem dksX0_test_2 : cX0_test.data.toList.drop 48 = dktX0_test_2 := dk_seg dksX0_test_1 24 rfl rfl
theorem dX0_test_0 : decode cX0_test 0 = .ok (.aload_n 0, 1) := dk_42 (dk_at dksX0_test_0 0 rfl rfl)
theorem dX0_test_1 : decode cX0_test 1 = .ok (.invokevirtual 347, 3) := dk_182 1 91 (dk_at dksX0_test_0 1 rfl rfl)
theorem dX0_test_4 : decode cX0_test 4 = .ok (.astore_n 1, 1) := dk_76 (dk_at dksX0_test_0 4 rfl rfl)
theorem dX0_test_5 : decode cX0_test 5 = .ok (.aload_n 0, 1) := dk_42 (dk_at dksX0_test_0 5 rfl rfl)
theorem dX0_test_6 : decode cX0_test 6 = .ok (.bipush 60, 2) := dk_16 60 (dk_at dksX0_test_0 6 rfl rfl)
theorem dX0_test_8 : decode cX0_test 8 = .ok (.invokevirtual 334, 3) := dk_182 1 78 (dk_at dksX0_test_0 8 rfl rfl)
theorem dX0_test_11 : decode cX0_test 11 = .ok (.ifCond .ne 21, 3) := dk_154 0 21 (dk_at dksX0_test_0 11 rfl rfl)
theorem dX0_test_14 : decode cX0_test 14 = .ok (.aload_n 0, 1) := dk_42 (dk_at dksX0_test_0 14 rfl rfl)
theorem dX0_test_15 : decode cX0_test 15 = .ok (.bipush 61, 2) := dk_16 61 (dk_at dksX0_test_0 15 rfl rfl)
theorem dX0_test_17 : decode cX0_test 17 = .ok (.invokevirtual 334, 3) := dk_182 1 78 (dk_at dksX0_test_0 17 rfl rfl)
theorem dX0_test_20 : decode cX0_test 20 = .ok (.ifCond .ne 12, 3) := dk_154 0 12 (dk_at dksX0_test_0 20 rfl rfl)
theorem dX0_test_23 : decode cX0_test 23 = .ok (.aload_n 0, 1) := dk_42 (dk_at dksX0_test_0 23 rfl rfl)
theorem dX0_test_24 : decode cX0_test 24 = .ok (.bipush 62, 2) := dk_16 62 (dk_at dksX0_test_1 0 rfl rfl)
theorem dX0_test_26 : decode cX0_test 26 = .ok (.invokevirtual 334, 3) := dk_182 1 78 (dk_at dksX0_test_1 2 rfl rfl)
theorem dX0_test_29 : decode cX0_test 29 = .ok (.ifCond .eq 26, 3) := dk_153 0 26 (dk_at dksX0_test_1 5 rfl rfl)
theorem dX0_test_32 : decode cX0_test 32 = .ok (.aload_n 0, 1) := dk_42 (dk_at dksX0_test_1 8 rfl rfl)
theorem dX0_test_33 : decode cX0_test 33 = .ok (.getfield 314, 3) := dk_180 1 58 (dk_at dksX0_test_1 9 rfl rfl)
theorem dX0_test_36 : decode cX0_test 36 = .ok (.istore_n 2, 1) := dk_61 (dk_at dksX0_test_1 12 rfl rfl)
theorem dX0_test_37 : decode cX0_test 37 = .ok (.aload_n 0, 1) := dk_42 (dk_at dksX0_test_1 13 rfl rfl)
theorem dX0_test_38 : decode cX0_test 38 = .ok (.invokevirtual 337, 3) := dk_182 1 81 (dk_at dksX0_test_1 14 rfl rfl)
theorem dX0_test_41 : decode cX0_test 41 = .ok (.new 339, 3) := dk_187 1 83 (dk_at dksX0_test_1 17 rfl rfl)
theorem dX0_test_44 : decode cX0_test 44 = .ok (.dup, 1) := dk_89 (dk_at dksX0_test_1 20 rfl rfl)
theorem dX0_test_45 : decode cX0_test 45 = .ok (.iload_n 2, 1) := dk_28 (dk_at dksX0_test_1 21 rfl rfl)
theorem dX0_test_46 : decode cX0_test 46 = .ok (.aload_n 1, 1) := dk_43 (dk_at dksX0_test_1 22 rfl rfl)
theorem dX0_test_47 : decode cX0_test 47 = .ok (.aload_n 0, 1) := dk_42 (dk_at dksX0_test_1 23 rfl rfl)
theorem dX0_test_48 : decode cX0_test 48 = .ok (.invokevirtual 347, 3) := dk_182 1 91 (dk_at dksX0_test_2 0 rfl rfl)
theorem dX0_test_51 : decode cX0_test 51 = .ok (.invokespecial 341, 3) := dk_183 1 85 (dk_at dksX0_test_2 3 rfl rfl)
theorem dX0_test_54 : decode cX0_test 54 = .ok (.astore_n 1, 1) := dk_76 (dk_at dksX0_test_2 6 rfl rfl)
theorem dX0_test_55 : decode cX0_test 55 = .ok (.aload_n 1, 1) := dk_43 (dk_at dksX0_test_2 7 rfl rfl)
theorem dX0_test_56 : decode cX0_test 56 = .ok (.areturn, 1) := dk_176 (dk_at dksX0_test_2 8 rfl rfl)
abbrev cX0_plus : ByteArray := prog_1_method_55_code
def yX0_plus : MethodName := ⟨RX0, "plus", "()LTwoGuilds$Worth;"⟩
def dkwX0_plus_2 : List UInt8 := [167, 255, 215, 43, 176]
abbrev dktX0_plus_2 : List UInt8 := dkwX0_plus_2 ++ []
def dkwX0_plus_1 : List UInt8 := [180, 1, 58, 61, 42, 182, 1, 81, 187, 1, 83, 89, 28, 43, 42, 182, 1, 94, 183, 1, 85, 76]
abbrev dktX0_plus_1 : List UInt8 := dkwX0_plus_1 ++ dktX0_plus_2
def dkwX0_plus_0 : List UInt8 := [42, 182, 1, 94, 76, 42, 16, 43, 182, 1, 78, 154, 0, 12, 42, 16, 45, 182, 1, 78, 153, 0, 29, 42]
abbrev dktX0_plus_0 : List UInt8 := dkwX0_plus_0 ++ dktX0_plus_1
theorem dksX0_plus_0 : cX0_plus.data.toList.drop 0 = dktX0_plus_0 := by decide +kernel
theorem dksX0_plus_1 : cX0_plus.data.toList.drop 24 = dktX0_plus_1 := dk_seg dksX0_plus_0 24 rfl rfl
theorem dksX0_plus_2 : cX0_plus.data.toList.drop 46 = dktX0_plus_2 := dk_seg dksX0_plus_1 22 rfl rfl
theorem dX0_plus_0 : decode cX0_plus 0 = .ok (.aload_n 0, 1) := dk_42 (dk_at dksX0_plus_0 0 rfl rfl)
theorem dX0_plus_1 : decode cX0_plus 1 = .ok (.invokevirtual 350, 3) := dk_182 1 94 (dk_at dksX0_plus_0 1 rfl rfl)
theorem dX0_plus_4 : decode cX0_plus 4 = .ok (.astore_n 1, 1) := dk_76 (dk_at dksX0_plus_0 4 rfl rfl)
theorem dX0_plus_5 : decode cX0_plus 5 = .ok (.aload_n 0, 1) := dk_42 (dk_at dksX0_plus_0 5 rfl rfl)
theorem dX0_plus_6 : decode cX0_plus 6 = .ok (.bipush 43, 2) := dk_16 43 (dk_at dksX0_plus_0 6 rfl rfl)
theorem dX0_plus_8 : decode cX0_plus 8 = .ok (.invokevirtual 334, 3) := dk_182 1 78 (dk_at dksX0_plus_0 8 rfl rfl)
theorem dX0_plus_11 : decode cX0_plus 11 = .ok (.ifCond .ne 12, 3) := dk_154 0 12 (dk_at dksX0_plus_0 11 rfl rfl)
theorem dX0_plus_14 : decode cX0_plus 14 = .ok (.aload_n 0, 1) := dk_42 (dk_at dksX0_plus_0 14 rfl rfl)
theorem dX0_plus_15 : decode cX0_plus 15 = .ok (.bipush 45, 2) := dk_16 45 (dk_at dksX0_plus_0 15 rfl rfl)
theorem dX0_plus_17 : decode cX0_plus 17 = .ok (.invokevirtual 334, 3) := dk_182 1 78 (dk_at dksX0_plus_0 17 rfl rfl)
theorem dX0_plus_20 : decode cX0_plus 20 = .ok (.ifCond .eq 29, 3) := dk_153 0 29 (dk_at dksX0_plus_0 20 rfl rfl)
theorem dX0_plus_23 : decode cX0_plus 23 = .ok (.aload_n 0, 1) := dk_42 (dk_at dksX0_plus_0 23 rfl rfl)
theorem dX0_plus_24 : decode cX0_plus 24 = .ok (.getfield 314, 3) := dk_180 1 58 (dk_at dksX0_plus_1 0 rfl rfl)
theorem dX0_plus_27 : decode cX0_plus 27 = .ok (.istore_n 2, 1) := dk_61 (dk_at dksX0_plus_1 3 rfl rfl)
theorem dX0_plus_28 : decode cX0_plus 28 = .ok (.aload_n 0, 1) := dk_42 (dk_at dksX0_plus_1 4 rfl rfl)
theorem dX0_plus_29 : decode cX0_plus 29 = .ok (.invokevirtual 337, 3) := dk_182 1 81 (dk_at dksX0_plus_1 5 rfl rfl)
theorem dX0_plus_32 : decode cX0_plus 32 = .ok (.new 339, 3) := dk_187 1 83 (dk_at dksX0_plus_1 8 rfl rfl)
theorem dX0_plus_35 : decode cX0_plus 35 = .ok (.dup, 1) := dk_89 (dk_at dksX0_plus_1 11 rfl rfl)
theorem dX0_plus_36 : decode cX0_plus 36 = .ok (.iload_n 2, 1) := dk_28 (dk_at dksX0_plus_1 12 rfl rfl)
theorem dX0_plus_37 : decode cX0_plus 37 = .ok (.aload_n 1, 1) := dk_43 (dk_at dksX0_plus_1 13 rfl rfl)
theorem dX0_plus_38 : decode cX0_plus 38 = .ok (.aload_n 0, 1) := dk_42 (dk_at dksX0_plus_1 14 rfl rfl)
theorem dX0_plus_39 : decode cX0_plus 39 = .ok (.invokevirtual 350, 3) := dk_182 1 94 (dk_at dksX0_plus_1 15 rfl rfl)
theorem dX0_plus_42 : decode cX0_plus 42 = .ok (.invokespecial 341, 3) := dk_183 1 85 (dk_at dksX0_plus_1 18 rfl rfl)
theorem dX0_plus_45 : decode cX0_plus 45 = .ok (.astore_n 1, 1) := dk_76 (dk_at dksX0_plus_1 21 rfl rfl)
theorem dX0_plus_46 : decode cX0_plus 46 = .ok (.goto (-41), 3) := dk_167 255 215 (dk_at dksX0_plus_2 0 rfl rfl)
theorem dX0_plus_49 : decode cX0_plus 49 = .ok (.aload_n 1, 1) := dk_43 (dk_at dksX0_plus_2 3 rfl rfl)
theorem dX0_plus_50 : decode cX0_plus 50 = .ok (.areturn, 1) := dk_176 (dk_at dksX0_plus_2 4 rfl rfl)
abbrev cX0_times : ByteArray := prog_1_method_56_code
def yX0_times : MethodName := ⟨RX0, "times", "()LTwoGuilds$Worth;"⟩
def dkwX0_times_2 : List UInt8 := [167, 255, 215, 43, 176]
abbrev dktX0_times_2 : List UInt8 := dkwX0_times_2 ++ []
def dkwX0_times_1 : List UInt8 := [180, 1, 58, 61, 42, 182, 1, 81, 187, 1, 83, 89, 28, 43, 42, 182, 1, 97, 183, 1, 85, 76]
abbrev dktX0_times_1 : List UInt8 := dkwX0_times_1 ++ dktX0_times_2
def dkwX0_times_0 : List UInt8 := [42, 182, 1, 97, 76, 42, 16, 42, 182, 1, 78, 154, 0, 12, 42, 16, 47, 182, 1, 78, 153, 0, 29, 42]
abbrev dktX0_times_0 : List UInt8 := dkwX0_times_0 ++ dktX0_times_1
theorem dksX0_times_0 : cX0_times.data.toList.drop 0 = dktX0_times_0 := by decide +kernel
theorem dksX0_times_1 : cX0_times.data.toList.drop 24 = dktX0_times_1 := dk_seg dksX0_times_0 24 rfl rfl
theorem dksX0_times_2 : cX0_times.data.toList.drop 46 = dktX0_times_2 := dk_seg dksX0_times_1 22 rfl rfl
theorem dX0_times_0 : decode cX0_times 0 = .ok (.aload_n 0, 1) := dk_42 (dk_at dksX0_times_0 0 rfl rfl)
theorem dX0_times_1 : decode cX0_times 1 = .ok (.invokevirtual 353, 3) := dk_182 1 97 (dk_at dksX0_times_0 1 rfl rfl)
theorem dX0_times_4 : decode cX0_times 4 = .ok (.astore_n 1, 1) := dk_76 (dk_at dksX0_times_0 4 rfl rfl)
theorem dX0_times_5 : decode cX0_times 5 = .ok (.aload_n 0, 1) := dk_42 (dk_at dksX0_times_0 5 rfl rfl)
theorem dX0_times_6 : decode cX0_times 6 = .ok (.bipush 42, 2) := dk_16 42 (dk_at dksX0_times_0 6 rfl rfl)
theorem dX0_times_8 : decode cX0_times 8 = .ok (.invokevirtual 334, 3) := dk_182 1 78 (dk_at dksX0_times_0 8 rfl rfl)
theorem dX0_times_11 : decode cX0_times 11 = .ok (.ifCond .ne 12, 3) := dk_154 0 12 (dk_at dksX0_times_0 11 rfl rfl)
theorem dX0_times_14 : decode cX0_times 14 = .ok (.aload_n 0, 1) := dk_42 (dk_at dksX0_times_0 14 rfl rfl)
theorem dX0_times_15 : decode cX0_times 15 = .ok (.bipush 47, 2) := dk_16 47 (dk_at dksX0_times_0 15 rfl rfl)
theorem dX0_times_17 : decode cX0_times 17 = .ok (.invokevirtual 334, 3) := dk_182 1 78 (dk_at dksX0_times_0 17 rfl rfl)
theorem dX0_times_20 : decode cX0_times 20 = .ok (.ifCond .eq 29, 3) := dk_153 0 29 (dk_at dksX0_times_0 20 rfl rfl)
theorem dX0_times_23 : decode cX0_times 23 = .ok (.aload_n 0, 1) := dk_42 (dk_at dksX0_times_0 23 rfl rfl)
theorem dX0_times_24 : decode cX0_times 24 = .ok (.getfield 314, 3) := dk_180 1 58 (dk_at dksX0_times_1 0 rfl rfl)
theorem dX0_times_27 : decode cX0_times 27 = .ok (.istore_n 2, 1) := dk_61 (dk_at dksX0_times_1 3 rfl rfl)
theorem dX0_times_28 : decode cX0_times 28 = .ok (.aload_n 0, 1) := dk_42 (dk_at dksX0_times_1 4 rfl rfl)
theorem dX0_times_29 : decode cX0_times 29 = .ok (.invokevirtual 337, 3) := dk_182 1 81 (dk_at dksX0_times_1 5 rfl rfl)
theorem dX0_times_32 : decode cX0_times 32 = .ok (.new 339, 3) := dk_187 1 83 (dk_at dksX0_times_1 8 rfl rfl)
theorem dX0_times_35 : decode cX0_times 35 = .ok (.dup, 1) := dk_89 (dk_at dksX0_times_1 11 rfl rfl)
theorem dX0_times_36 : decode cX0_times 36 = .ok (.iload_n 2, 1) := dk_28 (dk_at dksX0_times_1 12 rfl rfl)
theorem dX0_times_37 : decode cX0_times 37 = .ok (.aload_n 1, 1) := dk_43 (dk_at dksX0_times_1 13 rfl rfl)
theorem dX0_times_38 : decode cX0_times 38 = .ok (.aload_n 0, 1) := dk_42 (dk_at dksX0_times_1 14 rfl rfl)
theorem dX0_times_39 : decode cX0_times 39 = .ok (.invokevirtual 353, 3) := dk_182 1 97 (dk_at dksX0_times_1 15 rfl rfl)
theorem dX0_times_42 : decode cX0_times 42 = .ok (.invokespecial 341, 3) := dk_183 1 85 (dk_at dksX0_times_1 18 rfl rfl)
theorem dX0_times_45 : decode cX0_times 45 = .ok (.astore_n 1, 1) := dk_76 (dk_at dksX0_times_1 21 rfl rfl)
theorem dX0_times_46 : decode cX0_times 46 = .ok (.goto (-41), 3) := dk_167 255 215 (dk_at dksX0_times_2 0 rfl rfl)
theorem dX0_times_49 : decode cX0_times 49 = .ok (.aload_n 1, 1) := dk_43 (dk_at dksX0_times_2 3 rfl rfl)
theorem dX0_times_50 : decode cX0_times 50 = .ok (.areturn, 1) := dk_176 (dk_at dksX0_times_2 4 rfl rfl)
abbrev cX0_part : ByteArray := prog_1_method_58_code
def yX0_part : MethodName := ⟨RX0, "part", "()LTwoGuilds$Worth;"⟩
def dkwX0_part_8 : List UInt8 := [182, 1, 78, 182, 1, 120, 42, 89, 180, 1, 129, 4, 100, 181, 1, 129, 42, 182, 1, 81, 44, 176]
abbrev dktX0_part_8 : List UInt8 := dkwX0_part_8 ++ []
def dkwX0_part_7 : List UInt8 := [89, 180, 1, 129, 4, 96, 181, 1, 129, 42, 182, 1, 81, 42, 182, 1, 132, 77, 42, 42, 16, 41]
abbrev dktX0_part_7 : List UInt8 := dkwX0_part_7 ++ dktX0_part_8
def dkwX0_part_6 : List UInt8 := [182, 1, 78, 153, 0, 16, 42, 180, 1, 129, 16, 8, 162, 0, 7, 4, 167, 0, 4, 3, 182, 1, 120, 42]
abbrev dktX0_part_6 : List UInt8 := dkwX0_part_6 ++ dktX0_part_7
def dkwX0_part_5 : List UInt8 := [182, 1, 97, 183, 1, 126, 77, 42, 89, 180, 1, 117, 4, 100, 181, 1, 117, 44, 176, 42, 42, 16, 40]
abbrev dktX0_part_5 : List UInt8 := dkwX0_part_5 ++ dktX0_part_6
def dkwX0_part_4 : List UInt8 := [3, 182, 1, 120, 42, 89, 180, 1, 117, 4, 96, 181, 1, 117, 42, 182, 1, 81, 187, 1, 124, 89, 42]
abbrev dktX0_part_4 : List UInt8 := dkwX0_part_4 ++ dktX0_part_5
def dkwX0_part_3 : List UInt8 := [176, 42, 16, 33, 182, 1, 78, 153, 0, 59, 42, 42, 180, 1, 117, 16, 8, 162, 0, 7, 4, 167, 0, 4]
abbrev dktX0_part_3 : List UInt8 := dkwX0_part_3 ++ dktX0_part_4
def dkwX0_part_2 : List UInt8 := [28, 153, 0, 14, 187, 1, 109, 89, 27, 183, 1, 111, 167, 0, 12, 187, 1, 112, 89, 42, 27, 183, 1, 114]
abbrev dktX0_part_2 : List UInt8 := dkwX0_part_2 ++ dktX0_part_3
def dkwX0_part_1 : List UInt8 := [5, 160, 0, 7, 4, 167, 0, 4, 3, 61, 42, 89, 180, 1, 106, 4, 96, 181, 1, 106, 42, 182, 1, 81]
abbrev dktX0_part_1 : List UInt8 := dkwX0_part_1 ++ dktX0_part_2
def dkwX0_part_0 : List UInt8 := [42, 180, 1, 58, 60, 42, 180, 1, 40, 5, 159, 0, 10, 42, 182, 1, 103, 153, 0, 56, 42, 180, 1, 40]
abbrev dktX0_part_0 : List UInt8 := dkwX0_part_0 ++ dktX0_part_1
theorem dksX0_part_0 : cX0_part.data.toList.drop 0 = dktX0_part_0 := by decide +kernel
theorem dksX0_part_1 : cX0_part.data.toList.drop 24 = dktX0_part_1 := dk_seg dksX0_part_0 24 rfl rfl
theorem dksX0_part_2 : cX0_part.data.toList.drop 48 = dktX0_part_2 := dk_seg dksX0_part_1 24 rfl rfl
theorem dksX0_part_3 : cX0_part.data.toList.drop 72 = dktX0_part_3 := dk_seg dksX0_part_2 24 rfl rfl
theorem dksX0_part_4 : cX0_part.data.toList.drop 96 = dktX0_part_4 := dk_seg dksX0_part_3 24 rfl rfl
theorem dksX0_part_5 : cX0_part.data.toList.drop 119 = dktX0_part_5 := dk_seg dksX0_part_4 23 rfl rfl
theorem dksX0_part_6 : cX0_part.data.toList.drop 142 = dktX0_part_6 := dk_seg dksX0_part_5 23 rfl rfl
theorem dksX0_part_7 : cX0_part.data.toList.drop 166 = dktX0_part_7 := dk_seg dksX0_part_6 24 rfl rfl
theorem dksX0_part_8 : cX0_part.data.toList.drop 188 = dktX0_part_8 := dk_seg dksX0_part_7 22 rfl rfl
theorem dX0_part_0 : decode cX0_part 0 = .ok (.aload_n 0, 1) := dk_42 (dk_at dksX0_part_0 0 rfl rfl)
theorem dX0_part_1 : decode cX0_part 1 = .ok (.getfield 314, 3) := dk_180 1 58 (dk_at dksX0_part_0 1 rfl rfl)
theorem dX0_part_4 : decode cX0_part 4 = .ok (.istore_n 1, 1) := dk_60 (dk_at dksX0_part_0 4 rfl rfl)
theorem dX0_part_5 : decode cX0_part 5 = .ok (.aload_n 0, 1) := dk_42 (dk_at dksX0_part_0 5 rfl rfl)
theorem dX0_part_6 : decode cX0_part 6 = .ok (.getfield 296, 3) := dk_180 1 40 (dk_at dksX0_part_0 6 rfl rfl)
theorem dX0_part_9 : decode cX0_part 9 = .ok (.iconst 2, 1) := dk_5 (dk_at dksX0_part_0 9 rfl rfl)
theorem dX0_part_10 : decode cX0_part 10 = .ok (.if_icmp .eq 10, 3) := dk_159 0 10 (dk_at dksX0_part_0 10 rfl rfl)
theorem dX0_part_13 : decode cX0_part 13 = .ok (.aload_n 0, 1) := dk_42 (dk_at dksX0_part_0 13 rfl rfl)
theorem dX0_part_14 : decode cX0_part 14 = .ok (.invokevirtual 359, 3) := dk_182 1 103 (dk_at dksX0_part_0 14 rfl rfl)
theorem dX0_part_17 : decode cX0_part 17 = .ok (.ifCond .eq 56, 3) := dk_153 0 56 (dk_at dksX0_part_0 17 rfl rfl)
theorem dX0_part_20 : decode cX0_part 20 = .ok (.aload_n 0, 1) := dk_42 (dk_at dksX0_part_0 20 rfl rfl)
theorem dX0_part_21 : decode cX0_part 21 = .ok (.getfield 296, 3) := dk_180 1 40 (dk_at dksX0_part_0 21 rfl rfl)
theorem dX0_part_24 : decode cX0_part 24 = .ok (.iconst 2, 1) := dk_5 (dk_at dksX0_part_1 0 rfl rfl)
theorem dX0_part_25 : decode cX0_part 25 = .ok (.if_icmp .ne 7, 3) := dk_160 0 7 (dk_at dksX0_part_1 1 rfl rfl)
theorem dX0_part_28 : decode cX0_part 28 = .ok (.iconst 1, 1) := dk_4 (dk_at dksX0_part_1 4 rfl rfl)
theorem dX0_part_29 : decode cX0_part 29 = .ok (.goto 4, 3) := dk_167 0 4 (dk_at dksX0_part_1 5 rfl rfl)
theorem dX0_part_32 : decode cX0_part 32 = .ok (.iconst 0, 1) := dk_3 (dk_at dksX0_part_1 8 rfl rfl)
theorem dX0_part_33 : decode cX0_part 33 = .ok (.istore_n 2, 1) := dk_61 (dk_at dksX0_part_1 9 rfl rfl)
theorem dX0_part_34 : decode cX0_part 34 = .ok (.aload_n 0, 1) := dk_42 (dk_at dksX0_part_1 10 rfl rfl)
theorem dX0_part_35 : decode cX0_part 35 = .ok (.dup, 1) := dk_89 (dk_at dksX0_part_1 11 rfl rfl)
theorem dX0_part_36 : decode cX0_part 36 = .ok (.getfield 362, 3) := dk_180 1 106 (dk_at dksX0_part_1 12 rfl rfl)
theorem dX0_part_39 : decode cX0_part 39 = .ok (.iconst 1, 1) := dk_4 (dk_at dksX0_part_1 15 rfl rfl)
theorem dX0_part_40 : decode cX0_part 40 = .ok (.iadd, 1) := dk_96 (dk_at dksX0_part_1 16 rfl rfl)
theorem dX0_part_41 : decode cX0_part 41 = .ok (.putfield 362, 3) := dk_181 1 106 (dk_at dksX0_part_1 17 rfl rfl)
theorem dX0_part_44 : decode cX0_part 44 = .ok (.aload_n 0, 1) := dk_42 (dk_at dksX0_part_1 20 rfl rfl)
theorem dX0_part_45 : decode cX0_part 45 = .ok (.invokevirtual 337, 3) := dk_182 1 81 (dk_at dksX0_part_1 21 rfl rfl)
theorem dX0_part_48 : decode cX0_part 48 = .ok (.iload_n 2, 1) := dk_28 (dk_at dksX0_part_2 0 rfl rfl)
theorem dX0_part_49 : decode cX0_part 49 = .ok (.ifCond .eq 14, 3) := dk_153 0 14 (dk_at dksX0_part_2 1 rfl rfl)
theorem dX0_part_52 : decode cX0_part 52 = .ok (.new 365, 3) := dk_187 1 109 (dk_at dksX0_part_2 4 rfl rfl)
theorem dX0_part_55 : decode cX0_part 55 = .ok (.dup, 1) := dk_89 (dk_at dksX0_part_2 7 rfl rfl)
theorem dX0_part_56 : decode cX0_part 56 = .ok (.iload_n 1, 1) := dk_27 (dk_at dksX0_part_2 8 rfl rfl)
theorem dX0_part_57 : decode cX0_part 57 = .ok (.invokespecial 367, 3) := dk_183 1 111 (dk_at dksX0_part_2 9 rfl rfl)
theorem dX0_part_60 : decode cX0_part 60 = .ok (.goto 12, 3) := dk_167 0 12 (dk_at dksX0_part_2 12 rfl rfl)
theorem dX0_part_63 : decode cX0_part 63 = .ok (.new 368, 3) := dk_187 1 112 (dk_at dksX0_part_2 15 rfl rfl)
theorem dX0_part_66 : decode cX0_part 66 = .ok (.dup, 1) := dk_89 (dk_at dksX0_part_2 18 rfl rfl)
theorem dX0_part_67 : decode cX0_part 67 = .ok (.aload_n 0, 1) := dk_42 (dk_at dksX0_part_2 19 rfl rfl)
theorem dX0_part_68 : decode cX0_part 68 = .ok (.iload_n 1, 1) := dk_27 (dk_at dksX0_part_2 20 rfl rfl)
theorem dX0_part_69 : decode cX0_part 69 = .ok (.invokespecial 370, 3) := dk_183 1 114 (dk_at dksX0_part_2 21 rfl rfl)
theorem dX0_part_72 : decode cX0_part 72 = .ok (.areturn, 1) := dk_176 (dk_at dksX0_part_3 0 rfl rfl)
theorem dX0_part_73 : decode cX0_part 73 = .ok (.aload_n 0, 1) := dk_42 (dk_at dksX0_part_3 1 rfl rfl)
theorem dX0_part_74 : decode cX0_part 74 = .ok (.bipush 33, 2) := dk_16 33 (dk_at dksX0_part_3 2 rfl rfl)
theorem dX0_part_76 : decode cX0_part 76 = .ok (.invokevirtual 334, 3) := dk_182 1 78 (dk_at dksX0_part_3 4 rfl rfl)
theorem dX0_part_79 : decode cX0_part 79 = .ok (.ifCond .eq 59, 3) := dk_153 0 59 (dk_at dksX0_part_3 7 rfl rfl)
theorem dX0_part_82 : decode cX0_part 82 = .ok (.aload_n 0, 1) := dk_42 (dk_at dksX0_part_3 10 rfl rfl)
theorem dX0_part_83 : decode cX0_part 83 = .ok (.aload_n 0, 1) := dk_42 (dk_at dksX0_part_3 11 rfl rfl)
theorem dX0_part_84 : decode cX0_part 84 = .ok (.getfield 373, 3) := dk_180 1 117 (dk_at dksX0_part_3 12 rfl rfl)
theorem dX0_part_87 : decode cX0_part 87 = .ok (.bipush 8, 2) := dk_16 8 (dk_at dksX0_part_3 15 rfl rfl)
theorem dX0_part_89 : decode cX0_part 89 = .ok (.if_icmp .ge 7, 3) := dk_162 0 7 (dk_at dksX0_part_3 17 rfl rfl)
theorem dX0_part_92 : decode cX0_part 92 = .ok (.iconst 1, 1) := dk_4 (dk_at dksX0_part_3 20 rfl rfl)
theorem dX0_part_93 : decode cX0_part 93 = .ok (.goto 4, 3) := dk_167 0 4 (dk_at dksX0_part_3 21 rfl rfl)
theorem dX0_part_96 : decode cX0_part 96 = .ok (.iconst 0, 1) := dk_3 (dk_at dksX0_part_4 0 rfl rfl)
theorem dX0_part_97 : decode cX0_part 97 = .ok (.invokevirtual 376, 3) := dk_182 1 120 (dk_at dksX0_part_4 1 rfl rfl)
theorem dX0_part_100 : decode cX0_part 100 = .ok (.aload_n 0, 1) := dk_42 (dk_at dksX0_part_4 4 rfl rfl)
theorem dX0_part_101 : decode cX0_part 101 = .ok (.dup, 1) := dk_89 (dk_at dksX0_part_4 5 rfl rfl)
theorem dX0_part_102 : decode cX0_part 102 = .ok (.getfield 373, 3) := dk_180 1 117 (dk_at dksX0_part_4 6 rfl rfl)
theorem dX0_part_105 : decode cX0_part 105 = .ok (.iconst 1, 1) := dk_4 (dk_at dksX0_part_4 9 rfl rfl)
theorem dX0_part_106 : decode cX0_part 106 = .ok (.iadd, 1) := dk_96 (dk_at dksX0_part_4 10 rfl rfl)
theorem dX0_part_107 : decode cX0_part 107 = .ok (.putfield 373, 3) := dk_181 1 117 (dk_at dksX0_part_4 11 rfl rfl)
theorem dX0_part_110 : decode cX0_part 110 = .ok (.aload_n 0, 1) := dk_42 (dk_at dksX0_part_4 14 rfl rfl)
theorem dX0_part_111 : decode cX0_part 111 = .ok (.invokevirtual 337, 3) := dk_182 1 81 (dk_at dksX0_part_4 15 rfl rfl)
theorem dX0_part_114 : decode cX0_part 114 = .ok (.new 380, 3) := dk_187 1 124 (dk_at dksX0_part_4 18 rfl rfl)
theorem dX0_part_117 : decode cX0_part 117 = .ok (.dup, 1) := dk_89 (dk_at dksX0_part_4 21 rfl rfl)
theorem dX0_part_118 : decode cX0_part 118 = .ok (.aload_n 0, 1) := dk_42 (dk_at dksX0_part_4 22 rfl rfl)
theorem dX0_part_119 : decode cX0_part 119 = .ok (.invokevirtual 353, 3) := dk_182 1 97 (dk_at dksX0_part_5 0 rfl rfl)
theorem dX0_part_122 : decode cX0_part 122 = .ok (.invokespecial 382, 3) := dk_183 1 126 (dk_at dksX0_part_5 3 rfl rfl)
theorem dX0_part_125 : decode cX0_part 125 = .ok (.astore_n 2, 1) := dk_77 (dk_at dksX0_part_5 6 rfl rfl)
theorem dX0_part_126 : decode cX0_part 126 = .ok (.aload_n 0, 1) := dk_42 (dk_at dksX0_part_5 7 rfl rfl)
theorem dX0_part_127 : decode cX0_part 127 = .ok (.dup, 1) := dk_89 (dk_at dksX0_part_5 8 rfl rfl)
theorem dX0_part_128 : decode cX0_part 128 = .ok (.getfield 373, 3) := dk_180 1 117 (dk_at dksX0_part_5 9 rfl rfl)
theorem dX0_part_131 : decode cX0_part 131 = .ok (.iconst 1, 1) := dk_4 (dk_at dksX0_part_5 12 rfl rfl)
theorem dX0_part_132 : decode cX0_part 132 = .ok (.isub, 1) := dk_100 (dk_at dksX0_part_5 13 rfl rfl)
theorem dX0_part_133 : decode cX0_part 133 = .ok (.putfield 373, 3) := dk_181 1 117 (dk_at dksX0_part_5 14 rfl rfl)
theorem dX0_part_136 : decode cX0_part 136 = .ok (.aload_n 2, 1) := dk_44 (dk_at dksX0_part_5 17 rfl rfl)
theorem dX0_part_137 : decode cX0_part 137 = .ok (.areturn, 1) := dk_176 (dk_at dksX0_part_5 18 rfl rfl)
theorem dX0_part_138 : decode cX0_part 138 = .ok (.aload_n 0, 1) := dk_42 (dk_at dksX0_part_5 19 rfl rfl)
theorem dX0_part_139 : decode cX0_part 139 = .ok (.aload_n 0, 1) := dk_42 (dk_at dksX0_part_5 20 rfl rfl)
theorem dX0_part_140 : decode cX0_part 140 = .ok (.bipush 40, 2) := dk_16 40 (dk_at dksX0_part_5 21 rfl rfl)
theorem dX0_part_142 : decode cX0_part 142 = .ok (.invokevirtual 334, 3) := dk_182 1 78 (dk_at dksX0_part_6 0 rfl rfl)
theorem dX0_part_145 : decode cX0_part 145 = .ok (.ifCond .eq 16, 3) := dk_153 0 16 (dk_at dksX0_part_6 3 rfl rfl)
theorem dX0_part_148 : decode cX0_part 148 = .ok (.aload_n 0, 1) := dk_42 (dk_at dksX0_part_6 6 rfl rfl)
theorem dX0_part_149 : decode cX0_part 149 = .ok (.getfield 385, 3) := dk_180 1 129 (dk_at dksX0_part_6 7 rfl rfl)
theorem dX0_part_152 : decode cX0_part 152 = .ok (.bipush 8, 2) := dk_16 8 (dk_at dksX0_part_6 10 rfl rfl)
theorem dX0_part_154 : decode cX0_part 154 = .ok (.if_icmp .ge 7, 3) := dk_162 0 7 (dk_at dksX0_part_6 12 rfl rfl)
theorem dX0_part_157 : decode cX0_part 157 = .ok (.iconst 1, 1) := dk_4 (dk_at dksX0_part_6 15 rfl rfl)
theorem dX0_part_158 : decode cX0_part 158 = .ok (.goto 4, 3) := dk_167 0 4 (dk_at dksX0_part_6 16 rfl rfl)
theorem dX0_part_161 : decode cX0_part 161 = .ok (.iconst 0, 1) := dk_3 (dk_at dksX0_part_6 19 rfl rfl)
theorem dX0_part_162 : decode cX0_part 162 = .ok (.invokevirtual 376, 3) := dk_182 1 120 (dk_at dksX0_part_6 20 rfl rfl)
theorem dX0_part_165 : decode cX0_part 165 = .ok (.aload_n 0, 1) := dk_42 (dk_at dksX0_part_6 23 rfl rfl)
theorem dX0_part_166 : decode cX0_part 166 = .ok (.dup, 1) := dk_89 (dk_at dksX0_part_7 0 rfl rfl)
theorem dX0_part_167 : decode cX0_part 167 = .ok (.getfield 385, 3) := dk_180 1 129 (dk_at dksX0_part_7 1 rfl rfl)
theorem dX0_part_170 : decode cX0_part 170 = .ok (.iconst 1, 1) := dk_4 (dk_at dksX0_part_7 4 rfl rfl)
theorem dX0_part_171 : decode cX0_part 171 = .ok (.iadd, 1) := dk_96 (dk_at dksX0_part_7 5 rfl rfl)
theorem dX0_part_172 : decode cX0_part 172 = .ok (.putfield 385, 3) := dk_181 1 129 (dk_at dksX0_part_7 6 rfl rfl)
theorem dX0_part_175 : decode cX0_part 175 = .ok (.aload_n 0, 1) := dk_42 (dk_at dksX0_part_7 9 rfl rfl)
theorem dX0_part_176 : decode cX0_part 176 = .ok (.invokevirtual 337, 3) := dk_182 1 81 (dk_at dksX0_part_7 10 rfl rfl)
theorem dX0_part_179 : decode cX0_part 179 = .ok (.aload_n 0, 1) := dk_42 (dk_at dksX0_part_7 13 rfl rfl)
theorem dX0_part_180 : decode cX0_part 180 = .ok (.invokevirtual 388, 3) := dk_182 1 132 (dk_at dksX0_part_7 14 rfl rfl)
theorem dX0_part_183 : decode cX0_part 183 = .ok (.astore_n 2, 1) := dk_77 (dk_at dksX0_part_7 17 rfl rfl)
theorem dX0_part_184 : decode cX0_part 184 = .ok (.aload_n 0, 1) := dk_42 (dk_at dksX0_part_7 18 rfl rfl)
theorem dX0_part_185 : decode cX0_part 185 = .ok (.aload_n 0, 1) := dk_42 (dk_at dksX0_part_7 19 rfl rfl)
theorem dX0_part_186 : decode cX0_part 186 = .ok (.bipush 41, 2) := dk_16 41 (dk_at dksX0_part_7 20 rfl rfl)
theorem dX0_part_188 : decode cX0_part 188 = .ok (.invokevirtual 334, 3) := dk_182 1 78 (dk_at dksX0_part_8 0 rfl rfl)
theorem dX0_part_191 : decode cX0_part 191 = .ok (.invokevirtual 376, 3) := dk_182 1 120 (dk_at dksX0_part_8 3 rfl rfl)
theorem dX0_part_194 : decode cX0_part 194 = .ok (.aload_n 0, 1) := dk_42 (dk_at dksX0_part_8 6 rfl rfl)
theorem dX0_part_195 : decode cX0_part 195 = .ok (.dup, 1) := dk_89 (dk_at dksX0_part_8 7 rfl rfl)
theorem dX0_part_196 : decode cX0_part 196 = .ok (.getfield 385, 3) := dk_180 1 129 (dk_at dksX0_part_8 8 rfl rfl)
theorem dX0_part_199 : decode cX0_part 199 = .ok (.iconst 1, 1) := dk_4 (dk_at dksX0_part_8 11 rfl rfl)
theorem dX0_part_200 : decode cX0_part 200 = .ok (.isub, 1) := dk_100 (dk_at dksX0_part_8 12 rfl rfl)
theorem dX0_part_201 : decode cX0_part 201 = .ok (.putfield 385, 3) := dk_181 1 129 (dk_at dksX0_part_8 13 rfl rfl)
theorem dX0_part_204 : decode cX0_part 204 = .ok (.aload_n 0, 1) := dk_42 (dk_at dksX0_part_8 16 rfl rfl)
theorem dX0_part_205 : decode cX0_part 205 = .ok (.invokevirtual 337, 3) := dk_182 1 81 (dk_at dksX0_part_8 17 rfl rfl)
theorem dX0_part_208 : decode cX0_part 208 = .ok (.aload_n 2, 1) := dk_44 (dk_at dksX0_part_8 20 rfl rfl)
theorem dX0_part_209 : decode cX0_part 209 = .ok (.areturn, 1) := dk_176 (dk_at dksX0_part_8 21 rfl rfl)
abbrev cX0_isName : ByteArray := prog_1_method_57_code
def yX0_isName : MethodName := ⟨RX0, "isName", "()Z"⟩
def dkwX0_isName_6 : List UInt8 := [160, 0, 7, 4, 167, 0, 4, 3, 172]
abbrev dktX0_isName_6 : List UInt8 := dkwX0_isName_6 ++ []
def dkwX0_isName_5 : List UInt8 := [160, 0, 7, 4, 167, 0, 4, 3, 172, 42, 180, 1, 58, 16, 100, 159, 0, 12, 42, 180, 1, 58, 16, 108]
abbrev dktX0_isName_5 : List UInt8 := dkwX0_isName_5 ++ dktX0_isName_6
def dkwX0_isName_4 : List UInt8 := [160, 0, 7, 4, 167, 0, 4, 3, 172, 42, 180, 1, 58, 16, 120, 159, 0, 12, 42, 180, 1, 58, 16, 112]
abbrev dktX0_isName_4 : List UInt8 := dkwX0_isName_4 ++ dktX0_isName_5
def dkwX0_isName_3 : List UInt8 := [42, 180, 1, 58, 16, 97, 159, 0, 21, 42, 180, 1, 58, 16, 98, 159, 0, 12, 42, 180, 1, 58, 16, 119]
abbrev dktX0_isName_3 : List UInt8 := dkwX0_isName_3 ++ dktX0_isName_4
def dkwX0_isName_2 : List UInt8 := [171, 0, 0, 0, 82, 0, 0, 0, 2, 0, 0, 0, 0, 0, 0, 0, 25, 0, 0, 0, 1, 0, 0, 0, 58]
abbrev dktX0_isName_2 : List UInt8 := dkwX0_isName_2 ++ dktX0_isName_3
def dkwX0_isName_1 : List UInt8 := [180, 1, 100]
abbrev dktX0_isName_1 : List UInt8 := dkwX0_isName_1 ++ dktX0_isName_2
def dkwX0_isName_0 : List UInt8 := [42, 180, 1, 40, 4, 160, 0, 16, 42, 180, 1, 43, 42, 180, 1, 49, 100, 4, 159, 0, 5, 3, 172, 42]
abbrev dktX0_isName_0 : List UInt8 := dkwX0_isName_0 ++ dktX0_isName_1
theorem dksX0_isName_0 : cX0_isName.data.toList.drop 0 = dktX0_isName_0 := by decide +kernel
theorem dksX0_isName_1 : cX0_isName.data.toList.drop 24 = dktX0_isName_1 := dk_seg dksX0_isName_0 24 rfl rfl
theorem dksX0_isName_2 : cX0_isName.data.toList.drop 27 = dktX0_isName_2 := dk_seg dksX0_isName_1 3 rfl rfl
theorem dksX0_isName_3 : cX0_isName.data.toList.drop 52 = dktX0_isName_3 := dk_seg dksX0_isName_2 25 rfl rfl
theorem dksX0_isName_4 : cX0_isName.data.toList.drop 76 = dktX0_isName_4 := dk_seg dksX0_isName_3 24 rfl rfl
theorem dksX0_isName_5 : cX0_isName.data.toList.drop 100 = dktX0_isName_5 := dk_seg dksX0_isName_4 24 rfl rfl
theorem dksX0_isName_6 : cX0_isName.data.toList.drop 124 = dktX0_isName_6 := dk_seg dksX0_isName_5 24 rfl rfl
theorem dX0_isName_0 : decode cX0_isName 0 = .ok (.aload_n 0, 1) := dk_42 (dk_at dksX0_isName_0 0 rfl rfl)
theorem dX0_isName_1 : decode cX0_isName 1 = .ok (.getfield 296, 3) := dk_180 1 40 (dk_at dksX0_isName_0 1 rfl rfl)
theorem dX0_isName_4 : decode cX0_isName 4 = .ok (.iconst 1, 1) := dk_4 (dk_at dksX0_isName_0 4 rfl rfl)
theorem dX0_isName_5 : decode cX0_isName 5 = .ok (.if_icmp .ne 16, 3) := dk_160 0 16 (dk_at dksX0_isName_0 5 rfl rfl)
theorem dX0_isName_8 : decode cX0_isName 8 = .ok (.aload_n 0, 1) := dk_42 (dk_at dksX0_isName_0 8 rfl rfl)
theorem dX0_isName_9 : decode cX0_isName 9 = .ok (.getfield 299, 3) := dk_180 1 43 (dk_at dksX0_isName_0 9 rfl rfl)
theorem dX0_isName_12 : decode cX0_isName 12 = .ok (.aload_n 0, 1) := dk_42 (dk_at dksX0_isName_0 12 rfl rfl)
theorem dX0_isName_13 : decode cX0_isName 13 = .ok (.getfield 305, 3) := dk_180 1 49 (dk_at dksX0_isName_0 13 rfl rfl)
theorem dX0_isName_16 : decode cX0_isName 16 = .ok (.isub, 1) := dk_100 (dk_at dksX0_isName_0 16 rfl rfl)
theorem dX0_isName_17 : decode cX0_isName 17 = .ok (.iconst 1, 1) := dk_4 (dk_at dksX0_isName_0 17 rfl rfl)
theorem dX0_isName_18 : decode cX0_isName 18 = .ok (.if_icmp .eq 5, 3) := dk_159 0 5 (dk_at dksX0_isName_0 18 rfl rfl)
theorem dX0_isName_21 : decode cX0_isName 21 = .ok (.iconst 0, 1) := dk_3 (dk_at dksX0_isName_0 21 rfl rfl)
theorem dX0_isName_22 : decode cX0_isName 22 = .ok (.ireturn, 1) := dk_172 (dk_at dksX0_isName_0 22 rfl rfl)
theorem dX0_isName_23 : decode cX0_isName 23 = .ok (.aload_n 0, 1) := dk_42 (dk_at dksX0_isName_0 23 rfl rfl)
theorem dX0_isName_24 : decode cX0_isName 24 = .ok (.getfield 356, 3) := dk_180 1 100 (dk_at dksX0_isName_1 0 rfl rfl)
theorem dX0_isName_27 : decode cX0_isName 27 = .ok (.lookupswitch 82 #[(0, 25), (1, 58)], 25) := by decide +kernel
theorem dX0_isName_52 : decode cX0_isName 52 = .ok (.aload_n 0, 1) := dk_42 (dk_at dksX0_isName_3 0 rfl rfl)
theorem dX0_isName_53 : decode cX0_isName 53 = .ok (.getfield 314, 3) := dk_180 1 58 (dk_at dksX0_isName_3 1 rfl rfl)
theorem dX0_isName_56 : decode cX0_isName 56 = .ok (.bipush 97, 2) := dk_16 97 (dk_at dksX0_isName_3 4 rfl rfl)
theorem dX0_isName_58 : decode cX0_isName 58 = .ok (.if_icmp .eq 21, 3) := dk_159 0 21 (dk_at dksX0_isName_3 6 rfl rfl)
theorem dX0_isName_61 : decode cX0_isName 61 = .ok (.aload_n 0, 1) := dk_42 (dk_at dksX0_isName_3 9 rfl rfl)
theorem dX0_isName_62 : decode cX0_isName 62 = .ok (.getfield 314, 3) := dk_180 1 58 (dk_at dksX0_isName_3 10 rfl rfl)
theorem dX0_isName_65 : decode cX0_isName 65 = .ok (.bipush 98, 2) := dk_16 98 (dk_at dksX0_isName_3 13 rfl rfl)
theorem dX0_isName_67 : decode cX0_isName 67 = .ok (.if_icmp .eq 12, 3) := dk_159 0 12 (dk_at dksX0_isName_3 15 rfl rfl)
theorem dX0_isName_70 : decode cX0_isName 70 = .ok (.aload_n 0, 1) := dk_42 (dk_at dksX0_isName_3 18 rfl rfl)
theorem dX0_isName_71 : decode cX0_isName 71 = .ok (.getfield 314, 3) := dk_180 1 58 (dk_at dksX0_isName_3 19 rfl rfl)
theorem dX0_isName_74 : decode cX0_isName 74 = .ok (.bipush 119, 2) := dk_16 119 (dk_at dksX0_isName_3 22 rfl rfl)
theorem dX0_isName_76 : decode cX0_isName 76 = .ok (.if_icmp .ne 7, 3) := dk_160 0 7 (dk_at dksX0_isName_4 0 rfl rfl)
theorem dX0_isName_79 : decode cX0_isName 79 = .ok (.iconst 1, 1) := dk_4 (dk_at dksX0_isName_4 3 rfl rfl)
theorem dX0_isName_80 : decode cX0_isName 80 = .ok (.goto 4, 3) := dk_167 0 4 (dk_at dksX0_isName_4 4 rfl rfl)
theorem dX0_isName_83 : decode cX0_isName 83 = .ok (.iconst 0, 1) := dk_3 (dk_at dksX0_isName_4 7 rfl rfl)
theorem dX0_isName_84 : decode cX0_isName 84 = .ok (.ireturn, 1) := dk_172 (dk_at dksX0_isName_4 8 rfl rfl)
theorem dX0_isName_85 : decode cX0_isName 85 = .ok (.aload_n 0, 1) := dk_42 (dk_at dksX0_isName_4 9 rfl rfl)
theorem dX0_isName_86 : decode cX0_isName 86 = .ok (.getfield 314, 3) := dk_180 1 58 (dk_at dksX0_isName_4 10 rfl rfl)
theorem dX0_isName_89 : decode cX0_isName 89 = .ok (.bipush 120, 2) := dk_16 120 (dk_at dksX0_isName_4 13 rfl rfl)
theorem dX0_isName_91 : decode cX0_isName 91 = .ok (.if_icmp .eq 12, 3) := dk_159 0 12 (dk_at dksX0_isName_4 15 rfl rfl)
theorem dX0_isName_94 : decode cX0_isName 94 = .ok (.aload_n 0, 1) := dk_42 (dk_at dksX0_isName_4 18 rfl rfl)
theorem dX0_isName_95 : decode cX0_isName 95 = .ok (.getfield 314, 3) := dk_180 1 58 (dk_at dksX0_isName_4 19 rfl rfl)
theorem dX0_isName_98 : decode cX0_isName 98 = .ok (.bipush 112, 2) := dk_16 112 (dk_at dksX0_isName_4 22 rfl rfl)
theorem dX0_isName_100 : decode cX0_isName 100 = .ok (.if_icmp .ne 7, 3) := dk_160 0 7 (dk_at dksX0_isName_5 0 rfl rfl)
theorem dX0_isName_103 : decode cX0_isName 103 = .ok (.iconst 1, 1) := dk_4 (dk_at dksX0_isName_5 3 rfl rfl)
theorem dX0_isName_104 : decode cX0_isName 104 = .ok (.goto 4, 3) := dk_167 0 4 (dk_at dksX0_isName_5 4 rfl rfl)
theorem dX0_isName_107 : decode cX0_isName 107 = .ok (.iconst 0, 1) := dk_3 (dk_at dksX0_isName_5 7 rfl rfl)
theorem dX0_isName_108 : decode cX0_isName 108 = .ok (.ireturn, 1) := dk_172 (dk_at dksX0_isName_5 8 rfl rfl)
theorem dX0_isName_109 : decode cX0_isName 109 = .ok (.aload_n 0, 1) := dk_42 (dk_at dksX0_isName_5 9 rfl rfl)
theorem dX0_isName_110 : decode cX0_isName 110 = .ok (.getfield 314, 3) := dk_180 1 58 (dk_at dksX0_isName_5 10 rfl rfl)
theorem dX0_isName_113 : decode cX0_isName 113 = .ok (.bipush 100, 2) := dk_16 100 (dk_at dksX0_isName_5 13 rfl rfl)
theorem dX0_isName_115 : decode cX0_isName 115 = .ok (.if_icmp .eq 12, 3) := dk_159 0 12 (dk_at dksX0_isName_5 15 rfl rfl)
theorem dX0_isName_118 : decode cX0_isName 118 = .ok (.aload_n 0, 1) := dk_42 (dk_at dksX0_isName_5 18 rfl rfl)
theorem dX0_isName_119 : decode cX0_isName 119 = .ok (.getfield 314, 3) := dk_180 1 58 (dk_at dksX0_isName_5 19 rfl rfl)
theorem dX0_isName_122 : decode cX0_isName 122 = .ok (.bipush 108, 2) := dk_16 108 (dk_at dksX0_isName_5 22 rfl rfl)
theorem dX0_isName_124 : decode cX0_isName 124 = .ok (.if_icmp .ne 7, 3) := dk_160 0 7 (dk_at dksX0_isName_6 0 rfl rfl)
theorem dX0_isName_127 : decode cX0_isName 127 = .ok (.iconst 1, 1) := dk_4 (dk_at dksX0_isName_6 3 rfl rfl)
theorem dX0_isName_128 : decode cX0_isName 128 = .ok (.goto 4, 3) := dk_167 0 4 (dk_at dksX0_isName_6 4 rfl rfl)
theorem dX0_isName_131 : decode cX0_isName 131 = .ok (.iconst 0, 1) := dk_3 (dk_at dksX0_isName_6 7 rfl rfl)
theorem dX0_isName_132 : decode cX0_isName 132 = .ok (.ireturn, 1) := dk_172 (dk_at dksX0_isName_6 8 rfl rfl)
abbrev cX0_isSign : ByteArray := prog_1_method_50_code
def yX0_isSign : MethodName := ⟨RX0, "isSign", "(I)Z"⟩
def dkwX0_isSign_0 : List UInt8 := [42, 180, 1, 40, 6, 160, 0, 15, 42, 180, 1, 58, 27, 160, 0, 7, 4, 167, 0, 4, 3, 172]
abbrev dktX0_isSign_0 : List UInt8 := dkwX0_isSign_0 ++ []
theorem dksX0_isSign_0 : cX0_isSign.data.toList.drop 0 = dktX0_isSign_0 := by decide +kernel
theorem dX0_isSign_0 : decode cX0_isSign 0 = .ok (.aload_n 0, 1) := dk_42 (dk_at dksX0_isSign_0 0 rfl rfl)
theorem dX0_isSign_1 : decode cX0_isSign 1 = .ok (.getfield 296, 3) := dk_180 1 40 (dk_at dksX0_isSign_0 1 rfl rfl)
theorem dX0_isSign_4 : decode cX0_isSign 4 = .ok (.iconst 3, 1) := dk_6 (dk_at dksX0_isSign_0 4 rfl rfl)
theorem dX0_isSign_5 : decode cX0_isSign 5 = .ok (.if_icmp .ne 15, 3) := dk_160 0 15 (dk_at dksX0_isSign_0 5 rfl rfl)
theorem dX0_isSign_8 : decode cX0_isSign 8 = .ok (.aload_n 0, 1) := dk_42 (dk_at dksX0_isSign_0 8 rfl rfl)
theorem dX0_isSign_9 : decode cX0_isSign 9 = .ok (.getfield 314, 3) := dk_180 1 58 (dk_at dksX0_isSign_0 9 rfl rfl)
theorem dX0_isSign_12 : decode cX0_isSign 12 = .ok (.iload_n 1, 1) := dk_27 (dk_at dksX0_isSign_0 12 rfl rfl)
theorem dX0_isSign_13 : decode cX0_isSign 13 = .ok (.if_icmp .ne 7, 3) := dk_160 0 7 (dk_at dksX0_isSign_0 13 rfl rfl)
theorem dX0_isSign_16 : decode cX0_isSign 16 = .ok (.iconst 1, 1) := dk_4 (dk_at dksX0_isSign_0 16 rfl rfl)
theorem dX0_isSign_17 : decode cX0_isSign 17 = .ok (.goto 4, 3) := dk_167 0 4 (dk_at dksX0_isSign_0 17 rfl rfl)
theorem dX0_isSign_20 : decode cX0_isSign 20 = .ok (.iconst 0, 1) := dk_3 (dk_at dksX0_isSign_0 20 rfl rfl)
theorem dX0_isSign_21 : decode cX0_isSign 21 = .ok (.ireturn, 1) := dk_172 (dk_at dksX0_isSign_0 21 rfl rfl)
abbrev cX0_textTold : ByteArray := prog_1_method_63_code
def yX0_textTold : MethodName := ⟨RX0, "textTold", "(II)I"⟩
def dkwX0_textTold_2 : List UInt8 := [180, 1, 163, 167, 0, 15, 42, 180, 0, 72, 180, 1, 156, 27, 50, 180, 1, 164, 172]
abbrev dktX0_textTold_2 : List UInt8 := dkwX0_textTold_2 ++ []
def dkwX0_textTold_1 : List UInt8 := [184, 0, 121, 154, 0, 6, 18, 135, 172, 28, 154, 0, 18, 42, 180, 0, 72, 180, 1, 156, 27, 50]
abbrev dktX0_textTold_1 : List UInt8 := dkwX0_textTold_1 ++ dktX0_textTold_2
def dkwX0_textTold_0 : List UInt8 := [27, 133, 9, 42, 180, 0, 72, 180, 1, 153, 4, 100, 133, 184, 0, 121, 153, 0, 13, 28, 133, 9, 10]
abbrev dktX0_textTold_0 : List UInt8 := dkwX0_textTold_0 ++ dktX0_textTold_1
theorem dksX0_textTold_0 : cX0_textTold.data.toList.drop 0 = dktX0_textTold_0 := by decide +kernel
theorem dksX0_textTold_1 : cX0_textTold.data.toList.drop 23 = dktX0_textTold_1 := dk_seg dksX0_textTold_0 23 rfl rfl
theorem dksX0_textTold_2 : cX0_textTold.data.toList.drop 45 = dktX0_textTold_2 := dk_seg dksX0_textTold_1 22 rfl rfl
theorem dX0_textTold_0 : decode cX0_textTold 0 = .ok (.iload_n 1, 1) := dk_27 (dk_at dksX0_textTold_0 0 rfl rfl)
theorem dX0_textTold_1 : decode cX0_textTold 1 = .ok (.i2l, 1) := dk_133 (dk_at dksX0_textTold_0 1 rfl rfl)
theorem dX0_textTold_2 : decode cX0_textTold 2 = .ok (.lconst 0, 1) := dk_9 (dk_at dksX0_textTold_0 2 rfl rfl)
theorem dX0_textTold_3 : decode cX0_textTold 3 = .ok (.aload_n 0, 1) := dk_42 (dk_at dksX0_textTold_0 3 rfl rfl)
theorem dX0_textTold_4 : decode cX0_textTold 4 = .ok (.getfield 72, 3) := dk_180 0 72 (dk_at dksX0_textTold_0 4 rfl rfl)
theorem dX0_textTold_7 : decode cX0_textTold 7 = .ok (.getfield 409, 3) := dk_180 1 153 (dk_at dksX0_textTold_0 7 rfl rfl)
theorem dX0_textTold_10 : decode cX0_textTold 10 = .ok (.iconst 1, 1) := dk_4 (dk_at dksX0_textTold_0 10 rfl rfl)
theorem dX0_textTold_11 : decode cX0_textTold 11 = .ok (.isub, 1) := dk_100 (dk_at dksX0_textTold_0 11 rfl rfl)
theorem dX0_textTold_12 : decode cX0_textTold 12 = .ok (.i2l, 1) := dk_133 (dk_at dksX0_textTold_0 12 rfl rfl)
theorem dX0_textTold_13 : decode cX0_textTold 13 = .ok (.invokestatic 121, 3) := dk_184 0 121 (dk_at dksX0_textTold_0 13 rfl rfl)
theorem dX0_textTold_16 : decode cX0_textTold 16 = .ok (.ifCond .eq 13, 3) := dk_153 0 13 (dk_at dksX0_textTold_0 16 rfl rfl)
theorem dX0_textTold_19 : decode cX0_textTold 19 = .ok (.iload_n 2, 1) := dk_28 (dk_at dksX0_textTold_0 19 rfl rfl)
theorem dX0_textTold_20 : decode cX0_textTold 20 = .ok (.i2l, 1) := dk_133 (dk_at dksX0_textTold_0 20 rfl rfl)
theorem dX0_textTold_21 : decode cX0_textTold 21 = .ok (.lconst 0, 1) := dk_9 (dk_at dksX0_textTold_0 21 rfl rfl)
theorem dX0_textTold_22 : decode cX0_textTold 22 = .ok (.lconst 1, 1) := dk_10 (dk_at dksX0_textTold_0 22 rfl rfl)
theorem dX0_textTold_23 : decode cX0_textTold 23 = .ok (.invokestatic 121, 3) := dk_184 0 121 (dk_at dksX0_textTold_1 0 rfl rfl)
theorem dX0_textTold_26 : decode cX0_textTold 26 = .ok (.ifCond .ne 6, 3) := dk_154 0 6 (dk_at dksX0_textTold_1 3 rfl rfl)
theorem dX0_textTold_29 : decode cX0_textTold 29 = .ok (.ldc 135, 2) := dk_18 135 (dk_at dksX0_textTold_1 6 rfl rfl)
theorem dX0_textTold_31 : decode cX0_textTold 31 = .ok (.ireturn, 1) := dk_172 (dk_at dksX0_textTold_1 8 rfl rfl)
theorem dX0_textTold_32 : decode cX0_textTold 32 = .ok (.iload_n 2, 1) := dk_28 (dk_at dksX0_textTold_1 9 rfl rfl)
theorem dX0_textTold_33 : decode cX0_textTold 33 = .ok (.ifCond .ne 18, 3) := dk_154 0 18 (dk_at dksX0_textTold_1 10 rfl rfl)
theorem dX0_textTold_36 : decode cX0_textTold 36 = .ok (.aload_n 0, 1) := dk_42 (dk_at dksX0_textTold_1 13 rfl rfl)
theorem dX0_textTold_37 : decode cX0_textTold 37 = .ok (.getfield 72, 3) := dk_180 0 72 (dk_at dksX0_textTold_1 14 rfl rfl)
theorem dX0_textTold_40 : decode cX0_textTold 40 = .ok (.getfield 412, 3) := dk_180 1 156 (dk_at dksX0_textTold_1 17 rfl rfl)
theorem dX0_textTold_43 : decode cX0_textTold 43 = .ok (.iload_n 1, 1) := dk_27 (dk_at dksX0_textTold_1 20 rfl rfl)
theorem dX0_textTold_44 : decode cX0_textTold 44 = .ok (.aaload, 1) := dk_50 (dk_at dksX0_textTold_1 21 rfl rfl)
theorem dX0_textTold_45 : decode cX0_textTold 45 = .ok (.getfield 419, 3) := dk_180 1 163 (dk_at dksX0_textTold_2 0 rfl rfl)
theorem dX0_textTold_48 : decode cX0_textTold 48 = .ok (.goto 15, 3) := dk_167 0 15 (dk_at dksX0_textTold_2 3 rfl rfl)
theorem dX0_textTold_51 : decode cX0_textTold 51 = .ok (.aload_n 0, 1) := dk_42 (dk_at dksX0_textTold_2 6 rfl rfl)
theorem dX0_textTold_52 : decode cX0_textTold 52 = .ok (.getfield 72, 3) := dk_180 0 72 (dk_at dksX0_textTold_2 7 rfl rfl)
theorem dX0_textTold_55 : decode cX0_textTold 55 = .ok (.getfield 412, 3) := dk_180 1 156 (dk_at dksX0_textTold_2 10 rfl rfl)
theorem dX0_textTold_58 : decode cX0_textTold 58 = .ok (.iload_n 1, 1) := dk_27 (dk_at dksX0_textTold_2 13 rfl rfl)
theorem dX0_textTold_59 : decode cX0_textTold 59 = .ok (.aaload, 1) := dk_50 (dk_at dksX0_textTold_2 14 rfl rfl)
theorem dX0_textTold_60 : decode cX0_textTold 60 = .ok (.getfield 420, 3) := dk_180 1 164 (dk_at dksX0_textTold_2 15 rfl rfl)
theorem dX0_textTold_63 : decode cX0_textTold 63 = .ok (.ireturn, 1) := dk_172 (dk_at dksX0_textTold_2 18 rfl rfl)
abbrev cX0_why : ByteArray := prog_1_method_66_code
def yX0_why : MethodName := ⟨RX0, "why", "(I)I"⟩
def dkwX0_why_1 : List UInt8 := [18, 135, 172]
abbrev dktX0_why_1 : List UInt8 := dkwX0_why_1 ++ []
def dkwX0_why_0 : List UInt8 := [27, 133, 9, 20, 0, 253, 184, 0, 121, 153, 0, 14, 42, 27, 182, 1, 165, 184, 0, 213, 167, 0, 5]
abbrev dktX0_why_0 : List UInt8 := dkwX0_why_0 ++ dktX0_why_1
theorem dksX0_why_0 : cX0_why.data.toList.drop 0 = dktX0_why_0 := by decide +kernel
theorem dksX0_why_1 : cX0_why.data.toList.drop 23 = dktX0_why_1 := dk_seg dksX0_why_0 23 rfl rfl
theorem dX0_why_0 : decode cX0_why 0 = .ok (.iload_n 1, 1) := dk_27 (dk_at dksX0_why_0 0 rfl rfl)
theorem dX0_why_1 : decode cX0_why 1 = .ok (.i2l, 1) := dk_133 (dk_at dksX0_why_0 1 rfl rfl)
theorem dX0_why_2 : decode cX0_why 2 = .ok (.lconst 0, 1) := dk_9 (dk_at dksX0_why_0 2 rfl rfl)
theorem dX0_why_3 : decode cX0_why 3 = .ok (.ldc2_w 253, 3) := dk_20 0 253 (dk_at dksX0_why_0 3 rfl rfl)
theorem dX0_why_6 : decode cX0_why 6 = .ok (.invokestatic 121, 3) := dk_184 0 121 (dk_at dksX0_why_0 6 rfl rfl)
theorem dX0_why_9 : decode cX0_why 9 = .ok (.ifCond .eq 14, 3) := dk_153 0 14 (dk_at dksX0_why_0 9 rfl rfl)
theorem dX0_why_12 : decode cX0_why 12 = .ok (.aload_n 0, 1) := dk_42 (dk_at dksX0_why_0 12 rfl rfl)
theorem dX0_why_13 : decode cX0_why 13 = .ok (.iload_n 1, 1) := dk_27 (dk_at dksX0_why_0 13 rfl rfl)
theorem dX0_why_14 : decode cX0_why 14 = .ok (.invokevirtual 421, 3) := dk_182 1 165 (dk_at dksX0_why_0 14 rfl rfl)
theorem dX0_why_17 : decode cX0_why 17 = .ok (.invokestatic 213, 3) := dk_184 0 213 (dk_at dksX0_why_0 17 rfl rfl)
theorem dX0_why_20 : decode cX0_why 20 = .ok (.goto 5, 3) := dk_167 0 5 (dk_at dksX0_why_0 20 rfl rfl)
theorem dX0_why_23 : decode cX0_why 23 = .ok (.ldc 135, 2) := dk_18 135 (dk_at dksX0_why_1 0 rfl rfl)
theorem dX0_why_25 : decode cX0_why 25 = .ok (.ireturn, 1) := dk_172 (dk_at dksX0_why_1 2 rfl rfl)
abbrev cX0_sheet : ByteArray := prog_1_method_72_code
def yX0_sheet : MethodName := ⟨RX0, "sheet", "(III)I"⟩
def dkwX0_sheet_3 : List UInt8 := [50, 29, 188, 6, 181, 0, 227, 29, 172, 58, 4, 19, 1, 188, 172]
abbrev dktX0_sheet_3 : List UInt8 := dkwX0_sheet_3 ++ []
def dkwX0_sheet_2 : List UInt8 := [28, 154, 0, 18, 42, 180, 0, 103, 27, 50, 29, 188, 9, 181, 0, 227, 167, 0, 15, 42, 180, 0, 103, 27]
abbrev dktX0_sheet_2 : List UInt8 := dkwX0_sheet_2 ++ dktX0_sheet_3
def dkwX0_sheet_1 : List UInt8 := [16, 24, 164, 0, 6, 18, 135, 172, 28, 156, 0, 15, 42, 180, 0, 103, 27, 50, 1, 181, 0, 227, 3, 172]
abbrev dktX0_sheet_1 : List UInt8 := dkwX0_sheet_1 ++ dktX0_sheet_2
def dkwX0_sheet_0 : List UInt8 := [27, 184, 0, 224, 153, 0, 25, 28, 133, 20, 1, 184, 10, 184, 0, 121, 153, 0, 13, 28, 155, 0, 12, 29]
abbrev dktX0_sheet_0 : List UInt8 := dkwX0_sheet_0 ++ dktX0_sheet_1
theorem dksX0_sheet_0 : cX0_sheet.data.toList.drop 0 = dktX0_sheet_0 := by decide +kernel
theorem dksX0_sheet_1 : cX0_sheet.data.toList.drop 24 = dktX0_sheet_1 := dk_seg dksX0_sheet_0 24 rfl rfl
theorem dksX0_sheet_2 : cX0_sheet.data.toList.drop 48 = dktX0_sheet_2 := dk_seg dksX0_sheet_1 24 rfl rfl
theorem dksX0_sheet_3 : cX0_sheet.data.toList.drop 72 = dktX0_sheet_3 := dk_seg dksX0_sheet_2 24 rfl rfl
theorem dX0_sheet_0 : decode cX0_sheet 0 = .ok (.iload_n 1, 1) := dk_27 (dk_at dksX0_sheet_0 0 rfl rfl)
theorem dX0_sheet_1 : decode cX0_sheet 1 = .ok (.invokestatic 224, 3) := dk_184 0 224 (dk_at dksX0_sheet_0 1 rfl rfl)
theorem dX0_sheet_4 : decode cX0_sheet 4 = .ok (.ifCond .eq 25, 3) := dk_153 0 25 (dk_at dksX0_sheet_0 4 rfl rfl)
theorem dX0_sheet_7 : decode cX0_sheet 7 = .ok (.iload_n 2, 1) := dk_28 (dk_at dksX0_sheet_0 7 rfl rfl)
theorem dX0_sheet_8 : decode cX0_sheet 8 = .ok (.i2l, 1) := dk_133 (dk_at dksX0_sheet_0 8 rfl rfl)
theorem dX0_sheet_9 : decode cX0_sheet 9 = .ok (.ldc2_w 440, 3) := dk_20 1 184 (dk_at dksX0_sheet_0 9 rfl rfl)
theorem dX0_sheet_12 : decode cX0_sheet 12 = .ok (.lconst 1, 1) := dk_10 (dk_at dksX0_sheet_0 12 rfl rfl)
theorem dX0_sheet_13 : decode cX0_sheet 13 = .ok (.invokestatic 121, 3) := dk_184 0 121 (dk_at dksX0_sheet_0 13 rfl rfl)
theorem dX0_sheet_16 : decode cX0_sheet 16 = .ok (.ifCond .eq 13, 3) := dk_153 0 13 (dk_at dksX0_sheet_0 16 rfl rfl)
theorem dX0_sheet_19 : decode cX0_sheet 19 = .ok (.iload_n 2, 1) := dk_28 (dk_at dksX0_sheet_0 19 rfl rfl)
theorem dX0_sheet_20 : decode cX0_sheet 20 = .ok (.ifCond .lt 12, 3) := dk_155 0 12 (dk_at dksX0_sheet_0 20 rfl rfl)
theorem dX0_sheet_23 : decode cX0_sheet 23 = .ok (.iload_n 3, 1) := dk_29 (dk_at dksX0_sheet_0 23 rfl rfl)
theorem dX0_sheet_24 : decode cX0_sheet 24 = .ok (.bipush 24, 2) := dk_16 24 (dk_at dksX0_sheet_1 0 rfl rfl)
theorem dX0_sheet_26 : decode cX0_sheet 26 = .ok (.if_icmp .le 6, 3) := dk_164 0 6 (dk_at dksX0_sheet_1 2 rfl rfl)
theorem dX0_sheet_29 : decode cX0_sheet 29 = .ok (.ldc 135, 2) := dk_18 135 (dk_at dksX0_sheet_1 5 rfl rfl)
theorem dX0_sheet_31 : decode cX0_sheet 31 = .ok (.ireturn, 1) := dk_172 (dk_at dksX0_sheet_1 7 rfl rfl)
theorem dX0_sheet_32 : decode cX0_sheet 32 = .ok (.iload_n 2, 1) := dk_28 (dk_at dksX0_sheet_1 8 rfl rfl)
theorem dX0_sheet_33 : decode cX0_sheet 33 = .ok (.ifCond .ge 15, 3) := dk_156 0 15 (dk_at dksX0_sheet_1 9 rfl rfl)
theorem dX0_sheet_36 : decode cX0_sheet 36 = .ok (.aload_n 0, 1) := dk_42 (dk_at dksX0_sheet_1 12 rfl rfl)
theorem dX0_sheet_37 : decode cX0_sheet 37 = .ok (.getfield 103, 3) := dk_180 0 103 (dk_at dksX0_sheet_1 13 rfl rfl)
theorem dX0_sheet_40 : decode cX0_sheet 40 = .ok (.iload_n 1, 1) := dk_27 (dk_at dksX0_sheet_1 16 rfl rfl)
theorem dX0_sheet_41 : decode cX0_sheet 41 = .ok (.aaload, 1) := dk_50 (dk_at dksX0_sheet_1 17 rfl rfl)
theorem dX0_sheet_42 : decode cX0_sheet 42 = .ok (.aconst_null, 1) := dk_1 (dk_at dksX0_sheet_1 18 rfl rfl)
theorem dX0_sheet_43 : decode cX0_sheet 43 = .ok (.putfield 227, 3) := dk_181 0 227 (dk_at dksX0_sheet_1 19 rfl rfl)
theorem dX0_sheet_46 : decode cX0_sheet 46 = .ok (.iconst 0, 1) := dk_3 (dk_at dksX0_sheet_1 22 rfl rfl)
theorem dX0_sheet_47 : decode cX0_sheet 47 = .ok (.ireturn, 1) := dk_172 (dk_at dksX0_sheet_1 23 rfl rfl)
theorem dX0_sheet_48 : decode cX0_sheet 48 = .ok (.iload_n 2, 1) := dk_28 (dk_at dksX0_sheet_2 0 rfl rfl)
theorem dX0_sheet_49 : decode cX0_sheet 49 = .ok (.ifCond .ne 18, 3) := dk_154 0 18 (dk_at dksX0_sheet_2 1 rfl rfl)
theorem dX0_sheet_52 : decode cX0_sheet 52 = .ok (.aload_n 0, 1) := dk_42 (dk_at dksX0_sheet_2 4 rfl rfl)
theorem dX0_sheet_53 : decode cX0_sheet 53 = .ok (.getfield 103, 3) := dk_180 0 103 (dk_at dksX0_sheet_2 5 rfl rfl)
theorem dX0_sheet_56 : decode cX0_sheet 56 = .ok (.iload_n 1, 1) := dk_27 (dk_at dksX0_sheet_2 8 rfl rfl)
theorem dX0_sheet_57 : decode cX0_sheet 57 = .ok (.aaload, 1) := dk_50 (dk_at dksX0_sheet_2 9 rfl rfl)
theorem dX0_sheet_58 : decode cX0_sheet 58 = .ok (.iload_n 3, 1) := dk_29 (dk_at dksX0_sheet_2 10 rfl rfl)
theorem dX0_sheet_59 : decode cX0_sheet 59 = .ok (.newarray .short, 2) := dk_188_9 (dk_at dksX0_sheet_2 11 rfl rfl)
theorem dX0_sheet_61 : decode cX0_sheet 61 = .ok (.putfield 227, 3) := dk_181 0 227 (dk_at dksX0_sheet_2 13 rfl rfl)
theorem dX0_sheet_64 : decode cX0_sheet 64 = .ok (.goto 15, 3) := dk_167 0 15 (dk_at dksX0_sheet_2 16 rfl rfl)
theorem dX0_sheet_67 : decode cX0_sheet 67 = .ok (.aload_n 0, 1) := dk_42 (dk_at dksX0_sheet_2 19 rfl rfl)
theorem dX0_sheet_68 : decode cX0_sheet 68 = .ok (.getfield 103, 3) := dk_180 0 103 (dk_at dksX0_sheet_2 20 rfl rfl)
theorem dX0_sheet_71 : decode cX0_sheet 71 = .ok (.iload_n 1, 1) := dk_27 (dk_at dksX0_sheet_2 23 rfl rfl)
theorem dX0_sheet_72 : decode cX0_sheet 72 = .ok (.aaload, 1) := dk_50 (dk_at dksX0_sheet_3 0 rfl rfl)
theorem dX0_sheet_73 : decode cX0_sheet 73 = .ok (.iload_n 3, 1) := dk_29 (dk_at dksX0_sheet_3 1 rfl rfl)
theorem dX0_sheet_74 : decode cX0_sheet 74 = .ok (.newarray .float, 2) := dk_188_6 (dk_at dksX0_sheet_3 2 rfl rfl)
theorem dX0_sheet_76 : decode cX0_sheet 76 = .ok (.putfield 227, 3) := dk_181 0 227 (dk_at dksX0_sheet_3 4 rfl rfl)
theorem dX0_sheet_79 : decode cX0_sheet 79 = .ok (.iload_n 3, 1) := dk_29 (dk_at dksX0_sheet_3 7 rfl rfl)
theorem dX0_sheet_80 : decode cX0_sheet 80 = .ok (.ireturn, 1) := dk_172 (dk_at dksX0_sheet_3 8 rfl rfl)
theorem dX0_sheet_81 : decode cX0_sheet 81 = .ok (.astore 4, 2) := dk_58 4 (dk_at dksX0_sheet_3 9 rfl rfl)
theorem dX0_sheet_83 : decode cX0_sheet 83 = .ok (.ldc_w 444, 3) := dk_19 1 188 (dk_at dksX0_sheet_3 11 rfl rfl)
theorem dX0_sheet_86 : decode cX0_sheet 86 = .ok (.ireturn, 1) := dk_172 (dk_at dksX0_sheet_3 14 rfl rfl)
abbrev cX0_mark : ByteArray := prog_1_method_74_code
def yX0_mark : MethodName := ⟨RX0, "mark", "(III)I"⟩
def dkwX0_mark_2 : List UInt8 := [19, 1, 206, 172]
abbrev dktX0_mark_2 : List UInt8 := dkwX0_mark_2 ++ []
def dkwX0_mark_1 : List UInt8 := [25, 4, 184, 0, 216, 184, 1, 196, 25, 4, 28, 29, 184, 1, 200, 172, 58, 4, 18, 231, 172, 58, 4]
abbrev dktX0_mark_1 : List UInt8 := dkwX0_mark_1 ++ dktX0_mark_2
def dkwX0_mark_0 : List UInt8 := [27, 184, 0, 224, 154, 0, 6, 18, 135, 172, 42, 180, 0, 103, 27, 50, 180, 0, 227, 58, 4, 28, 4]
abbrev dktX0_mark_0 : List UInt8 := dkwX0_mark_0 ++ dktX0_mark_1
theorem dksX0_mark_0 : cX0_mark.data.toList.drop 0 = dktX0_mark_0 := by decide +kernel
theorem dksX0_mark_1 : cX0_mark.data.toList.drop 23 = dktX0_mark_1 := dk_seg dksX0_mark_0 23 rfl rfl
theorem dksX0_mark_2 : cX0_mark.data.toList.drop 46 = dktX0_mark_2 := dk_seg dksX0_mark_1 23 rfl rfl
theorem dX0_mark_0 : decode cX0_mark 0 = .ok (.iload_n 1, 1) := dk_27 (dk_at dksX0_mark_0 0 rfl rfl)
theorem dX0_mark_1 : decode cX0_mark 1 = .ok (.invokestatic 224, 3) := dk_184 0 224 (dk_at dksX0_mark_0 1 rfl rfl)
theorem dX0_mark_4 : decode cX0_mark 4 = .ok (.ifCond .ne 6, 3) := dk_154 0 6 (dk_at dksX0_mark_0 4 rfl rfl)
theorem dX0_mark_7 : decode cX0_mark 7 = .ok (.ldc 135, 2) := dk_18 135 (dk_at dksX0_mark_0 7 rfl rfl)
theorem dX0_mark_9 : decode cX0_mark 9 = .ok (.ireturn, 1) := dk_172 (dk_at dksX0_mark_0 9 rfl rfl)
theorem dX0_mark_10 : decode cX0_mark 10 = .ok (.aload_n 0, 1) := dk_42 (dk_at dksX0_mark_0 10 rfl rfl)
theorem dX0_mark_11 : decode cX0_mark 11 = .ok (.getfield 103, 3) := dk_180 0 103 (dk_at dksX0_mark_0 11 rfl rfl)
theorem dX0_mark_14 : decode cX0_mark 14 = .ok (.iload_n 1, 1) := dk_27 (dk_at dksX0_mark_0 14 rfl rfl)
theorem dX0_mark_15 : decode cX0_mark 15 = .ok (.aaload, 1) := dk_50 (dk_at dksX0_mark_0 15 rfl rfl)
theorem dX0_mark_16 : decode cX0_mark 16 = .ok (.getfield 227, 3) := dk_180 0 227 (dk_at dksX0_mark_0 16 rfl rfl)
theorem dX0_mark_19 : decode cX0_mark 19 = .ok (.astore 4, 2) := dk_58 4 (dk_at dksX0_mark_0 19 rfl rfl)
theorem dX0_mark_21 : decode cX0_mark 21 = .ok (.iload_n 2, 1) := dk_28 (dk_at dksX0_mark_0 21 rfl rfl)
theorem dX0_mark_22 : decode cX0_mark 22 = .ok (.iconst 1, 1) := dk_4 (dk_at dksX0_mark_0 22 rfl rfl)
theorem dX0_mark_23 : decode cX0_mark 23 = .ok (.aload 4, 2) := dk_25 4 (dk_at dksX0_mark_1 0 rfl rfl)
theorem dX0_mark_25 : decode cX0_mark 25 = .ok (.invokestatic 216, 3) := dk_184 0 216 (dk_at dksX0_mark_1 2 rfl rfl)
theorem dX0_mark_28 : decode cX0_mark 28 = .ok (.invokestatic 452, 3) := dk_184 1 196 (dk_at dksX0_mark_1 5 rfl rfl)
theorem dX0_mark_31 : decode cX0_mark 31 = .ok (.aload 4, 2) := dk_25 4 (dk_at dksX0_mark_1 8 rfl rfl)
theorem dX0_mark_33 : decode cX0_mark 33 = .ok (.iload_n 2, 1) := dk_28 (dk_at dksX0_mark_1 10 rfl rfl)
theorem dX0_mark_34 : decode cX0_mark 34 = .ok (.iload_n 3, 1) := dk_29 (dk_at dksX0_mark_1 11 rfl rfl)
theorem dX0_mark_35 : decode cX0_mark 35 = .ok (.invokestatic 456, 3) := dk_184 1 200 (dk_at dksX0_mark_1 12 rfl rfl)
theorem dX0_mark_38 : decode cX0_mark 38 = .ok (.ireturn, 1) := dk_172 (dk_at dksX0_mark_1 15 rfl rfl)
theorem dX0_mark_39 : decode cX0_mark 39 = .ok (.astore 4, 2) := dk_58 4 (dk_at dksX0_mark_1 16 rfl rfl)
theorem dX0_mark_41 : decode cX0_mark 41 = .ok (.ldc 231, 2) := dk_18 231 (dk_at dksX0_mark_1 18 rfl rfl)
theorem dX0_mark_43 : decode cX0_mark 43 = .ok (.ireturn, 1) := dk_172 (dk_at dksX0_mark_1 20 rfl rfl)
theorem dX0_mark_44 : decode cX0_mark 44 = .ok (.astore 4, 2) := dk_58 4 (dk_at dksX0_mark_1 21 rfl rfl)
theorem dX0_mark_46 : decode cX0_mark 46 = .ok (.ldc_w 462, 3) := dk_19 1 206 (dk_at dksX0_mark_2 0 rfl rfl)
theorem dX0_mark_49 : decode cX0_mark 49 = .ok (.ireturn, 1) := dk_172 (dk_at dksX0_mark_2 3 rfl rfl)
abbrev cX0_within : ByteArray := prog_1_method_71_code
def yX0_within : MethodName := ⟨RX0, "within", "(III)V"⟩
def dkwX0_within_0 : List UInt8 := [26, 155, 0, 14, 27, 155, 0, 10, 26, 28, 27, 100, 164, 0, 11, 187, 1, 181, 89, 183, 1, 183, 191, 177]
abbrev dktX0_within_0 : List UInt8 := dkwX0_within_0 ++ []
theorem dksX0_within_0 : cX0_within.data.toList.drop 0 = dktX0_within_0 := by decide +kernel
theorem dX0_within_0 : decode cX0_within 0 = .ok (.iload_n 0, 1) := dk_26 (dk_at dksX0_within_0 0 rfl rfl)
theorem dX0_within_1 : decode cX0_within 1 = .ok (.ifCond .lt 14, 3) := dk_155 0 14 (dk_at dksX0_within_0 1 rfl rfl)
theorem dX0_within_4 : decode cX0_within 4 = .ok (.iload_n 1, 1) := dk_27 (dk_at dksX0_within_0 4 rfl rfl)
theorem dX0_within_5 : decode cX0_within 5 = .ok (.ifCond .lt 10, 3) := dk_155 0 10 (dk_at dksX0_within_0 5 rfl rfl)
theorem dX0_within_8 : decode cX0_within 8 = .ok (.iload_n 0, 1) := dk_26 (dk_at dksX0_within_0 8 rfl rfl)
theorem dX0_within_9 : decode cX0_within 9 = .ok (.iload_n 2, 1) := dk_28 (dk_at dksX0_within_0 9 rfl rfl)
theorem dX0_within_10 : decode cX0_within 10 = .ok (.iload_n 1, 1) := dk_27 (dk_at dksX0_within_0 10 rfl rfl)
theorem dX0_within_11 : decode cX0_within 11 = .ok (.isub, 1) := dk_100 (dk_at dksX0_within_0 11 rfl rfl)
theorem dX0_within_12 : decode cX0_within 12 = .ok (.if_icmp .le 11, 3) := dk_164 0 11 (dk_at dksX0_within_0 12 rfl rfl)
theorem dX0_within_15 : decode cX0_within 15 = .ok (.new 437, 3) := dk_187 1 181 (dk_at dksX0_within_0 15 rfl rfl)
theorem dX0_within_18 : decode cX0_within 18 = .ok (.dup, 1) := dk_89 (dk_at dksX0_within_0 18 rfl rfl)
theorem dX0_within_19 : decode cX0_within 19 = .ok (.invokespecial 439, 3) := dk_183 1 183 (dk_at dksX0_within_0 19 rfl rfl)
theorem dX0_within_22 : decode cX0_within 22 = .ok (.athrow, 1) := dk_191 (dk_at dksX0_within_0 22 rfl rfl)
theorem dX0_within_23 : decode cX0_within 23 = .ok (.return_, 1) := dk_177 (dk_at dksX0_within_0 23 rfl rfl)
abbrev cX0_written : ByteArray := prog_1_method_73_code
def yX0_written : MethodName := ⟨RX0, "written", "(Ljava/lang/Object;II)I"⟩
def dkwX0_written_2 : List UInt8 := [172, 42, 192, 1, 179, 27, 28, 18, 3, 160, 0, 9, 19, 1, 195, 167, 0, 5, 28, 134, 81, 4, 172]
abbrev dktX0_written_2 : List UInt8 := dkwX0_written_2 ++ []
def dkwX0_written_1 : List UInt8 := [4, 172, 28, 18, 3, 159, 0, 20, 28, 133, 20, 1, 189, 20, 1, 191, 184, 0, 121, 154, 0, 6, 18, 135]
abbrev dktX0_written_1 : List UInt8 := dkwX0_written_1 ++ dktX0_written_2
def dkwX0_written_0 : List UInt8 := [42, 193, 1, 177, 153, 0, 22, 28, 18, 3, 160, 0, 6, 18, 168, 172, 42, 192, 1, 177, 27, 28, 147, 86]
abbrev dktX0_written_0 : List UInt8 := dkwX0_written_0 ++ dktX0_written_1
theorem dksX0_written_0 : cX0_written.data.toList.drop 0 = dktX0_written_0 := by decide +kernel
theorem dksX0_written_1 : cX0_written.data.toList.drop 24 = dktX0_written_1 := dk_seg dksX0_written_0 24 rfl rfl
theorem dksX0_written_2 : cX0_written.data.toList.drop 48 = dktX0_written_2 := dk_seg dksX0_written_1 24 rfl rfl
theorem dX0_written_0 : decode cX0_written 0 = .ok (.aload_n 0, 1) := dk_42 (dk_at dksX0_written_0 0 rfl rfl)
theorem dX0_written_1 : decode cX0_written 1 = .ok (.instanceof 433, 3) := dk_193 1 177 (dk_at dksX0_written_0 1 rfl rfl)
theorem dX0_written_4 : decode cX0_written 4 = .ok (.ifCond .eq 22, 3) := dk_153 0 22 (dk_at dksX0_written_0 4 rfl rfl)
theorem dX0_written_7 : decode cX0_written 7 = .ok (.iload_n 2, 1) := dk_28 (dk_at dksX0_written_0 7 rfl rfl)
theorem dX0_written_8 : decode cX0_written 8 = .ok (.ldc 3, 2) := dk_18 3 (dk_at dksX0_written_0 8 rfl rfl)
theorem dX0_written_10 : decode cX0_written 10 = .ok (.if_icmp .ne 6, 3) := dk_160 0 6 (dk_at dksX0_written_0 10 rfl rfl)
theorem dX0_written_13 : decode cX0_written 13 = .ok (.ldc 168, 2) := dk_18 168 (dk_at dksX0_written_0 13 rfl rfl)
theorem dX0_written_15 : decode cX0_written 15 = .ok (.ireturn, 1) := dk_172 (dk_at dksX0_written_0 15 rfl rfl)
theorem dX0_written_16 : decode cX0_written 16 = .ok (.aload_n 0, 1) := dk_42 (dk_at dksX0_written_0 16 rfl rfl)
theorem dX0_written_17 : decode cX0_written 17 = .ok (.checkcast 433, 3) := dk_192 1 177 (dk_at dksX0_written_0 17 rfl rfl)
theorem dX0_written_20 : decode cX0_written 20 = .ok (.iload_n 1, 1) := dk_27 (dk_at dksX0_written_0 20 rfl rfl)
theorem dX0_written_21 : decode cX0_written 21 = .ok (.iload_n 2, 1) := dk_28 (dk_at dksX0_written_0 21 rfl rfl)
theorem dX0_written_22 : decode cX0_written 22 = .ok (.i2s, 1) := dk_147 (dk_at dksX0_written_0 22 rfl rfl)
theorem dX0_written_23 : decode cX0_written 23 = .ok (.sastore, 1) := dk_86 (dk_at dksX0_written_0 23 rfl rfl)
theorem dX0_written_24 : decode cX0_written 24 = .ok (.iconst 1, 1) := dk_4 (dk_at dksX0_written_1 0 rfl rfl)
theorem dX0_written_25 : decode cX0_written 25 = .ok (.ireturn, 1) := dk_172 (dk_at dksX0_written_1 1 rfl rfl)
theorem dX0_written_26 : decode cX0_written 26 = .ok (.iload_n 2, 1) := dk_28 (dk_at dksX0_written_1 2 rfl rfl)
theorem dX0_written_27 : decode cX0_written 27 = .ok (.ldc 3, 2) := dk_18 3 (dk_at dksX0_written_1 3 rfl rfl)
theorem dX0_written_29 : decode cX0_written 29 = .ok (.if_icmp .eq 20, 3) := dk_159 0 20 (dk_at dksX0_written_1 5 rfl rfl)
theorem dX0_written_32 : decode cX0_written 32 = .ok (.iload_n 2, 1) := dk_28 (dk_at dksX0_written_1 8 rfl rfl)
theorem dX0_written_33 : decode cX0_written 33 = .ok (.i2l, 1) := dk_133 (dk_at dksX0_written_1 9 rfl rfl)
theorem dX0_written_34 : decode cX0_written 34 = .ok (.ldc2_w 445, 3) := dk_20 1 189 (dk_at dksX0_written_1 10 rfl rfl)
theorem dX0_written_37 : decode cX0_written 37 = .ok (.ldc2_w 447, 3) := dk_20 1 191 (dk_at dksX0_written_1 13 rfl rfl)
theorem dX0_written_40 : decode cX0_written 40 = .ok (.invokestatic 121, 3) := dk_184 0 121 (dk_at dksX0_written_1 16 rfl rfl)
theorem dX0_written_43 : decode cX0_written 43 = .ok (.ifCond .ne 6, 3) := dk_154 0 6 (dk_at dksX0_written_1 19 rfl rfl)
theorem dX0_written_46 : decode cX0_written 46 = .ok (.ldc 135, 2) := dk_18 135 (dk_at dksX0_written_1 22 rfl rfl)
theorem dX0_written_48 : decode cX0_written 48 = .ok (.ireturn, 1) := dk_172 (dk_at dksX0_written_2 0 rfl rfl)
theorem dX0_written_49 : decode cX0_written 49 = .ok (.aload_n 0, 1) := dk_42 (dk_at dksX0_written_2 1 rfl rfl)
theorem dX0_written_50 : decode cX0_written 50 = .ok (.checkcast 435, 3) := dk_192 1 179 (dk_at dksX0_written_2 2 rfl rfl)
theorem dX0_written_53 : decode cX0_written 53 = .ok (.iload_n 1, 1) := dk_27 (dk_at dksX0_written_2 5 rfl rfl)
theorem dX0_written_54 : decode cX0_written 54 = .ok (.iload_n 2, 1) := dk_28 (dk_at dksX0_written_2 6 rfl rfl)
theorem dX0_written_55 : decode cX0_written 55 = .ok (.ldc 3, 2) := dk_18 3 (dk_at dksX0_written_2 7 rfl rfl)
theorem dX0_written_57 : decode cX0_written 57 = .ok (.if_icmp .ne 9, 3) := dk_160 0 9 (dk_at dksX0_written_2 9 rfl rfl)
theorem dX0_written_60 : decode cX0_written 60 = .ok (.ldc_w 451, 3) := dk_19 1 195 (dk_at dksX0_written_2 12 rfl rfl)
theorem dX0_written_63 : decode cX0_written 63 = .ok (.goto 5, 3) := dk_167 0 5 (dk_at dksX0_written_2 15 rfl rfl)
theorem dX0_written_66 : decode cX0_written 66 = .ok (.iload_n 2, 1) := dk_28 (dk_at dksX0_written_2 18 rfl rfl)
theorem dX0_written_67 : decode cX0_written 67 = .ok (.i2f, 1) := dk_134 (dk_at dksX0_written_2 19 rfl rfl)
theorem dX0_written_68 : decode cX0_written 68 = .ok (.fastore, 1) := dk_81 (dk_at dksX0_written_2 20 rfl rfl)
theorem dX0_written_69 : decode cX0_written 69 = .ok (.iconst 1, 1) := dk_4 (dk_at dksX0_written_2 21 rfl rfl)
theorem dX0_written_70 : decode cX0_written 70 = .ok (.ireturn, 1) := dk_172 (dk_at dksX0_written_2 22 rfl rfl)
abbrev cX0_pour : ByteArray := prog_1_method_75_code
def yX0_pour : MethodName := ⟨RX0, "pour", "(I)I"⟩
def dkwX0_pour_5 : List UInt8 := [96, 62, 25, 6, 21, 7, 181, 0, 54, 132, 4, 1, 167, 255, 159, 29, 172]
abbrev dktX0_pour_5 : List UInt8 := dkwX0_pour_5 ++ []
def dkwX0_pour_4 : List UInt8 := [184, 0, 60, 54, 7, 29, 21, 7, 25, 6, 180, 0, 54, 159, 0, 7, 4, 167, 0, 4, 3, 184, 0, 155]
abbrev dktX0_pour_4 : List UInt8 := dkwX0_pour_4 ++ dktX0_pour_5
def dkwX0_pour_3 : List UInt8 := [58, 6, 21, 5, 18, 3, 160, 0, 11, 25, 6, 180, 0, 54, 167, 0, 11, 21, 5, 3, 16, 99]
abbrev dktX0_pour_3 : List UInt8 := dkwX0_pour_3 ++ dktX0_pour_4
def dkwX0_pour_2 : List UInt8 := [180, 0, 118, 162, 0, 82, 44, 21, 4, 184, 0, 220, 54, 5, 42, 180, 0, 72, 180, 0, 147, 21, 4, 50]
abbrev dktX0_pour_2 : List UInt8 := dkwX0_pour_2 ++ dktX0_pour_3
def dkwX0_pour_1 : List UInt8 := [18, 231, 172, 3, 62, 3, 54, 4, 21, 4, 44, 184, 0, 216, 162, 0, 94, 21, 4, 42, 180, 0, 72]
abbrev dktX0_pour_1 : List UInt8 := dkwX0_pour_1 ++ dktX0_pour_2
def dkwX0_pour_0 : List UInt8 := [27, 184, 0, 224, 154, 0, 6, 18, 135, 172, 42, 180, 0, 103, 27, 50, 180, 0, 227, 77, 44, 199, 0, 6]
abbrev dktX0_pour_0 : List UInt8 := dkwX0_pour_0 ++ dktX0_pour_1
theorem dksX0_pour_0 : cX0_pour.data.toList.drop 0 = dktX0_pour_0 := by decide +kernel
theorem dksX0_pour_1 : cX0_pour.data.toList.drop 24 = dktX0_pour_1 := dk_seg dksX0_pour_0 24 rfl rfl
theorem dksX0_pour_2 : cX0_pour.data.toList.drop 47 = dktX0_pour_2 := dk_seg dksX0_pour_1 23 rfl rfl
theorem dksX0_pour_3 : cX0_pour.data.toList.drop 71 = dktX0_pour_3 := dk_seg dksX0_pour_2 24 rfl rfl
theorem dksX0_pour_4 : cX0_pour.data.toList.drop 93 = dktX0_pour_4 := dk_seg dksX0_pour_3 22 rfl rfl
theorem dksX0_pour_5 : cX0_pour.data.toList.drop 117 = dktX0_pour_5 := dk_seg dksX0_pour_4 24 rfl rfl
theorem dX0_pour_0 : decode cX0_pour 0 = .ok (.iload_n 1, 1) := dk_27 (dk_at dksX0_pour_0 0 rfl rfl)
theorem dX0_pour_1 : decode cX0_pour 1 = .ok (.invokestatic 224, 3) := dk_184 0 224 (dk_at dksX0_pour_0 1 rfl rfl)
theorem dX0_pour_4 : decode cX0_pour 4 = .ok (.ifCond .ne 6, 3) := dk_154 0 6 (dk_at dksX0_pour_0 4 rfl rfl)
theorem dX0_pour_7 : decode cX0_pour 7 = .ok (.ldc 135, 2) := dk_18 135 (dk_at dksX0_pour_0 7 rfl rfl)
theorem dX0_pour_9 : decode cX0_pour 9 = .ok (.ireturn, 1) := dk_172 (dk_at dksX0_pour_0 9 rfl rfl)
theorem dX0_pour_10 : decode cX0_pour 10 = .ok (.aload_n 0, 1) := dk_42 (dk_at dksX0_pour_0 10 rfl rfl)
theorem dX0_pour_11 : decode cX0_pour 11 = .ok (.getfield 103, 3) := dk_180 0 103 (dk_at dksX0_pour_0 11 rfl rfl)
theorem dX0_pour_14 : decode cX0_pour 14 = .ok (.iload_n 1, 1) := dk_27 (dk_at dksX0_pour_0 14 rfl rfl)
theorem dX0_pour_15 : decode cX0_pour 15 = .ok (.aaload, 1) := dk_50 (dk_at dksX0_pour_0 15 rfl rfl)
theorem dX0_pour_16 : decode cX0_pour 16 = .ok (.getfield 227, 3) := dk_180 0 227 (dk_at dksX0_pour_0 16 rfl rfl)
theorem dX0_pour_19 : decode cX0_pour 19 = .ok (.astore_n 2, 1) := dk_77 (dk_at dksX0_pour_0 19 rfl rfl)
theorem dX0_pour_20 : decode cX0_pour 20 = .ok (.aload_n 2, 1) := dk_44 (dk_at dksX0_pour_0 20 rfl rfl)
theorem dX0_pour_21 : decode cX0_pour 21 = .ok (.ifnonnull 6, 3) := dk_199 0 6 (dk_at dksX0_pour_0 21 rfl rfl)
theorem dX0_pour_24 : decode cX0_pour 24 = .ok (.ldc 231, 2) := dk_18 231 (dk_at dksX0_pour_1 0 rfl rfl)
theorem dX0_pour_26 : decode cX0_pour 26 = .ok (.ireturn, 1) := dk_172 (dk_at dksX0_pour_1 2 rfl rfl)
theorem dX0_pour_27 : decode cX0_pour 27 = .ok (.iconst 0, 1) := dk_3 (dk_at dksX0_pour_1 3 rfl rfl)
theorem dX0_pour_28 : decode cX0_pour 28 = .ok (.istore_n 3, 1) := dk_62 (dk_at dksX0_pour_1 4 rfl rfl)
theorem dX0_pour_29 : decode cX0_pour 29 = .ok (.iconst 0, 1) := dk_3 (dk_at dksX0_pour_1 5 rfl rfl)
theorem dX0_pour_30 : decode cX0_pour 30 = .ok (.istore 4, 2) := dk_54 4 (dk_at dksX0_pour_1 6 rfl rfl)
theorem dX0_pour_32 : decode cX0_pour 32 = .ok (.iload 4, 2) := dk_21 4 (dk_at dksX0_pour_1 8 rfl rfl)
theorem dX0_pour_34 : decode cX0_pour 34 = .ok (.aload_n 2, 1) := dk_44 (dk_at dksX0_pour_1 10 rfl rfl)
theorem dX0_pour_35 : decode cX0_pour 35 = .ok (.invokestatic 216, 3) := dk_184 0 216 (dk_at dksX0_pour_1 11 rfl rfl)
theorem dX0_pour_38 : decode cX0_pour 38 = .ok (.if_icmp .ge 94, 3) := dk_162 0 94 (dk_at dksX0_pour_1 14 rfl rfl)
theorem dX0_pour_41 : decode cX0_pour 41 = .ok (.iload 4, 2) := dk_21 4 (dk_at dksX0_pour_1 17 rfl rfl)
theorem dX0_pour_43 : decode cX0_pour 43 = .ok (.aload_n 0, 1) := dk_42 (dk_at dksX0_pour_1 19 rfl rfl)
theorem dX0_pour_44 : decode cX0_pour 44 = .ok (.getfield 72, 3) := dk_180 0 72 (dk_at dksX0_pour_1 20 rfl rfl)
theorem dX0_pour_47 : decode cX0_pour 47 = .ok (.getfield 118, 3) := dk_180 0 118 (dk_at dksX0_pour_2 0 rfl rfl)
theorem dX0_pour_50 : decode cX0_pour 50 = .ok (.if_icmp .ge 82, 3) := dk_162 0 82 (dk_at dksX0_pour_2 3 rfl rfl)
theorem dX0_pour_53 : decode cX0_pour 53 = .ok (.aload_n 2, 1) := dk_44 (dk_at dksX0_pour_2 6 rfl rfl)
theorem dX0_pour_54 : decode cX0_pour 54 = .ok (.iload 4, 2) := dk_21 4 (dk_at dksX0_pour_2 7 rfl rfl)
theorem dX0_pour_56 : decode cX0_pour 56 = .ok (.invokestatic 220, 3) := dk_184 0 220 (dk_at dksX0_pour_2 9 rfl rfl)
theorem dX0_pour_59 : decode cX0_pour 59 = .ok (.istore 5, 2) := dk_54 5 (dk_at dksX0_pour_2 12 rfl rfl)
theorem dX0_pour_61 : decode cX0_pour 61 = .ok (.aload_n 0, 1) := dk_42 (dk_at dksX0_pour_2 14 rfl rfl)
theorem dX0_pour_62 : decode cX0_pour 62 = .ok (.getfield 72, 3) := dk_180 0 72 (dk_at dksX0_pour_2 15 rfl rfl)
theorem dX0_pour_65 : decode cX0_pour 65 = .ok (.getfield 147, 3) := dk_180 0 147 (dk_at dksX0_pour_2 18 rfl rfl)
theorem dX0_pour_68 : decode cX0_pour 68 = .ok (.iload 4, 2) := dk_21 4 (dk_at dksX0_pour_2 21 rfl rfl)
theorem dX0_pour_70 : decode cX0_pour 70 = .ok (.aaload, 1) := dk_50 (dk_at dksX0_pour_2 23 rfl rfl)
theorem dX0_pour_71 : decode cX0_pour 71 = .ok (.astore 6, 2) := dk_58 6 (dk_at dksX0_pour_3 0 rfl rfl)
theorem dX0_pour_73 : decode cX0_pour 73 = .ok (.iload 5, 2) := dk_21 5 (dk_at dksX0_pour_3 2 rfl rfl)
theorem dX0_pour_75 : decode cX0_pour 75 = .ok (.ldc 3, 2) := dk_18 3 (dk_at dksX0_pour_3 4 rfl rfl)
theorem dX0_pour_77 : decode cX0_pour 77 = .ok (.if_icmp .ne 11, 3) := dk_160 0 11 (dk_at dksX0_pour_3 6 rfl rfl)
theorem dX0_pour_80 : decode cX0_pour 80 = .ok (.aload 6, 2) := dk_25 6 (dk_at dksX0_pour_3 9 rfl rfl)
theorem dX0_pour_82 : decode cX0_pour 82 = .ok (.getfield 54, 3) := dk_180 0 54 (dk_at dksX0_pour_3 11 rfl rfl)
theorem dX0_pour_85 : decode cX0_pour 85 = .ok (.goto 11, 3) := dk_167 0 11 (dk_at dksX0_pour_3 14 rfl rfl)
theorem dX0_pour_88 : decode cX0_pour 88 = .ok (.iload 5, 2) := dk_21 5 (dk_at dksX0_pour_3 17 rfl rfl)
theorem dX0_pour_90 : decode cX0_pour 90 = .ok (.iconst 0, 1) := dk_3 (dk_at dksX0_pour_3 19 rfl rfl)
theorem dX0_pour_91 : decode cX0_pour 91 = .ok (.bipush 99, 2) := dk_16 99 (dk_at dksX0_pour_3 20 rfl rfl)
theorem dX0_pour_93 : decode cX0_pour 93 = .ok (.invokestatic 60, 3) := dk_184 0 60 (dk_at dksX0_pour_4 0 rfl rfl)
theorem dX0_pour_96 : decode cX0_pour 96 = .ok (.istore 7, 2) := dk_54 7 (dk_at dksX0_pour_4 3 rfl rfl)
theorem dX0_pour_98 : decode cX0_pour 98 = .ok (.iload_n 3, 1) := dk_29 (dk_at dksX0_pour_4 5 rfl rfl)
theorem dX0_pour_99 : decode cX0_pour 99 = .ok (.iload 7, 2) := dk_21 7 (dk_at dksX0_pour_4 6 rfl rfl)
theorem dX0_pour_101 : decode cX0_pour 101 = .ok (.aload 6, 2) := dk_25 6 (dk_at dksX0_pour_4 8 rfl rfl)
theorem dX0_pour_103 : decode cX0_pour 103 = .ok (.getfield 54, 3) := dk_180 0 54 (dk_at dksX0_pour_4 10 rfl rfl)
theorem dX0_pour_106 : decode cX0_pour 106 = .ok (.if_icmp .eq 7, 3) := dk_159 0 7 (dk_at dksX0_pour_4 13 rfl rfl)
theorem dX0_pour_109 : decode cX0_pour 109 = .ok (.iconst 1, 1) := dk_4 (dk_at dksX0_pour_4 16 rfl rfl)
theorem dX0_pour_110 : decode cX0_pour 110 = .ok (.goto 4, 3) := dk_167 0 4 (dk_at dksX0_pour_4 17 rfl rfl)
theorem dX0_pour_113 : decode cX0_pour 113 = .ok (.iconst 0, 1) := dk_3 (dk_at dksX0_pour_4 20 rfl rfl)
theorem dX0_pour_114 : decode cX0_pour 114 = .ok (.invokestatic 155, 3) := dk_184 0 155 (dk_at dksX0_pour_4 21 rfl rfl)
theorem dX0_pour_117 : decode cX0_pour 117 = .ok (.iadd, 1) := dk_96 (dk_at dksX0_pour_5 0 rfl rfl)
theorem dX0_pour_118 : decode cX0_pour 118 = .ok (.istore_n 3, 1) := dk_62 (dk_at dksX0_pour_5 1 rfl rfl)
theorem dX0_pour_119 : decode cX0_pour 119 = .ok (.aload 6, 2) := dk_25 6 (dk_at dksX0_pour_5 2 rfl rfl)
theorem dX0_pour_121 : decode cX0_pour 121 = .ok (.iload 7, 2) := dk_21 7 (dk_at dksX0_pour_5 4 rfl rfl)
theorem dX0_pour_123 : decode cX0_pour 123 = .ok (.putfield 54, 3) := dk_181 0 54 (dk_at dksX0_pour_5 6 rfl rfl)
theorem dX0_pour_126 : decode cX0_pour 126 = .ok (.iinc 4 1, 3) := dk_132 4 1 (dk_at dksX0_pour_5 9 rfl rfl)
theorem dX0_pour_129 : decode cX0_pour 129 = .ok (.goto (-97), 3) := dk_167 255 159 (dk_at dksX0_pour_5 12 rfl rfl)
theorem dX0_pour_132 : decode cX0_pour 132 = .ok (.iload_n 3, 1) := dk_29 (dk_at dksX0_pour_5 15 rfl rfl)
theorem dX0_pour_133 : decode cX0_pour 133 = .ok (.ireturn, 1) := dk_172 (dk_at dksX0_pour_5 16 rfl rfl)
abbrev cX0_reads : ByteArray := prog_1_method_76_code
def yX0_reads : MethodName := ⟨RX0, "reads", "(I)I"⟩
def dkwX0_reads_3 : List UInt8 := [180, 0, 46, 159, 0, 5, 29, 172, 132, 3, 1, 167, 255, 204, 18, 3, 172]
abbrev dktX0_reads_3 : List UInt8 := dkwX0_reads_3 ++ []
def dkwX0_reads_2 : List UInt8 := [159, 0, 30, 42, 29, 182, 0, 125, 153, 0, 20, 21, 4, 42, 180, 0, 72, 180, 0, 147, 29, 50]
abbrev dktX0_reads_2 : List UInt8 := dkwX0_reads_2 ++ dktX0_reads_3
def dkwX0_reads_1 : List UInt8 := [18, 231, 172, 3, 62, 29, 44, 184, 0, 216, 162, 0, 50, 44, 29, 184, 0, 220, 54, 4, 21, 4, 18, 3]
abbrev dktX0_reads_1 : List UInt8 := dkwX0_reads_1 ++ dktX0_reads_2
def dkwX0_reads_0 : List UInt8 := [27, 184, 0, 224, 154, 0, 6, 18, 135, 172, 42, 180, 0, 103, 27, 50, 180, 0, 227, 77, 44, 199, 0, 6]
abbrev dktX0_reads_0 : List UInt8 := dkwX0_reads_0 ++ dktX0_reads_1
theorem dksX0_reads_0 : cX0_reads.data.toList.drop 0 = dktX0_reads_0 := by decide +kernel
theorem dksX0_reads_1 : cX0_reads.data.toList.drop 24 = dktX0_reads_1 := dk_seg dksX0_reads_0 24 rfl rfl
theorem dksX0_reads_2 : cX0_reads.data.toList.drop 48 = dktX0_reads_2 := dk_seg dksX0_reads_1 24 rfl rfl
theorem dksX0_reads_3 : cX0_reads.data.toList.drop 70 = dktX0_reads_3 := dk_seg dksX0_reads_2 22 rfl rfl
theorem dX0_reads_0 : decode cX0_reads 0 = .ok (.iload_n 1, 1) := dk_27 (dk_at dksX0_reads_0 0 rfl rfl)
theorem dX0_reads_1 : decode cX0_reads 1 = .ok (.invokestatic 224, 3) := dk_184 0 224 (dk_at dksX0_reads_0 1 rfl rfl)
theorem dX0_reads_4 : decode cX0_reads 4 = .ok (.ifCond .ne 6, 3) := dk_154 0 6 (dk_at dksX0_reads_0 4 rfl rfl)
theorem dX0_reads_7 : decode cX0_reads 7 = .ok (.ldc 135, 2) := dk_18 135 (dk_at dksX0_reads_0 7 rfl rfl)
theorem dX0_reads_9 : decode cX0_reads 9 = .ok (.ireturn, 1) := dk_172 (dk_at dksX0_reads_0 9 rfl rfl)
theorem dX0_reads_10 : decode cX0_reads 10 = .ok (.aload_n 0, 1) := dk_42 (dk_at dksX0_reads_0 10 rfl rfl)
theorem dX0_reads_11 : decode cX0_reads 11 = .ok (.getfield 103, 3) := dk_180 0 103 (dk_at dksX0_reads_0 11 rfl rfl)
theorem dX0_reads_14 : decode cX0_reads 14 = .ok (.iload_n 1, 1) := dk_27 (dk_at dksX0_reads_0 14 rfl rfl)
theorem dX0_reads_15 : decode cX0_reads 15 = .ok (.aaload, 1) := dk_50 (dk_at dksX0_reads_0 15 rfl rfl)
theorem dX0_reads_16 : decode cX0_reads 16 = .ok (.getfield 227, 3) := dk_180 0 227 (dk_at dksX0_reads_0 16 rfl rfl)
theorem dX0_reads_19 : decode cX0_reads 19 = .ok (.astore_n 2, 1) := dk_77 (dk_at dksX0_reads_0 19 rfl rfl)
theorem dX0_reads_20 : decode cX0_reads 20 = .ok (.aload_n 2, 1) := dk_44 (dk_at dksX0_reads_0 20 rfl rfl)
theorem dX0_reads_21 : decode cX0_reads 21 = .ok (.ifnonnull 6, 3) := dk_199 0 6 (dk_at dksX0_reads_0 21 rfl rfl)
theorem dX0_reads_24 : decode cX0_reads 24 = .ok (.ldc 231, 2) := dk_18 231 (dk_at dksX0_reads_1 0 rfl rfl)
theorem dX0_reads_26 : decode cX0_reads 26 = .ok (.ireturn, 1) := dk_172 (dk_at dksX0_reads_1 2 rfl rfl)
theorem dX0_reads_27 : decode cX0_reads 27 = .ok (.iconst 0, 1) := dk_3 (dk_at dksX0_reads_1 3 rfl rfl)
theorem dX0_reads_28 : decode cX0_reads 28 = .ok (.istore_n 3, 1) := dk_62 (dk_at dksX0_reads_1 4 rfl rfl)
theorem dX0_reads_29 : decode cX0_reads 29 = .ok (.iload_n 3, 1) := dk_29 (dk_at dksX0_reads_1 5 rfl rfl)
theorem dX0_reads_30 : decode cX0_reads 30 = .ok (.aload_n 2, 1) := dk_44 (dk_at dksX0_reads_1 6 rfl rfl)
theorem dX0_reads_31 : decode cX0_reads 31 = .ok (.invokestatic 216, 3) := dk_184 0 216 (dk_at dksX0_reads_1 7 rfl rfl)
theorem dX0_reads_34 : decode cX0_reads 34 = .ok (.if_icmp .ge 50, 3) := dk_162 0 50 (dk_at dksX0_reads_1 10 rfl rfl)
theorem dX0_reads_37 : decode cX0_reads 37 = .ok (.aload_n 2, 1) := dk_44 (dk_at dksX0_reads_1 13 rfl rfl)
theorem dX0_reads_38 : decode cX0_reads 38 = .ok (.iload_n 3, 1) := dk_29 (dk_at dksX0_reads_1 14 rfl rfl)
theorem dX0_reads_39 : decode cX0_reads 39 = .ok (.invokestatic 220, 3) := dk_184 0 220 (dk_at dksX0_reads_1 15 rfl rfl)
theorem dX0_reads_42 : decode cX0_reads 42 = .ok (.istore 4, 2) := dk_54 4 (dk_at dksX0_reads_1 18 rfl rfl)
theorem dX0_reads_44 : decode cX0_reads 44 = .ok (.iload 4, 2) := dk_21 4 (dk_at dksX0_reads_1 20 rfl rfl)
theorem dX0_reads_46 : decode cX0_reads 46 = .ok (.ldc 3, 2) := dk_18 3 (dk_at dksX0_reads_1 22 rfl rfl)
theorem dX0_reads_48 : decode cX0_reads 48 = .ok (.if_icmp .eq 30, 3) := dk_159 0 30 (dk_at dksX0_reads_2 0 rfl rfl)
theorem dX0_reads_51 : decode cX0_reads 51 = .ok (.aload_n 0, 1) := dk_42 (dk_at dksX0_reads_2 3 rfl rfl)
theorem dX0_reads_52 : decode cX0_reads 52 = .ok (.iload_n 3, 1) := dk_29 (dk_at dksX0_reads_2 4 rfl rfl)
theorem dX0_reads_53 : decode cX0_reads 53 = .ok (.invokevirtual 125, 3) := dk_182 0 125 (dk_at dksX0_reads_2 5 rfl rfl)
theorem dX0_reads_56 : decode cX0_reads 56 = .ok (.ifCond .eq 20, 3) := dk_153 0 20 (dk_at dksX0_reads_2 8 rfl rfl)
theorem dX0_reads_59 : decode cX0_reads 59 = .ok (.iload 4, 2) := dk_21 4 (dk_at dksX0_reads_2 11 rfl rfl)
theorem dX0_reads_61 : decode cX0_reads 61 = .ok (.aload_n 0, 1) := dk_42 (dk_at dksX0_reads_2 13 rfl rfl)
theorem dX0_reads_62 : decode cX0_reads 62 = .ok (.getfield 72, 3) := dk_180 0 72 (dk_at dksX0_reads_2 14 rfl rfl)
theorem dX0_reads_65 : decode cX0_reads 65 = .ok (.getfield 147, 3) := dk_180 0 147 (dk_at dksX0_reads_2 17 rfl rfl)
theorem dX0_reads_68 : decode cX0_reads 68 = .ok (.iload_n 3, 1) := dk_29 (dk_at dksX0_reads_2 20 rfl rfl)
theorem dX0_reads_69 : decode cX0_reads 69 = .ok (.aaload, 1) := dk_50 (dk_at dksX0_reads_2 21 rfl rfl)
theorem dX0_reads_70 : decode cX0_reads 70 = .ok (.getfield 46, 3) := dk_180 0 46 (dk_at dksX0_reads_3 0 rfl rfl)
theorem dX0_reads_73 : decode cX0_reads 73 = .ok (.if_icmp .eq 5, 3) := dk_159 0 5 (dk_at dksX0_reads_3 3 rfl rfl)
theorem dX0_reads_76 : decode cX0_reads 76 = .ok (.iload_n 3, 1) := dk_29 (dk_at dksX0_reads_3 6 rfl rfl)
theorem dX0_reads_77 : decode cX0_reads 77 = .ok (.ireturn, 1) := dk_172 (dk_at dksX0_reads_3 7 rfl rfl)
theorem dX0_reads_78 : decode cX0_reads 78 = .ok (.iinc 3 1, 3) := dk_132 3 1 (dk_at dksX0_reads_3 8 rfl rfl)
theorem dX0_reads_81 : decode cX0_reads 81 = .ok (.goto (-52), 3) := dk_167 255 204 (dk_at dksX0_reads_3 11 rfl rfl)
theorem dX0_reads_84 : decode cX0_reads 84 = .ok (.ldc 3, 2) := dk_18 3 (dk_at dksX0_reads_3 14 rfl rfl)
theorem dX0_reads_86 : decode cX0_reads 86 = .ok (.ireturn, 1) := dk_172 (dk_at dksX0_reads_3 16 rfl rfl)
abbrev cX0_copy : ByteArray := prog_1_method_77_code
def yX0_copy : MethodName := ⟨RX0, "copy", "(IIIII)I"⟩
def dkwX0_copy_4 : List UInt8 := [28, 25, 7, 21, 4, 21, 5, 184, 1, 207, 21, 5, 172, 58, 8, 19, 1, 206, 172]
abbrev dktX0_copy_4 : List UInt8 := dkwX0_copy_4 ++ []
def dkwX0_copy_3 : List UInt8 := [21, 5, 25, 6, 184, 0, 216, 184, 1, 196, 21, 4, 21, 5, 25, 7, 184, 0, 216, 184, 1, 196, 25, 6]
abbrev dktX0_copy_3 : List UInt8 := dkwX0_copy_3 ++ dktX0_copy_4
def dkwX0_copy_2 : List UInt8 := [199, 0, 6, 18, 231, 172, 25, 6, 193, 1, 177, 25, 7, 193, 1, 177, 159, 0, 6, 18, 168, 172, 28]
abbrev dktX0_copy_2 : List UInt8 := dkwX0_copy_2 ++ dktX0_copy_3
def dkwX0_copy_1 : List UInt8 := [180, 0, 227, 58, 6, 42, 180, 0, 103, 29, 50, 180, 0, 227, 58, 7, 25, 6, 198, 0, 8, 25, 7]
abbrev dktX0_copy_1 : List UInt8 := dkwX0_copy_1 ++ dktX0_copy_2
def dkwX0_copy_0 : List UInt8 := [27, 184, 0, 224, 153, 0, 10, 29, 184, 0, 224, 154, 0, 6, 18, 135, 172, 42, 180, 0, 103, 27, 50]
abbrev dktX0_copy_0 : List UInt8 := dkwX0_copy_0 ++ dktX0_copy_1
theorem dksX0_copy_0 : cX0_copy.data.toList.drop 0 = dktX0_copy_0 := by decide +kernel
theorem dksX0_copy_1 : cX0_copy.data.toList.drop 23 = dktX0_copy_1 := dk_seg dksX0_copy_0 23 rfl rfl
theorem dksX0_copy_2 : cX0_copy.data.toList.drop 46 = dktX0_copy_2 := dk_seg dksX0_copy_1 23 rfl rfl
theorem dksX0_copy_3 : cX0_copy.data.toList.drop 69 = dktX0_copy_3 := dk_seg dksX0_copy_2 23 rfl rfl
theorem dksX0_copy_4 : cX0_copy.data.toList.drop 93 = dktX0_copy_4 := dk_seg dksX0_copy_3 24 rfl rfl
theorem dX0_copy_0 : decode cX0_copy 0 = .ok (.iload_n 1, 1) := dk_27 (dk_at dksX0_copy_0 0 rfl rfl)
theorem dX0_copy_1 : decode cX0_copy 1 = .ok (.invokestatic 224, 3) := dk_184 0 224 (dk_at dksX0_copy_0 1 rfl rfl)
theorem dX0_copy_4 : decode cX0_copy 4 = .ok (.ifCond .eq 10, 3) := dk_153 0 10 (dk_at dksX0_copy_0 4 rfl rfl)
theorem dX0_copy_7 : decode cX0_copy 7 = .ok (.iload_n 3, 1) := dk_29 (dk_at dksX0_copy_0 7 rfl rfl)
theorem dX0_copy_8 : decode cX0_copy 8 = .ok (.invokestatic 224, 3) := dk_184 0 224 (dk_at dksX0_copy_0 8 rfl rfl)
theorem dX0_copy_11 : decode cX0_copy 11 = .ok (.ifCond .ne 6, 3) := dk_154 0 6 (dk_at dksX0_copy_0 11 rfl rfl)
theorem dX0_copy_14 : decode cX0_copy 14 = .ok (.ldc 135, 2) := dk_18 135 (dk_at dksX0_copy_0 14 rfl rfl)
theorem dX0_copy_16 : decode cX0_copy 16 = .ok (.ireturn, 1) := dk_172 (dk_at dksX0_copy_0 16 rfl rfl)
theorem dX0_copy_17 : decode cX0_copy 17 = .ok (.aload_n 0, 1) := dk_42 (dk_at dksX0_copy_0 17 rfl rfl)
theorem dX0_copy_18 : decode cX0_copy 18 = .ok (.getfield 103, 3) := dk_180 0 103 (dk_at dksX0_copy_0 18 rfl rfl)
theorem dX0_copy_21 : decode cX0_copy 21 = .ok (.iload_n 1, 1) := dk_27 (dk_at dksX0_copy_0 21 rfl rfl)
theorem dX0_copy_22 : decode cX0_copy 22 = .ok (.aaload, 1) := dk_50 (dk_at dksX0_copy_0 22 rfl rfl)
theorem dX0_copy_23 : decode cX0_copy 23 = .ok (.getfield 227, 3) := dk_180 0 227 (dk_at dksX0_copy_1 0 rfl rfl)
theorem dX0_copy_26 : decode cX0_copy 26 = .ok (.astore 6, 2) := dk_58 6 (dk_at dksX0_copy_1 3 rfl rfl)
theorem dX0_copy_28 : decode cX0_copy 28 = .ok (.aload_n 0, 1) := dk_42 (dk_at dksX0_copy_1 5 rfl rfl)
theorem dX0_copy_29 : decode cX0_copy 29 = .ok (.getfield 103, 3) := dk_180 0 103 (dk_at dksX0_copy_1 6 rfl rfl)
theorem dX0_copy_32 : decode cX0_copy 32 = .ok (.iload_n 3, 1) := dk_29 (dk_at dksX0_copy_1 9 rfl rfl)
theorem dX0_copy_33 : decode cX0_copy 33 = .ok (.aaload, 1) := dk_50 (dk_at dksX0_copy_1 10 rfl rfl)
theorem dX0_copy_34 : decode cX0_copy 34 = .ok (.getfield 227, 3) := dk_180 0 227 (dk_at dksX0_copy_1 11 rfl rfl)
theorem dX0_copy_37 : decode cX0_copy 37 = .ok (.astore 7, 2) := dk_58 7 (dk_at dksX0_copy_1 14 rfl rfl)
theorem dX0_copy_39 : decode cX0_copy 39 = .ok (.aload 6, 2) := dk_25 6 (dk_at dksX0_copy_1 16 rfl rfl)
theorem dX0_copy_41 : decode cX0_copy 41 = .ok (.ifnull 8, 3) := dk_198 0 8 (dk_at dksX0_copy_1 18 rfl rfl)
theorem dX0_copy_44 : decode cX0_copy 44 = .ok (.aload 7, 2) := dk_25 7 (dk_at dksX0_copy_1 21 rfl rfl)
theorem dX0_copy_46 : decode cX0_copy 46 = .ok (.ifnonnull 6, 3) := dk_199 0 6 (dk_at dksX0_copy_2 0 rfl rfl)
theorem dX0_copy_49 : decode cX0_copy 49 = .ok (.ldc 231, 2) := dk_18 231 (dk_at dksX0_copy_2 3 rfl rfl)
theorem dX0_copy_51 : decode cX0_copy 51 = .ok (.ireturn, 1) := dk_172 (dk_at dksX0_copy_2 5 rfl rfl)
theorem dX0_copy_52 : decode cX0_copy 52 = .ok (.aload 6, 2) := dk_25 6 (dk_at dksX0_copy_2 6 rfl rfl)
theorem dX0_copy_54 : decode cX0_copy 54 = .ok (.instanceof 433, 3) := dk_193 1 177 (dk_at dksX0_copy_2 8 rfl rfl)
theorem dX0_copy_57 : decode cX0_copy 57 = .ok (.aload 7, 2) := dk_25 7 (dk_at dksX0_copy_2 11 rfl rfl)
theorem dX0_copy_59 : decode cX0_copy 59 = .ok (.instanceof 433, 3) := dk_193 1 177 (dk_at dksX0_copy_2 13 rfl rfl)
theorem dX0_copy_62 : decode cX0_copy 62 = .ok (.if_icmp .eq 6, 3) := dk_159 0 6 (dk_at dksX0_copy_2 16 rfl rfl)
theorem dX0_copy_65 : decode cX0_copy 65 = .ok (.ldc 168, 2) := dk_18 168 (dk_at dksX0_copy_2 19 rfl rfl)
theorem dX0_copy_67 : decode cX0_copy 67 = .ok (.ireturn, 1) := dk_172 (dk_at dksX0_copy_2 21 rfl rfl)
theorem dX0_copy_68 : decode cX0_copy 68 = .ok (.iload_n 2, 1) := dk_28 (dk_at dksX0_copy_2 22 rfl rfl)
theorem dX0_copy_69 : decode cX0_copy 69 = .ok (.iload 5, 2) := dk_21 5 (dk_at dksX0_copy_3 0 rfl rfl)
theorem dX0_copy_71 : decode cX0_copy 71 = .ok (.aload 6, 2) := dk_25 6 (dk_at dksX0_copy_3 2 rfl rfl)
theorem dX0_copy_73 : decode cX0_copy 73 = .ok (.invokestatic 216, 3) := dk_184 0 216 (dk_at dksX0_copy_3 4 rfl rfl)
theorem dX0_copy_76 : decode cX0_copy 76 = .ok (.invokestatic 452, 3) := dk_184 1 196 (dk_at dksX0_copy_3 7 rfl rfl)
theorem dX0_copy_79 : decode cX0_copy 79 = .ok (.iload 4, 2) := dk_21 4 (dk_at dksX0_copy_3 10 rfl rfl)
theorem dX0_copy_81 : decode cX0_copy 81 = .ok (.iload 5, 2) := dk_21 5 (dk_at dksX0_copy_3 12 rfl rfl)
theorem dX0_copy_83 : decode cX0_copy 83 = .ok (.aload 7, 2) := dk_25 7 (dk_at dksX0_copy_3 14 rfl rfl)
theorem dX0_copy_85 : decode cX0_copy 85 = .ok (.invokestatic 216, 3) := dk_184 0 216 (dk_at dksX0_copy_3 16 rfl rfl)
theorem dX0_copy_88 : decode cX0_copy 88 = .ok (.invokestatic 452, 3) := dk_184 1 196 (dk_at dksX0_copy_3 19 rfl rfl)
theorem dX0_copy_91 : decode cX0_copy 91 = .ok (.aload 6, 2) := dk_25 6 (dk_at dksX0_copy_3 22 rfl rfl)
theorem dX0_copy_93 : decode cX0_copy 93 = .ok (.iload_n 2, 1) := dk_28 (dk_at dksX0_copy_4 0 rfl rfl)
theorem dX0_copy_94 : decode cX0_copy 94 = .ok (.aload 7, 2) := dk_25 7 (dk_at dksX0_copy_4 1 rfl rfl)
theorem dX0_copy_96 : decode cX0_copy 96 = .ok (.iload 4, 2) := dk_21 4 (dk_at dksX0_copy_4 3 rfl rfl)
theorem dX0_copy_98 : decode cX0_copy 98 = .ok (.iload 5, 2) := dk_21 5 (dk_at dksX0_copy_4 5 rfl rfl)
theorem dX0_copy_100 : decode cX0_copy 100 = .ok (.invokestatic 463, 3) := dk_184 1 207 (dk_at dksX0_copy_4 7 rfl rfl)
theorem dX0_copy_103 : decode cX0_copy 103 = .ok (.iload 5, 2) := dk_21 5 (dk_at dksX0_copy_4 10 rfl rfl)
theorem dX0_copy_105 : decode cX0_copy 105 = .ok (.ireturn, 1) := dk_172 (dk_at dksX0_copy_4 12 rfl rfl)
theorem dX0_copy_106 : decode cX0_copy 106 = .ok (.astore 8, 2) := dk_58 8 (dk_at dksX0_copy_4 13 rfl rfl)
theorem dX0_copy_108 : decode cX0_copy 108 = .ok (.ldc_w 462, 3) := dk_19 1 206 (dk_at dksX0_copy_4 15 rfl rfl)
theorem dX0_copy_111 : decode cX0_copy 111 = .ok (.ireturn, 1) := dk_172 (dk_at dksX0_copy_4 18 rfl rfl)
abbrev cX0_lay : ByteArray := prog_1_method_80_code
def yX0_lay : MethodName := ⟨RX0, "lay", "(III)I"⟩
def dkwX0_lay_8 : List UInt8 := [29, 183, 1, 225, 181, 0, 227, 25, 5, 184, 1, 226, 172]
abbrev dktX0_lay_8 : List UInt8 := dkwX0_lay_8 ++ []
def dkwX0_lay_7 : List UInt8 := [29, 50, 180, 0, 227, 184, 1, 221, 181, 0, 227, 167, 0, 20, 42, 180, 0, 107, 27, 50, 187, 1, 213, 89]
abbrev dktX0_lay_7 : List UInt8 := dkwX0_lay_7 ++ dktX0_lay_8
def dkwX0_lay_6 : List UInt8 := [180, 0, 147, 29, 50, 182, 1, 218, 181, 0, 227, 167, 0, 44, 42, 180, 0, 107, 27, 50, 42, 180, 0, 103]
abbrev dktX0_lay_6 : List UInt8 := dkwX0_lay_6 ++ dktX0_lay_7
def dkwX0_lay_5 : List UInt8 := [42, 180, 0, 107, 27, 50, 1, 181, 0, 227, 167, 0, 69, 42, 180, 0, 107, 27, 50, 42, 42, 180, 0, 72]
abbrev dktX0_lay_5 : List UInt8 := dkwX0_lay_5 ++ dktX0_lay_6
def dkwX0_lay_4 : List UInt8 := [170, 0, 0, 0, 0, 0, 0, 90, 0, 0, 0, 0, 0, 0, 0, 2, 0, 0, 0, 28, 0, 0, 0, 41, 0, 0, 0, 66]
abbrev dktX0_lay_4 : List UInt8 := dkwX0_lay_4 ++ dktX0_lay_5
def dkwX0_lay_3 : List UInt8 := [199, 0, 6, 18, 231, 172, 42, 180, 0, 107, 27, 50, 180, 0, 227, 58, 5, 28]
abbrev dktX0_lay_3 : List UInt8 := dkwX0_lay_3 ++ dktX0_lay_4
def dkwX0_lay_2 : List UInt8 := [21, 4, 154, 0, 6, 18, 135, 172, 28, 5, 160, 0, 18, 42, 180, 0, 103, 29, 50, 180, 0, 227]
abbrev dktX0_lay_2 : List UInt8 := dkwX0_lay_2 ++ dktX0_lay_3
def dkwX0_lay_1 : List UInt8 := [160, 0, 14, 29, 184, 0, 224, 153, 0, 7, 4, 167, 0, 4, 3, 54, 4, 27, 184, 1, 215, 153, 0, 8]
abbrev dktX0_lay_1 : List UInt8 := dkwX0_lay_1 ++ dktX0_lay_2
def dkwX0_lay_0 : List UInt8 := [28, 153, 0, 33, 28, 6, 159, 0, 28, 28, 4, 160, 0, 11, 42, 29, 182, 0, 125, 154, 0, 15, 28, 5]
abbrev dktX0_lay_0 : List UInt8 := dkwX0_lay_0 ++ dktX0_lay_1
theorem dksX0_lay_0 : cX0_lay.data.toList.drop 0 = dktX0_lay_0 := by decide +kernel
theorem dksX0_lay_1 : cX0_lay.data.toList.drop 24 = dktX0_lay_1 := dk_seg dksX0_lay_0 24 rfl rfl
theorem dksX0_lay_2 : cX0_lay.data.toList.drop 48 = dktX0_lay_2 := dk_seg dksX0_lay_1 24 rfl rfl
theorem dksX0_lay_3 : cX0_lay.data.toList.drop 70 = dktX0_lay_3 := dk_seg dksX0_lay_2 22 rfl rfl
theorem dksX0_lay_4 : cX0_lay.data.toList.drop 88 = dktX0_lay_4 := dk_seg dksX0_lay_3 18 rfl rfl
theorem dksX0_lay_5 : cX0_lay.data.toList.drop 116 = dktX0_lay_5 := dk_seg dksX0_lay_4 28 rfl rfl
theorem dksX0_lay_6 : cX0_lay.data.toList.drop 140 = dktX0_lay_6 := dk_seg dksX0_lay_5 24 rfl rfl
theorem dksX0_lay_7 : cX0_lay.data.toList.drop 164 = dktX0_lay_7 := dk_seg dksX0_lay_6 24 rfl rfl
theorem dksX0_lay_8 : cX0_lay.data.toList.drop 188 = dktX0_lay_8 := dk_seg dksX0_lay_7 24 rfl rfl
theorem dX0_lay_0 : decode cX0_lay 0 = .ok (.iload_n 2, 1) := dk_28 (dk_at dksX0_lay_0 0 rfl rfl)
theorem dX0_lay_1 : decode cX0_lay 1 = .ok (.ifCond .eq 33, 3) := dk_153 0 33 (dk_at dksX0_lay_0 1 rfl rfl)
theorem dX0_lay_4 : decode cX0_lay 4 = .ok (.iload_n 2, 1) := dk_28 (dk_at dksX0_lay_0 4 rfl rfl)
theorem dX0_lay_5 : decode cX0_lay 5 = .ok (.iconst 3, 1) := dk_6 (dk_at dksX0_lay_0 5 rfl rfl)
theorem dX0_lay_6 : decode cX0_lay 6 = .ok (.if_icmp .eq 28, 3) := dk_159 0 28 (dk_at dksX0_lay_0 6 rfl rfl)
theorem dX0_lay_9 : decode cX0_lay 9 = .ok (.iload_n 2, 1) := dk_28 (dk_at dksX0_lay_0 9 rfl rfl)
theorem dX0_lay_10 : decode cX0_lay 10 = .ok (.iconst 1, 1) := dk_4 (dk_at dksX0_lay_0 10 rfl rfl)
theorem dX0_lay_11 : decode cX0_lay 11 = .ok (.if_icmp .ne 11, 3) := dk_160 0 11 (dk_at dksX0_lay_0 11 rfl rfl)
theorem dX0_lay_14 : decode cX0_lay 14 = .ok (.aload_n 0, 1) := dk_42 (dk_at dksX0_lay_0 14 rfl rfl)
theorem dX0_lay_15 : decode cX0_lay 15 = .ok (.iload_n 3, 1) := dk_29 (dk_at dksX0_lay_0 15 rfl rfl)
theorem dX0_lay_16 : decode cX0_lay 16 = .ok (.invokevirtual 125, 3) := dk_182 0 125 (dk_at dksX0_lay_0 16 rfl rfl)
theorem dX0_lay_19 : decode cX0_lay 19 = .ok (.ifCond .ne 15, 3) := dk_154 0 15 (dk_at dksX0_lay_0 19 rfl rfl)
theorem dX0_lay_22 : decode cX0_lay 22 = .ok (.iload_n 2, 1) := dk_28 (dk_at dksX0_lay_0 22 rfl rfl)
theorem dX0_lay_23 : decode cX0_lay 23 = .ok (.iconst 2, 1) := dk_5 (dk_at dksX0_lay_0 23 rfl rfl)
theorem dX0_lay_24 : decode cX0_lay 24 = .ok (.if_icmp .ne 14, 3) := dk_160 0 14 (dk_at dksX0_lay_1 0 rfl rfl)
theorem dX0_lay_27 : decode cX0_lay 27 = .ok (.iload_n 3, 1) := dk_29 (dk_at dksX0_lay_1 3 rfl rfl)
theorem dX0_lay_28 : decode cX0_lay 28 = .ok (.invokestatic 224, 3) := dk_184 0 224 (dk_at dksX0_lay_1 4 rfl rfl)
theorem dX0_lay_31 : decode cX0_lay 31 = .ok (.ifCond .eq 7, 3) := dk_153 0 7 (dk_at dksX0_lay_1 7 rfl rfl)
theorem dX0_lay_34 : decode cX0_lay 34 = .ok (.iconst 1, 1) := dk_4 (dk_at dksX0_lay_1 10 rfl rfl)
theorem dX0_lay_35 : decode cX0_lay 35 = .ok (.goto 4, 3) := dk_167 0 4 (dk_at dksX0_lay_1 11 rfl rfl)
theorem dX0_lay_38 : decode cX0_lay 38 = .ok (.iconst 0, 1) := dk_3 (dk_at dksX0_lay_1 14 rfl rfl)
theorem dX0_lay_39 : decode cX0_lay 39 = .ok (.istore 4, 2) := dk_54 4 (dk_at dksX0_lay_1 15 rfl rfl)
theorem dX0_lay_41 : decode cX0_lay 41 = .ok (.iload_n 1, 1) := dk_27 (dk_at dksX0_lay_1 17 rfl rfl)
theorem dX0_lay_42 : decode cX0_lay 42 = .ok (.invokestatic 471, 3) := dk_184 1 215 (dk_at dksX0_lay_1 18 rfl rfl)
theorem dX0_lay_45 : decode cX0_lay 45 = .ok (.ifCond .eq 8, 3) := dk_153 0 8 (dk_at dksX0_lay_1 21 rfl rfl)
theorem dX0_lay_48 : decode cX0_lay 48 = .ok (.iload 4, 2) := dk_21 4 (dk_at dksX0_lay_2 0 rfl rfl)
theorem dX0_lay_50 : decode cX0_lay 50 = .ok (.ifCond .ne 6, 3) := dk_154 0 6 (dk_at dksX0_lay_2 2 rfl rfl)
theorem dX0_lay_53 : decode cX0_lay 53 = .ok (.ldc 135, 2) := dk_18 135 (dk_at dksX0_lay_2 5 rfl rfl)
theorem dX0_lay_55 : decode cX0_lay 55 = .ok (.ireturn, 1) := dk_172 (dk_at dksX0_lay_2 7 rfl rfl)
theorem dX0_lay_56 : decode cX0_lay 56 = .ok (.iload_n 2, 1) := dk_28 (dk_at dksX0_lay_2 8 rfl rfl)
theorem dX0_lay_57 : decode cX0_lay 57 = .ok (.iconst 2, 1) := dk_5 (dk_at dksX0_lay_2 9 rfl rfl)
theorem dX0_lay_58 : decode cX0_lay 58 = .ok (.if_icmp .ne 18, 3) := dk_160 0 18 (dk_at dksX0_lay_2 10 rfl rfl)
theorem dX0_lay_61 : decode cX0_lay 61 = .ok (.aload_n 0, 1) := dk_42 (dk_at dksX0_lay_2 13 rfl rfl)
theorem dX0_lay_62 : decode cX0_lay 62 = .ok (.getfield 103, 3) := dk_180 0 103 (dk_at dksX0_lay_2 14 rfl rfl)
theorem dX0_lay_65 : decode cX0_lay 65 = .ok (.iload_n 3, 1) := dk_29 (dk_at dksX0_lay_2 17 rfl rfl)
theorem dX0_lay_66 : decode cX0_lay 66 = .ok (.aaload, 1) := dk_50 (dk_at dksX0_lay_2 18 rfl rfl)
theorem dX0_lay_67 : decode cX0_lay 67 = .ok (.getfield 227, 3) := dk_180 0 227 (dk_at dksX0_lay_2 19 rfl rfl)
theorem dX0_lay_70 : decode cX0_lay 70 = .ok (.ifnonnull 6, 3) := dk_199 0 6 (dk_at dksX0_lay_3 0 rfl rfl)
theorem dX0_lay_73 : decode cX0_lay 73 = .ok (.ldc 231, 2) := dk_18 231 (dk_at dksX0_lay_3 3 rfl rfl)
theorem dX0_lay_75 : decode cX0_lay 75 = .ok (.ireturn, 1) := dk_172 (dk_at dksX0_lay_3 5 rfl rfl)
theorem dX0_lay_76 : decode cX0_lay 76 = .ok (.aload_n 0, 1) := dk_42 (dk_at dksX0_lay_3 6 rfl rfl)
theorem dX0_lay_77 : decode cX0_lay 77 = .ok (.getfield 107, 3) := dk_180 0 107 (dk_at dksX0_lay_3 7 rfl rfl)
theorem dX0_lay_80 : decode cX0_lay 80 = .ok (.iload_n 1, 1) := dk_27 (dk_at dksX0_lay_3 10 rfl rfl)
theorem dX0_lay_81 : decode cX0_lay 81 = .ok (.aaload, 1) := dk_50 (dk_at dksX0_lay_3 11 rfl rfl)
theorem dX0_lay_82 : decode cX0_lay 82 = .ok (.getfield 227, 3) := dk_180 0 227 (dk_at dksX0_lay_3 12 rfl rfl)
theorem dX0_lay_85 : decode cX0_lay 85 = .ok (.astore 5, 2) := dk_58 5 (dk_at dksX0_lay_3 15 rfl rfl)
theorem dX0_lay_87 : decode cX0_lay 87 = .ok (.iload_n 2, 1) := dk_28 (dk_at dksX0_lay_3 17 rfl rfl)
theorem dX0_lay_88 : decode cX0_lay 88 = .ok (.tableswitch 90 0 2 #[28, 41, 66], 28) := by decide +kernel
theorem dX0_lay_116 : decode cX0_lay 116 = .ok (.aload_n 0, 1) := dk_42 (dk_at dksX0_lay_5 0 rfl rfl)
theorem dX0_lay_117 : decode cX0_lay 117 = .ok (.getfield 107, 3) := dk_180 0 107 (dk_at dksX0_lay_5 1 rfl rfl)
theorem dX0_lay_120 : decode cX0_lay 120 = .ok (.iload_n 1, 1) := dk_27 (dk_at dksX0_lay_5 4 rfl rfl)
theorem dX0_lay_121 : decode cX0_lay 121 = .ok (.aaload, 1) := dk_50 (dk_at dksX0_lay_5 5 rfl rfl)
theorem dX0_lay_122 : decode cX0_lay 122 = .ok (.aconst_null, 1) := dk_1 (dk_at dksX0_lay_5 6 rfl rfl)
theorem dX0_lay_123 : decode cX0_lay 123 = .ok (.putfield 227, 3) := dk_181 0 227 (dk_at dksX0_lay_5 7 rfl rfl)
theorem dX0_lay_126 : decode cX0_lay 126 = .ok (.goto 69, 3) := dk_167 0 69 (dk_at dksX0_lay_5 10 rfl rfl)
theorem dX0_lay_129 : decode cX0_lay 129 = .ok (.aload_n 0, 1) := dk_42 (dk_at dksX0_lay_5 13 rfl rfl)
theorem dX0_lay_130 : decode cX0_lay 130 = .ok (.getfield 107, 3) := dk_180 0 107 (dk_at dksX0_lay_5 14 rfl rfl)
theorem dX0_lay_133 : decode cX0_lay 133 = .ok (.iload_n 1, 1) := dk_27 (dk_at dksX0_lay_5 17 rfl rfl)
theorem dX0_lay_134 : decode cX0_lay 134 = .ok (.aaload, 1) := dk_50 (dk_at dksX0_lay_5 18 rfl rfl)
theorem dX0_lay_135 : decode cX0_lay 135 = .ok (.aload_n 0, 1) := dk_42 (dk_at dksX0_lay_5 19 rfl rfl)
theorem dX0_lay_136 : decode cX0_lay 136 = .ok (.aload_n 0, 1) := dk_42 (dk_at dksX0_lay_5 20 rfl rfl)
theorem dX0_lay_137 : decode cX0_lay 137 = .ok (.getfield 72, 3) := dk_180 0 72 (dk_at dksX0_lay_5 21 rfl rfl)
theorem dX0_lay_140 : decode cX0_lay 140 = .ok (.getfield 147, 3) := dk_180 0 147 (dk_at dksX0_lay_6 0 rfl rfl)
theorem dX0_lay_143 : decode cX0_lay 143 = .ok (.iload_n 3, 1) := dk_29 (dk_at dksX0_lay_6 3 rfl rfl)
theorem dX0_lay_144 : decode cX0_lay 144 = .ok (.aaload, 1) := dk_50 (dk_at dksX0_lay_6 4 rfl rfl)
theorem dX0_lay_145 : decode cX0_lay 145 = .ok (.invokevirtual 474, 3) := dk_182 1 218 (dk_at dksX0_lay_6 5 rfl rfl)
theorem dX0_lay_148 : decode cX0_lay 148 = .ok (.putfield 227, 3) := dk_181 0 227 (dk_at dksX0_lay_6 8 rfl rfl)
theorem dX0_lay_151 : decode cX0_lay 151 = .ok (.goto 44, 3) := dk_167 0 44 (dk_at dksX0_lay_6 11 rfl rfl)
theorem dX0_lay_154 : decode cX0_lay 154 = .ok (.aload_n 0, 1) := dk_42 (dk_at dksX0_lay_6 14 rfl rfl)
theorem dX0_lay_155 : decode cX0_lay 155 = .ok (.getfield 107, 3) := dk_180 0 107 (dk_at dksX0_lay_6 15 rfl rfl)
theorem dX0_lay_158 : decode cX0_lay 158 = .ok (.iload_n 1, 1) := dk_27 (dk_at dksX0_lay_6 18 rfl rfl)
theorem dX0_lay_159 : decode cX0_lay 159 = .ok (.aaload, 1) := dk_50 (dk_at dksX0_lay_6 19 rfl rfl)
theorem dX0_lay_160 : decode cX0_lay 160 = .ok (.aload_n 0, 1) := dk_42 (dk_at dksX0_lay_6 20 rfl rfl)
theorem dX0_lay_161 : decode cX0_lay 161 = .ok (.getfield 103, 3) := dk_180 0 103 (dk_at dksX0_lay_6 21 rfl rfl)
theorem dX0_lay_164 : decode cX0_lay 164 = .ok (.iload_n 3, 1) := dk_29 (dk_at dksX0_lay_7 0 rfl rfl)
theorem dX0_lay_165 : decode cX0_lay 165 = .ok (.aaload, 1) := dk_50 (dk_at dksX0_lay_7 1 rfl rfl)
theorem dX0_lay_166 : decode cX0_lay 166 = .ok (.getfield 227, 3) := dk_180 0 227 (dk_at dksX0_lay_7 2 rfl rfl)
theorem dX0_lay_169 : decode cX0_lay 169 = .ok (.invokestatic 477, 3) := dk_184 1 221 (dk_at dksX0_lay_7 5 rfl rfl)
theorem dX0_lay_172 : decode cX0_lay 172 = .ok (.putfield 227, 3) := dk_181 0 227 (dk_at dksX0_lay_7 8 rfl rfl)
theorem dX0_lay_175 : decode cX0_lay 175 = .ok (.goto 20, 3) := dk_167 0 20 (dk_at dksX0_lay_7 11 rfl rfl)
theorem dX0_lay_178 : decode cX0_lay 178 = .ok (.aload_n 0, 1) := dk_42 (dk_at dksX0_lay_7 14 rfl rfl)
theorem dX0_lay_179 : decode cX0_lay 179 = .ok (.getfield 107, 3) := dk_180 0 107 (dk_at dksX0_lay_7 15 rfl rfl)
theorem dX0_lay_182 : decode cX0_lay 182 = .ok (.iload_n 1, 1) := dk_27 (dk_at dksX0_lay_7 18 rfl rfl)
theorem dX0_lay_183 : decode cX0_lay 183 = .ok (.aaload, 1) := dk_50 (dk_at dksX0_lay_7 19 rfl rfl)
theorem dX0_lay_184 : decode cX0_lay 184 = .ok (.new 469, 3) := dk_187 1 213 (dk_at dksX0_lay_7 20 rfl rfl)
theorem dX0_lay_187 : decode cX0_lay 187 = .ok (.dup, 1) := dk_89 (dk_at dksX0_lay_7 23 rfl rfl)
theorem dX0_lay_188 : decode cX0_lay 188 = .ok (.iload_n 3, 1) := dk_29 (dk_at dksX0_lay_8 0 rfl rfl)
theorem dX0_lay_189 : decode cX0_lay 189 = .ok (.invokespecial 481, 3) := dk_183 1 225 (dk_at dksX0_lay_8 1 rfl rfl)
theorem dX0_lay_192 : decode cX0_lay 192 = .ok (.putfield 227, 3) := dk_181 0 227 (dk_at dksX0_lay_8 4 rfl rfl)
theorem dX0_lay_195 : decode cX0_lay 195 = .ok (.aload 5, 2) := dk_25 5 (dk_at dksX0_lay_8 7 rfl rfl)
theorem dX0_lay_197 : decode cX0_lay 197 = .ok (.invokestatic 482, 3) := dk_184 1 226 (dk_at dksX0_lay_8 9 rfl rfl)
theorem dX0_lay_200 : decode cX0_lay 200 = .ok (.ireturn, 1) := dk_172 (dk_at dksX0_lay_8 12 rfl rfl)
abbrev cX0_isSlot : ByteArray := prog_1_method_68_code
def yX0_isSlot : MethodName := ⟨RX0, "isSlot", "(I)Z"⟩
def dkwX0_isSlot_0 : List UInt8 := [26, 133, 9, 20, 1, 13, 184, 0, 121, 172]
abbrev dktX0_isSlot_0 : List UInt8 := dkwX0_isSlot_0 ++ []
theorem dksX0_isSlot_0 : cX0_isSlot.data.toList.drop 0 = dktX0_isSlot_0 := by decide +kernel
theorem dX0_isSlot_0 : decode cX0_isSlot 0 = .ok (.iload_n 0, 1) := dk_26 (dk_at dksX0_isSlot_0 0 rfl rfl)
theorem dX0_isSlot_1 : decode cX0_isSlot 1 = .ok (.i2l, 1) := dk_133 (dk_at dksX0_isSlot_0 1 rfl rfl)
theorem dX0_isSlot_2 : decode cX0_isSlot 2 = .ok (.lconst 0, 1) := dk_9 (dk_at dksX0_isSlot_0 2 rfl rfl)
theorem dX0_isSlot_3 : decode cX0_isSlot 3 = .ok (.ldc2_w 269, 3) := dk_20 1 13 (dk_at dksX0_isSlot_0 3 rfl rfl)
theorem dX0_isSlot_6 : decode cX0_isSlot 6 = .ok (.invokestatic 121, 3) := dk_184 0 121 (dk_at dksX0_isSlot_0 6 rfl rfl)
theorem dX0_isSlot_9 : decode cX0_isSlot 9 = .ok (.ireturn, 1) := dk_172 (dk_at dksX0_isSlot_0 9 rfl rfl)
abbrev cX0_again : ByteArray := prog_1_method_78_code
def yX0_again : MethodName := ⟨RX0, "again", "(Ljava/lang/Object;)Ljava/lang/Object;"⟩
def dkwX0_again_1 : List UInt8 := [44, 3, 27, 184, 1, 207, 44, 176]
abbrev dktX0_again_1 : List UInt8 := dkwX0_again_1 ++ []
def dkwX0_again_0 : List UInt8 := [42, 184, 0, 216, 60, 42, 193, 1, 177, 153, 0, 9, 27, 188, 9, 167, 0, 6, 27, 188, 6, 77, 42, 3]
abbrev dktX0_again_0 : List UInt8 := dkwX0_again_0 ++ dktX0_again_1
theorem dksX0_again_0 : cX0_again.data.toList.drop 0 = dktX0_again_0 := by decide +kernel
theorem dksX0_again_1 : cX0_again.data.toList.drop 24 = dktX0_again_1 := dk_seg dksX0_again_0 24 rfl rfl
theorem dX0_again_0 : decode cX0_again 0 = .ok (.aload_n 0, 1) := dk_42 (dk_at dksX0_again_0 0 rfl rfl)
theorem dX0_again_1 : decode cX0_again 1 = .ok (.invokestatic 216, 3) := dk_184 0 216 (dk_at dksX0_again_0 1 rfl rfl)
theorem dX0_again_4 : decode cX0_again 4 = .ok (.istore_n 1, 1) := dk_60 (dk_at dksX0_again_0 4 rfl rfl)
theorem dX0_again_5 : decode cX0_again 5 = .ok (.aload_n 0, 1) := dk_42 (dk_at dksX0_again_0 5 rfl rfl)
theorem dX0_again_6 : decode cX0_again 6 = .ok (.instanceof 433, 3) := dk_193 1 177 (dk_at dksX0_again_0 6 rfl rfl)
theorem dX0_again_9 : decode cX0_again 9 = .ok (.ifCond .eq 9, 3) := dk_153 0 9 (dk_at dksX0_again_0 9 rfl rfl)
theorem dX0_again_12 : decode cX0_again 12 = .ok (.iload_n 1, 1) := dk_27 (dk_at dksX0_again_0 12 rfl rfl)
theorem dX0_again_13 : decode cX0_again 13 = .ok (.newarray .short, 2) := dk_188_9 (dk_at dksX0_again_0 13 rfl rfl)
theorem dX0_again_15 : decode cX0_again 15 = .ok (.goto 6, 3) := dk_167 0 6 (dk_at dksX0_again_0 15 rfl rfl)
theorem dX0_again_18 : decode cX0_again 18 = .ok (.iload_n 1, 1) := dk_27 (dk_at dksX0_again_0 18 rfl rfl)
theorem dX0_again_19 : decode cX0_again 19 = .ok (.newarray .float, 2) := dk_188_6 (dk_at dksX0_again_0 19 rfl rfl)
theorem dX0_again_21 : decode cX0_again 21 = .ok (.astore_n 2, 1) := dk_77 (dk_at dksX0_again_0 21 rfl rfl)
theorem dX0_again_22 : decode cX0_again 22 = .ok (.aload_n 0, 1) := dk_42 (dk_at dksX0_again_0 22 rfl rfl)
theorem dX0_again_23 : decode cX0_again 23 = .ok (.iconst 0, 1) := dk_3 (dk_at dksX0_again_0 23 rfl rfl)
theorem dX0_again_24 : decode cX0_again 24 = .ok (.aload_n 2, 1) := dk_44 (dk_at dksX0_again_1 0 rfl rfl)
theorem dX0_again_25 : decode cX0_again 25 = .ok (.iconst 0, 1) := dk_3 (dk_at dksX0_again_1 1 rfl rfl)
theorem dX0_again_26 : decode cX0_again 26 = .ok (.iload_n 1, 1) := dk_27 (dk_at dksX0_again_1 2 rfl rfl)
theorem dX0_again_27 : decode cX0_again 27 = .ok (.invokestatic 463, 3) := dk_184 1 207 (dk_at dksX0_again_1 3 rfl rfl)
theorem dX0_again_30 : decode cX0_again 30 = .ok (.aload_n 2, 1) := dk_44 (dk_at dksX0_again_1 6 rfl rfl)
theorem dX0_again_31 : decode cX0_again 31 = .ok (.areturn, 1) := dk_176 (dk_at dksX0_again_1 7 rfl rfl)
abbrev cX0_thingOf : ByteArray := prog_1_method_79_code
def yX0_thingOf : MethodName := ⟨RX0, "thingOf", "(Ljava/lang/Object;)I"⟩
def dkwX0_thingOf_1 : List UInt8 := [153, 0, 7, 6, 167, 0, 4, 5, 172]
abbrev dktX0_thingOf_1 : List UInt8 := dkwX0_thingOf_1 ++ []
def dkwX0_thingOf_0 : List UInt8 := [42, 199, 0, 7, 3, 167, 0, 26, 42, 193, 0, 13, 153, 0, 7, 4, 167, 0, 15, 42, 193, 1, 213]
abbrev dktX0_thingOf_0 : List UInt8 := dkwX0_thingOf_0 ++ dktX0_thingOf_1
theorem dksX0_thingOf_0 : cX0_thingOf.data.toList.drop 0 = dktX0_thingOf_0 := by decide +kernel
theorem dksX0_thingOf_1 : cX0_thingOf.data.toList.drop 23 = dktX0_thingOf_1 := dk_seg dksX0_thingOf_0 23 rfl rfl
theorem dX0_thingOf_0 : decode cX0_thingOf 0 = .ok (.aload_n 0, 1) := dk_42 (dk_at dksX0_thingOf_0 0 rfl rfl)
theorem dX0_thingOf_1 : decode cX0_thingOf 1 = .ok (.ifnonnull 7, 3) := dk_199 0 7 (dk_at dksX0_thingOf_0 1 rfl rfl)
theorem dX0_thingOf_4 : decode cX0_thingOf 4 = .ok (.iconst 0, 1) := dk_3 (dk_at dksX0_thingOf_0 4 rfl rfl)
theorem dX0_thingOf_5 : decode cX0_thingOf 5 = .ok (.goto 26, 3) := dk_167 0 26 (dk_at dksX0_thingOf_0 5 rfl rfl)
theorem dX0_thingOf_8 : decode cX0_thingOf 8 = .ok (.aload_n 0, 1) := dk_42 (dk_at dksX0_thingOf_0 8 rfl rfl)
theorem dX0_thingOf_9 : decode cX0_thingOf 9 = .ok (.instanceof 13, 3) := dk_193 0 13 (dk_at dksX0_thingOf_0 9 rfl rfl)
theorem dX0_thingOf_12 : decode cX0_thingOf 12 = .ok (.ifCond .eq 7, 3) := dk_153 0 7 (dk_at dksX0_thingOf_0 12 rfl rfl)
theorem dX0_thingOf_15 : decode cX0_thingOf 15 = .ok (.iconst 1, 1) := dk_4 (dk_at dksX0_thingOf_0 15 rfl rfl)
theorem dX0_thingOf_16 : decode cX0_thingOf 16 = .ok (.goto 15, 3) := dk_167 0 15 (dk_at dksX0_thingOf_0 16 rfl rfl)
theorem dX0_thingOf_19 : decode cX0_thingOf 19 = .ok (.aload_n 0, 1) := dk_42 (dk_at dksX0_thingOf_0 19 rfl rfl)
theorem dX0_thingOf_20 : decode cX0_thingOf 20 = .ok (.instanceof 469, 3) := dk_193 1 213 (dk_at dksX0_thingOf_0 20 rfl rfl)
theorem dX0_thingOf_23 : decode cX0_thingOf 23 = .ok (.ifCond .eq 7, 3) := dk_153 0 7 (dk_at dksX0_thingOf_1 0 rfl rfl)
theorem dX0_thingOf_26 : decode cX0_thingOf 26 = .ok (.iconst 3, 1) := dk_6 (dk_at dksX0_thingOf_1 3 rfl rfl)
theorem dX0_thingOf_27 : decode cX0_thingOf 27 = .ok (.goto 4, 3) := dk_167 0 4 (dk_at dksX0_thingOf_1 4 rfl rfl)
theorem dX0_thingOf_30 : decode cX0_thingOf 30 = .ok (.iconst 2, 1) := dk_5 (dk_at dksX0_thingOf_1 7 rfl rfl)
theorem dX0_thingOf_31 : decode cX0_thingOf 31 = .ok (.ireturn, 1) := dk_172 (dk_at dksX0_thingOf_1 8 rfl rfl)
abbrev cX0_ask : ByteArray := prog_1_method_81_code
def yX0_ask : MethodName := ⟨RX0, "ask", "(II)I"⟩
def dkwX0_ask_2 : List UInt8 := [78, 18, 168, 172]
abbrev dktX0_ask_2 : List UInt8 := dkwX0_ask_2 ++ []
def dkwX0_ask_1 : List UInt8 := [180, 0, 107, 27, 50, 180, 0, 227, 28, 184, 0, 162, 78, 45, 185, 1, 229, 1, 0, 172, 78, 18, 231, 172]
abbrev dktX0_ask_1 : List UInt8 := dkwX0_ask_1 ++ dktX0_ask_2
def dkwX0_ask_0 : List UInt8 := [27, 184, 1, 215, 153, 0, 15, 28, 133, 9, 20, 0, 129, 184, 0, 121, 154, 0, 6, 18, 135, 172, 42]
abbrev dktX0_ask_0 : List UInt8 := dkwX0_ask_0 ++ dktX0_ask_1
theorem dksX0_ask_0 : cX0_ask.data.toList.drop 0 = dktX0_ask_0 := by decide +kernel
theorem dksX0_ask_1 : cX0_ask.data.toList.drop 23 = dktX0_ask_1 := dk_seg dksX0_ask_0 23 rfl rfl
theorem dksX0_ask_2 : cX0_ask.data.toList.drop 47 = dktX0_ask_2 := dk_seg dksX0_ask_1 24 rfl rfl
theorem dX0_ask_0 : decode cX0_ask 0 = .ok (.iload_n 1, 1) := dk_27 (dk_at dksX0_ask_0 0 rfl rfl)
theorem dX0_ask_1 : decode cX0_ask 1 = .ok (.invokestatic 471, 3) := dk_184 1 215 (dk_at dksX0_ask_0 1 rfl rfl)
theorem dX0_ask_4 : decode cX0_ask 4 = .ok (.ifCond .eq 15, 3) := dk_153 0 15 (dk_at dksX0_ask_0 4 rfl rfl)
theorem dX0_ask_7 : decode cX0_ask 7 = .ok (.iload_n 2, 1) := dk_28 (dk_at dksX0_ask_0 7 rfl rfl)
theorem dX0_ask_8 : decode cX0_ask 8 = .ok (.i2l, 1) := dk_133 (dk_at dksX0_ask_0 8 rfl rfl)
theorem dX0_ask_9 : decode cX0_ask 9 = .ok (.lconst 0, 1) := dk_9 (dk_at dksX0_ask_0 9 rfl rfl)
theorem dX0_ask_10 : decode cX0_ask 10 = .ok (.ldc2_w 129, 3) := dk_20 0 129 (dk_at dksX0_ask_0 10 rfl rfl)
theorem dX0_ask_13 : decode cX0_ask 13 = .ok (.invokestatic 121, 3) := dk_184 0 121 (dk_at dksX0_ask_0 13 rfl rfl)
theorem dX0_ask_16 : decode cX0_ask 16 = .ok (.ifCond .ne 6, 3) := dk_154 0 6 (dk_at dksX0_ask_0 16 rfl rfl)
theorem dX0_ask_19 : decode cX0_ask 19 = .ok (.ldc 135, 2) := dk_18 135 (dk_at dksX0_ask_0 19 rfl rfl)
theorem dX0_ask_21 : decode cX0_ask 21 = .ok (.ireturn, 1) := dk_172 (dk_at dksX0_ask_0 21 rfl rfl)
theorem dX0_ask_22 : decode cX0_ask 22 = .ok (.aload_n 0, 1) := dk_42 (dk_at dksX0_ask_0 22 rfl rfl)
theorem dX0_ask_23 : decode cX0_ask 23 = .ok (.getfield 107, 3) := dk_180 0 107 (dk_at dksX0_ask_1 0 rfl rfl)
theorem dX0_ask_26 : decode cX0_ask 26 = .ok (.iload_n 1, 1) := dk_27 (dk_at dksX0_ask_1 3 rfl rfl)
theorem dX0_ask_27 : decode cX0_ask 27 = .ok (.aaload, 1) := dk_50 (dk_at dksX0_ask_1 4 rfl rfl)
theorem dX0_ask_28 : decode cX0_ask 28 = .ok (.getfield 227, 3) := dk_180 0 227 (dk_at dksX0_ask_1 5 rfl rfl)
theorem dX0_ask_31 : decode cX0_ask 31 = .ok (.iload_n 2, 1) := dk_28 (dk_at dksX0_ask_1 8 rfl rfl)
theorem dX0_ask_32 : decode cX0_ask 32 = .ok (.invokestatic 162, 3) := dk_184 0 162 (dk_at dksX0_ask_1 9 rfl rfl)
theorem dX0_ask_35 : decode cX0_ask 35 = .ok (.astore_n 3, 1) := dk_78 (dk_at dksX0_ask_1 12 rfl rfl)
theorem dX0_ask_36 : decode cX0_ask 36 = .ok (.aload_n 3, 1) := dk_45 (dk_at dksX0_ask_1 13 rfl rfl)
theorem dX0_ask_37 : decode cX0_ask 37 = .ok (.invokeinterface 485 1, 5) := by decide +kernel
theorem dX0_ask_42 : decode cX0_ask 42 = .ok (.ireturn, 1) := dk_172 (dk_at dksX0_ask_1 19 rfl rfl)
theorem dX0_ask_43 : decode cX0_ask 43 = .ok (.astore_n 3, 1) := dk_78 (dk_at dksX0_ask_1 20 rfl rfl)
theorem dX0_ask_44 : decode cX0_ask 44 = .ok (.ldc 231, 2) := dk_18 231 (dk_at dksX0_ask_1 21 rfl rfl)
theorem dX0_ask_46 : decode cX0_ask 46 = .ok (.ireturn, 1) := dk_172 (dk_at dksX0_ask_1 23 rfl rfl)
theorem dX0_ask_47 : decode cX0_ask 47 = .ok (.astore_n 3, 1) := dk_78 (dk_at dksX0_ask_2 0 rfl rfl)
theorem dX0_ask_48 : decode cX0_ask 48 = .ok (.ldc 168, 2) := dk_18 168 (dk_at dksX0_ask_2 1 rfl rfl)
theorem dX0_ask_50 : decode cX0_ask 50 = .ok (.ireturn, 1) := dk_172 (dk_at dksX0_ask_2 3 rfl rfl)
abbrev cX0_item : ByteArray := prog_1_method_82_code
def yX0_item : MethodName := ⟨RX0, "item", "(II)I"⟩
def dkwX0_item_2 : List UInt8 := [167, 0, 5, 21, 4, 172, 78, 18, 231, 172, 78, 18, 168, 172, 78, 19, 1, 206, 172]
abbrev dktX0_item_2 : List UInt8 := dkwX0_item_2 ++ []
def dkwX0_item_1 : List UInt8 := [184, 0, 216, 184, 1, 196, 45, 28, 184, 0, 220, 54, 4, 21, 4, 18, 3, 160, 0, 8, 18, 168]
abbrev dktX0_item_1 : List UInt8 := dkwX0_item_1 ++ dktX0_item_2
def dkwX0_item_0 : List UInt8 := [27, 184, 1, 215, 154, 0, 6, 18, 135, 172, 42, 180, 0, 107, 27, 50, 180, 0, 227, 78, 28, 4, 45]
abbrev dktX0_item_0 : List UInt8 := dkwX0_item_0 ++ dktX0_item_1
theorem dksX0_item_0 : cX0_item.data.toList.drop 0 = dktX0_item_0 := by decide +kernel
theorem dksX0_item_1 : cX0_item.data.toList.drop 23 = dktX0_item_1 := dk_seg dksX0_item_0 23 rfl rfl
theorem dksX0_item_2 : cX0_item.data.toList.drop 45 = dktX0_item_2 := dk_seg dksX0_item_1 22 rfl rfl
theorem dX0_item_0 : decode cX0_item 0 = .ok (.iload_n 1, 1) := dk_27 (dk_at dksX0_item_0 0 rfl rfl)
theorem dX0_item_1 : decode cX0_item 1 = .ok (.invokestatic 471, 3) := dk_184 1 215 (dk_at dksX0_item_0 1 rfl rfl)
theorem dX0_item_4 : decode cX0_item 4 = .ok (.ifCond .ne 6, 3) := dk_154 0 6 (dk_at dksX0_item_0 4 rfl rfl)
theorem dX0_item_7 : decode cX0_item 7 = .ok (.ldc 135, 2) := dk_18 135 (dk_at dksX0_item_0 7 rfl rfl)
theorem dX0_item_9 : decode cX0_item 9 = .ok (.ireturn, 1) := dk_172 (dk_at dksX0_item_0 9 rfl rfl)
theorem dX0_item_10 : decode cX0_item 10 = .ok (.aload_n 0, 1) := dk_42 (dk_at dksX0_item_0 10 rfl rfl)
theorem dX0_item_11 : decode cX0_item 11 = .ok (.getfield 107, 3) := dk_180 0 107 (dk_at dksX0_item_0 11 rfl rfl)
theorem dX0_item_14 : decode cX0_item 14 = .ok (.iload_n 1, 1) := dk_27 (dk_at dksX0_item_0 14 rfl rfl)
theorem dX0_item_15 : decode cX0_item 15 = .ok (.aaload, 1) := dk_50 (dk_at dksX0_item_0 15 rfl rfl)
theorem dX0_item_16 : decode cX0_item 16 = .ok (.getfield 227, 3) := dk_180 0 227 (dk_at dksX0_item_0 16 rfl rfl)
theorem dX0_item_19 : decode cX0_item 19 = .ok (.astore_n 3, 1) := dk_78 (dk_at dksX0_item_0 19 rfl rfl)
theorem dX0_item_20 : decode cX0_item 20 = .ok (.iload_n 2, 1) := dk_28 (dk_at dksX0_item_0 20 rfl rfl)
theorem dX0_item_21 : decode cX0_item 21 = .ok (.iconst 1, 1) := dk_4 (dk_at dksX0_item_0 21 rfl rfl)
theorem dX0_item_22 : decode cX0_item 22 = .ok (.aload_n 3, 1) := dk_45 (dk_at dksX0_item_0 22 rfl rfl)
theorem dX0_item_23 : decode cX0_item 23 = .ok (.invokestatic 216, 3) := dk_184 0 216 (dk_at dksX0_item_1 0 rfl rfl)
theorem dX0_item_26 : decode cX0_item 26 = .ok (.invokestatic 452, 3) := dk_184 1 196 (dk_at dksX0_item_1 3 rfl rfl)
theorem dX0_item_29 : decode cX0_item 29 = .ok (.aload_n 3, 1) := dk_45 (dk_at dksX0_item_1 6 rfl rfl)
theorem dX0_item_30 : decode cX0_item 30 = .ok (.iload_n 2, 1) := dk_28 (dk_at dksX0_item_1 7 rfl rfl)
theorem dX0_item_31 : decode cX0_item 31 = .ok (.invokestatic 220, 3) := dk_184 0 220 (dk_at dksX0_item_1 8 rfl rfl)
theorem dX0_item_34 : decode cX0_item 34 = .ok (.istore 4, 2) := dk_54 4 (dk_at dksX0_item_1 11 rfl rfl)
theorem dX0_item_36 : decode cX0_item 36 = .ok (.iload 4, 2) := dk_21 4 (dk_at dksX0_item_1 13 rfl rfl)
theorem dX0_item_38 : decode cX0_item 38 = .ok (.ldc 3, 2) := dk_18 3 (dk_at dksX0_item_1 15 rfl rfl)
theorem dX0_item_40 : decode cX0_item 40 = .ok (.if_icmp .ne 8, 3) := dk_160 0 8 (dk_at dksX0_item_1 17 rfl rfl)
theorem dX0_item_43 : decode cX0_item 43 = .ok (.ldc 168, 2) := dk_18 168 (dk_at dksX0_item_1 20 rfl rfl)
theorem dX0_item_45 : decode cX0_item 45 = .ok (.goto 5, 3) := dk_167 0 5 (dk_at dksX0_item_2 0 rfl rfl)
theorem dX0_item_48 : decode cX0_item 48 = .ok (.iload 4, 2) := dk_21 4 (dk_at dksX0_item_2 3 rfl rfl)
theorem dX0_item_50 : decode cX0_item 50 = .ok (.ireturn, 1) := dk_172 (dk_at dksX0_item_2 5 rfl rfl)
theorem dX0_item_51 : decode cX0_item 51 = .ok (.astore_n 3, 1) := dk_78 (dk_at dksX0_item_2 6 rfl rfl)
theorem dX0_item_52 : decode cX0_item 52 = .ok (.ldc 231, 2) := dk_18 231 (dk_at dksX0_item_2 7 rfl rfl)
theorem dX0_item_54 : decode cX0_item 54 = .ok (.ireturn, 1) := dk_172 (dk_at dksX0_item_2 9 rfl rfl)
theorem dX0_item_55 : decode cX0_item 55 = .ok (.astore_n 3, 1) := dk_78 (dk_at dksX0_item_2 10 rfl rfl)
theorem dX0_item_56 : decode cX0_item 56 = .ok (.ldc 168, 2) := dk_18 168 (dk_at dksX0_item_2 11 rfl rfl)
theorem dX0_item_58 : decode cX0_item 58 = .ok (.ireturn, 1) := dk_172 (dk_at dksX0_item_2 13 rfl rfl)
theorem dX0_item_59 : decode cX0_item 59 = .ok (.astore_n 3, 1) := dk_78 (dk_at dksX0_item_2 14 rfl rfl)
theorem dX0_item_60 : decode cX0_item 60 = .ok (.ldc_w 462, 3) := dk_19 1 206 (dk_at dksX0_item_2 15 rfl rfl)
theorem dX0_item_63 : decode cX0_item 63 = .ok (.ireturn, 1) := dk_172 (dk_at dksX0_item_2 18 rfl rfl)
abbrev cX0_rest : ByteArray := prog_1_method_83_code
def yX0_rest : MethodName := ⟨RX0, "rest", "(II)I"⟩
def dkwX0_rest_1 : List UInt8 := [180, 1, 232, 28, 112, 172, 78, 18, 231, 172, 78, 18, 168, 172, 78, 19, 1, 237, 172]
abbrev dktX0_rest_1 : List UInt8 := dkwX0_rest_1 ++ []
def dkwX0_rest_0 : List UInt8 := [27, 184, 1, 215, 154, 0, 6, 18, 135, 172, 42, 180, 0, 107, 27, 50, 180, 0, 227, 192, 1, 213]
abbrev dktX0_rest_0 : List UInt8 := dkwX0_rest_0 ++ dktX0_rest_1
theorem dksX0_rest_0 : cX0_rest.data.toList.drop 0 = dktX0_rest_0 := by decide +kernel
theorem dksX0_rest_1 : cX0_rest.data.toList.drop 22 = dktX0_rest_1 := dk_seg dksX0_rest_0 22 rfl rfl
theorem dX0_rest_0 : decode cX0_rest 0 = .ok (.iload_n 1, 1) := dk_27 (dk_at dksX0_rest_0 0 rfl rfl)
theorem dX0_rest_1 : decode cX0_rest 1 = .ok (.invokestatic 471, 3) := dk_184 1 215 (dk_at dksX0_rest_0 1 rfl rfl)
theorem dX0_rest_4 : decode cX0_rest 4 = .ok (.ifCond .ne 6, 3) := dk_154 0 6 (dk_at dksX0_rest_0 4 rfl rfl)
theorem dX0_rest_7 : decode cX0_rest 7 = .ok (.ldc 135, 2) := dk_18 135 (dk_at dksX0_rest_0 7 rfl rfl)
theorem dX0_rest_9 : decode cX0_rest 9 = .ok (.ireturn, 1) := dk_172 (dk_at dksX0_rest_0 9 rfl rfl)
theorem dX0_rest_10 : decode cX0_rest 10 = .ok (.aload_n 0, 1) := dk_42 (dk_at dksX0_rest_0 10 rfl rfl)
theorem dX0_rest_11 : decode cX0_rest 11 = .ok (.getfield 107, 3) := dk_180 0 107 (dk_at dksX0_rest_0 11 rfl rfl)
theorem dX0_rest_14 : decode cX0_rest 14 = .ok (.iload_n 1, 1) := dk_27 (dk_at dksX0_rest_0 14 rfl rfl)
theorem dX0_rest_15 : decode cX0_rest 15 = .ok (.aaload, 1) := dk_50 (dk_at dksX0_rest_0 15 rfl rfl)
theorem dX0_rest_16 : decode cX0_rest 16 = .ok (.getfield 227, 3) := dk_180 0 227 (dk_at dksX0_rest_0 16 rfl rfl)
theorem dX0_rest_19 : decode cX0_rest 19 = .ok (.checkcast 469, 3) := dk_192 1 213 (dk_at dksX0_rest_0 19 rfl rfl)
theorem dX0_rest_22 : decode cX0_rest 22 = .ok (.getfield 488, 3) := dk_180 1 232 (dk_at dksX0_rest_1 0 rfl rfl)
theorem dX0_rest_25 : decode cX0_rest 25 = .ok (.iload_n 2, 1) := dk_28 (dk_at dksX0_rest_1 3 rfl rfl)
theorem dX0_rest_26 : decode cX0_rest 26 = .ok (.irem, 1) := dk_112 (dk_at dksX0_rest_1 4 rfl rfl)
theorem dX0_rest_27 : decode cX0_rest 27 = .ok (.ireturn, 1) := dk_172 (dk_at dksX0_rest_1 5 rfl rfl)
theorem dX0_rest_28 : decode cX0_rest 28 = .ok (.astore_n 3, 1) := dk_78 (dk_at dksX0_rest_1 6 rfl rfl)
theorem dX0_rest_29 : decode cX0_rest 29 = .ok (.ldc 231, 2) := dk_18 231 (dk_at dksX0_rest_1 7 rfl rfl)
theorem dX0_rest_31 : decode cX0_rest 31 = .ok (.ireturn, 1) := dk_172 (dk_at dksX0_rest_1 9 rfl rfl)
theorem dX0_rest_32 : decode cX0_rest 32 = .ok (.astore_n 3, 1) := dk_78 (dk_at dksX0_rest_1 10 rfl rfl)
theorem dX0_rest_33 : decode cX0_rest 33 = .ok (.ldc 168, 2) := dk_18 168 (dk_at dksX0_rest_1 11 rfl rfl)
theorem dX0_rest_35 : decode cX0_rest 35 = .ok (.ireturn, 1) := dk_172 (dk_at dksX0_rest_1 13 rfl rfl)
theorem dX0_rest_36 : decode cX0_rest 36 = .ok (.astore_n 3, 1) := dk_78 (dk_at dksX0_rest_1 14 rfl rfl)
theorem dX0_rest_37 : decode cX0_rest 37 = .ok (.ldc_w 493, 3) := dk_19 1 237 (dk_at dksX0_rest_1 15 rfl rfl)
theorem dX0_rest_40 : decode cX0_rest 40 = .ok (.ireturn, 1) := dk_172 (dk_at dksX0_rest_1 18 rfl rfl)
abbrev cX0_tell : ByteArray := prog_1_method_84_code
def yX0_tell : MethodName := ⟨RX0, "tell", "(I)I"⟩
def dkwX0_tell_1 : List UInt8 := [180, 1, 238, 4, 96, 181, 1, 238, 42, 180, 1, 238, 172]
abbrev dktX0_tell_1 : List UInt8 := dkwX0_tell_1 ++ []
def dkwX0_tell_0 : List UInt8 := [42, 180, 1, 238, 16, 60, 160, 0, 6, 18, 136, 172, 42, 180, 0, 110, 42, 180, 1, 238, 27, 79, 42, 89]
abbrev dktX0_tell_0 : List UInt8 := dkwX0_tell_0 ++ dktX0_tell_1
theorem dksX0_tell_0 : cX0_tell.data.toList.drop 0 = dktX0_tell_0 := by decide +kernel
theorem dksX0_tell_1 : cX0_tell.data.toList.drop 24 = dktX0_tell_1 := dk_seg dksX0_tell_0 24 rfl rfl
theorem dX0_tell_0 : decode cX0_tell 0 = .ok (.aload_n 0, 1) := dk_42 (dk_at dksX0_tell_0 0 rfl rfl)
theorem dX0_tell_1 : decode cX0_tell 1 = .ok (.getfield 494, 3) := dk_180 1 238 (dk_at dksX0_tell_0 1 rfl rfl)
theorem dX0_tell_4 : decode cX0_tell 4 = .ok (.bipush 60, 2) := dk_16 60 (dk_at dksX0_tell_0 4 rfl rfl)
theorem dX0_tell_6 : decode cX0_tell 6 = .ok (.if_icmp .ne 6, 3) := dk_160 0 6 (dk_at dksX0_tell_0 6 rfl rfl)
theorem dX0_tell_9 : decode cX0_tell 9 = .ok (.ldc 136, 2) := dk_18 136 (dk_at dksX0_tell_0 9 rfl rfl)
theorem dX0_tell_11 : decode cX0_tell 11 = .ok (.ireturn, 1) := dk_172 (dk_at dksX0_tell_0 11 rfl rfl)
theorem dX0_tell_12 : decode cX0_tell 12 = .ok (.aload_n 0, 1) := dk_42 (dk_at dksX0_tell_0 12 rfl rfl)
theorem dX0_tell_13 : decode cX0_tell 13 = .ok (.getfield 110, 3) := dk_180 0 110 (dk_at dksX0_tell_0 13 rfl rfl)
theorem dX0_tell_16 : decode cX0_tell 16 = .ok (.aload_n 0, 1) := dk_42 (dk_at dksX0_tell_0 16 rfl rfl)
theorem dX0_tell_17 : decode cX0_tell 17 = .ok (.getfield 494, 3) := dk_180 1 238 (dk_at dksX0_tell_0 17 rfl rfl)
theorem dX0_tell_20 : decode cX0_tell 20 = .ok (.iload_n 1, 1) := dk_27 (dk_at dksX0_tell_0 20 rfl rfl)
theorem dX0_tell_21 : decode cX0_tell 21 = .ok (.iastore, 1) := dk_79 (dk_at dksX0_tell_0 21 rfl rfl)
theorem dX0_tell_22 : decode cX0_tell 22 = .ok (.aload_n 0, 1) := dk_42 (dk_at dksX0_tell_0 22 rfl rfl)
theorem dX0_tell_23 : decode cX0_tell 23 = .ok (.dup, 1) := dk_89 (dk_at dksX0_tell_0 23 rfl rfl)
theorem dX0_tell_24 : decode cX0_tell 24 = .ok (.getfield 494, 3) := dk_180 1 238 (dk_at dksX0_tell_1 0 rfl rfl)
theorem dX0_tell_27 : decode cX0_tell 27 = .ok (.iconst 1, 1) := dk_4 (dk_at dksX0_tell_1 3 rfl rfl)
theorem dX0_tell_28 : decode cX0_tell 28 = .ok (.iadd, 1) := dk_96 (dk_at dksX0_tell_1 4 rfl rfl)
theorem dX0_tell_29 : decode cX0_tell 29 = .ok (.putfield 494, 3) := dk_181 1 238 (dk_at dksX0_tell_1 5 rfl rfl)
theorem dX0_tell_32 : decode cX0_tell 32 = .ok (.aload_n 0, 1) := dk_42 (dk_at dksX0_tell_1 8 rfl rfl)
theorem dX0_tell_33 : decode cX0_tell 33 = .ok (.getfield 494, 3) := dk_180 1 238 (dk_at dksX0_tell_1 9 rfl rfl)
theorem dX0_tell_36 : decode cX0_tell 36 = .ok (.ireturn, 1) := dk_172 (dk_at dksX0_tell_1 12 rfl rfl)
abbrev cX0_check : ByteArray := prog_1_method_86_code
def yX0_check : MethodName := ⟨RX0, "check", "(I)I"⟩
def dkwX0_check_7 : List UInt8 := [181, 1, 238, 29, 172, 58, 4, 42, 44, 181, 0, 72, 42, 3, 181, 1, 238, 25, 4, 191]
abbrev dktX0_check_7 : List UInt8 := dkwX0_check_7 ++ []
def dkwX0_check_6 : List UInt8 := [180, 1, 238, 160, 0, 7, 3, 167, 0, 9, 4, 42, 180, 1, 244, 96, 62, 42, 44, 181, 0, 72, 42, 3]
abbrev dktX0_check_6 : List UInt8 := dkwX0_check_6 ++ dktX0_check_7
def dkwX0_check_5 : List UInt8 := [182, 1, 8, 182, 1, 250, 132, 3, 1, 167, 255, 205, 42, 180, 1, 241, 153, 0, 18, 42, 180, 1, 244, 42]
abbrev dktX0_check_5 : List UInt8 := dkwX0_check_5 ++ dktX0_check_6
def dkwX0_check_4 : List UInt8 := [42, 180, 0, 72, 2, 182, 0, 249, 42, 42, 180, 0, 72, 182, 0, 243, 182, 1, 250, 42, 42, 180, 0, 72]
abbrev dktX0_check_4 : List UInt8 := dkwX0_check_4 ++ dktX0_check_5
def dkwX0_check_3 : List UInt8 := [4, 181, 1, 241, 3, 62, 29, 27, 162, 0, 52, 42, 180, 0, 72, 180, 0, 246, 17, 39, 15, 162, 0, 39]
abbrev dktX0_check_3 : List UInt8 := dkwX0_check_3 ++ dktX0_check_4
def dkwX0_check_2 : List UInt8 := [181, 0, 72, 42, 3, 181, 1, 238, 29, 172, 42, 42, 180, 0, 79, 182, 0, 255, 42, 3, 181, 1, 244, 42]
abbrev dktX0_check_2 : List UInt8 := dkwX0_check_2 ++ dktX0_check_3
def dkwX0_check_1 : List UInt8 := [181, 0, 72, 42, 3, 181, 1, 238, 29, 172, 42, 180, 1, 247, 154, 0, 19, 19, 1, 237, 62, 42, 44]
abbrev dktX0_check_1 : List UInt8 := dkwX0_check_1 ++ dktX0_check_2
def dkwX0_check_0 : List UInt8 := [42, 180, 0, 72, 77, 27, 133, 10, 20, 1, 11, 184, 0, 121, 154, 0, 18, 18, 135, 62, 42, 44]
abbrev dktX0_check_0 : List UInt8 := dkwX0_check_0 ++ dktX0_check_1
theorem dksX0_check_0 : cX0_check.data.toList.drop 0 = dktX0_check_0 := by decide +kernel
theorem dksX0_check_1 : cX0_check.data.toList.drop 22 = dktX0_check_1 := dk_seg dksX0_check_0 22 rfl rfl
theorem dksX0_check_2 : cX0_check.data.toList.drop 45 = dktX0_check_2 := dk_seg dksX0_check_1 23 rfl rfl
theorem dksX0_check_3 : cX0_check.data.toList.drop 69 = dktX0_check_3 := dk_seg dksX0_check_2 24 rfl rfl
theorem dksX0_check_4 : cX0_check.data.toList.drop 93 = dktX0_check_4 := dk_seg dksX0_check_3 24 rfl rfl
theorem dksX0_check_5 : cX0_check.data.toList.drop 117 = dktX0_check_5 := dk_seg dksX0_check_4 24 rfl rfl
theorem dksX0_check_6 : cX0_check.data.toList.drop 141 = dktX0_check_6 := dk_seg dksX0_check_5 24 rfl rfl
theorem dksX0_check_7 : cX0_check.data.toList.drop 165 = dktX0_check_7 := dk_seg dksX0_check_6 24 rfl rfl
theorem dX0_check_0 : decode cX0_check 0 = .ok (.aload_n 0, 1) := dk_42 (dk_at dksX0_check_0 0 rfl rfl)
theorem dX0_check_1 : decode cX0_check 1 = .ok (.getfield 72, 3) := dk_180 0 72 (dk_at dksX0_check_0 1 rfl rfl)
theorem dX0_check_4 : decode cX0_check 4 = .ok (.astore_n 2, 1) := dk_77 (dk_at dksX0_check_0 4 rfl rfl)
theorem dX0_check_5 : decode cX0_check 5 = .ok (.iload_n 1, 1) := dk_27 (dk_at dksX0_check_0 5 rfl rfl)
theorem dX0_check_6 : decode cX0_check 6 = .ok (.i2l, 1) := dk_133 (dk_at dksX0_check_0 6 rfl rfl)
theorem dX0_check_7 : decode cX0_check 7 = .ok (.lconst 1, 1) := dk_10 (dk_at dksX0_check_0 7 rfl rfl)
theorem dX0_check_8 : decode cX0_check 8 = .ok (.ldc2_w 267, 3) := dk_20 1 11 (dk_at dksX0_check_0 8 rfl rfl)
theorem dX0_check_11 : decode cX0_check 11 = .ok (.invokestatic 121, 3) := dk_184 0 121 (dk_at dksX0_check_0 11 rfl rfl)
theorem dX0_check_14 : decode cX0_check 14 = .ok (.ifCond .ne 18, 3) := dk_154 0 18 (dk_at dksX0_check_0 14 rfl rfl)
theorem dX0_check_17 : decode cX0_check 17 = .ok (.ldc 135, 2) := dk_18 135 (dk_at dksX0_check_0 17 rfl rfl)
theorem dX0_check_19 : decode cX0_check 19 = .ok (.istore_n 3, 1) := dk_62 (dk_at dksX0_check_0 19 rfl rfl)
theorem dX0_check_20 : decode cX0_check 20 = .ok (.aload_n 0, 1) := dk_42 (dk_at dksX0_check_0 20 rfl rfl)
theorem dX0_check_21 : decode cX0_check 21 = .ok (.aload_n 2, 1) := dk_44 (dk_at dksX0_check_0 21 rfl rfl)
theorem dX0_check_22 : decode cX0_check 22 = .ok (.putfield 72, 3) := dk_181 0 72 (dk_at dksX0_check_1 0 rfl rfl)
theorem dX0_check_25 : decode cX0_check 25 = .ok (.aload_n 0, 1) := dk_42 (dk_at dksX0_check_1 3 rfl rfl)
theorem dX0_check_26 : decode cX0_check 26 = .ok (.iconst 0, 1) := dk_3 (dk_at dksX0_check_1 4 rfl rfl)
theorem dX0_check_27 : decode cX0_check 27 = .ok (.putfield 494, 3) := dk_181 1 238 (dk_at dksX0_check_1 5 rfl rfl)
theorem dX0_check_30 : decode cX0_check 30 = .ok (.iload_n 3, 1) := dk_29 (dk_at dksX0_check_1 8 rfl rfl)
theorem dX0_check_31 : decode cX0_check 31 = .ok (.ireturn, 1) := dk_172 (dk_at dksX0_check_1 9 rfl rfl)
theorem dX0_check_32 : decode cX0_check 32 = .ok (.aload_n 0, 1) := dk_42 (dk_at dksX0_check_1 10 rfl rfl)
theorem dX0_check_33 : decode cX0_check 33 = .ok (.getfield 503, 3) := dk_180 1 247 (dk_at dksX0_check_1 11 rfl rfl)
theorem dX0_check_36 : decode cX0_check 36 = .ok (.ifCond .ne 19, 3) := dk_154 0 19 (dk_at dksX0_check_1 14 rfl rfl)
theorem dX0_check_39 : decode cX0_check 39 = .ok (.ldc_w 493, 3) := dk_19 1 237 (dk_at dksX0_check_1 17 rfl rfl)
theorem dX0_check_42 : decode cX0_check 42 = .ok (.istore_n 3, 1) := dk_62 (dk_at dksX0_check_1 20 rfl rfl)
theorem dX0_check_43 : decode cX0_check 43 = .ok (.aload_n 0, 1) := dk_42 (dk_at dksX0_check_1 21 rfl rfl)
theorem dX0_check_44 : decode cX0_check 44 = .ok (.aload_n 2, 1) := dk_44 (dk_at dksX0_check_1 22 rfl rfl)
theorem dX0_check_45 : decode cX0_check 45 = .ok (.putfield 72, 3) := dk_181 0 72 (dk_at dksX0_check_2 0 rfl rfl)
theorem dX0_check_48 : decode cX0_check 48 = .ok (.aload_n 0, 1) := dk_42 (dk_at dksX0_check_2 3 rfl rfl)
theorem dX0_check_49 : decode cX0_check 49 = .ok (.iconst 0, 1) := dk_3 (dk_at dksX0_check_2 4 rfl rfl)
theorem dX0_check_50 : decode cX0_check 50 = .ok (.putfield 494, 3) := dk_181 1 238 (dk_at dksX0_check_2 5 rfl rfl)
theorem dX0_check_53 : decode cX0_check 53 = .ok (.iload_n 3, 1) := dk_29 (dk_at dksX0_check_2 8 rfl rfl)
theorem dX0_check_54 : decode cX0_check 54 = .ok (.ireturn, 1) := dk_172 (dk_at dksX0_check_2 9 rfl rfl)
theorem dX0_check_55 : decode cX0_check 55 = .ok (.aload_n 0, 1) := dk_42 (dk_at dksX0_check_2 10 rfl rfl)
theorem dX0_check_56 : decode cX0_check 56 = .ok (.aload_n 0, 1) := dk_42 (dk_at dksX0_check_2 11 rfl rfl)
theorem dX0_check_57 : decode cX0_check 57 = .ok (.getfield 79, 3) := dk_180 0 79 (dk_at dksX0_check_2 12 rfl rfl)
theorem dX0_check_60 : decode cX0_check 60 = .ok (.invokevirtual 255, 3) := dk_182 0 255 (dk_at dksX0_check_2 15 rfl rfl)
theorem dX0_check_63 : decode cX0_check 63 = .ok (.aload_n 0, 1) := dk_42 (dk_at dksX0_check_2 18 rfl rfl)
theorem dX0_check_64 : decode cX0_check 64 = .ok (.iconst 0, 1) := dk_3 (dk_at dksX0_check_2 19 rfl rfl)
theorem dX0_check_65 : decode cX0_check 65 = .ok (.putfield 500, 3) := dk_181 1 244 (dk_at dksX0_check_2 20 rfl rfl)
theorem dX0_check_68 : decode cX0_check 68 = .ok (.aload_n 0, 1) := dk_42 (dk_at dksX0_check_2 23 rfl rfl)
theorem dX0_check_69 : decode cX0_check 69 = .ok (.iconst 1, 1) := dk_4 (dk_at dksX0_check_3 0 rfl rfl)
theorem dX0_check_70 : decode cX0_check 70 = .ok (.putfield 497, 3) := dk_181 1 241 (dk_at dksX0_check_3 1 rfl rfl)
theorem dX0_check_73 : decode cX0_check 73 = .ok (.iconst 0, 1) := dk_3 (dk_at dksX0_check_3 4 rfl rfl)
theorem dX0_check_74 : decode cX0_check 74 = .ok (.istore_n 3, 1) := dk_62 (dk_at dksX0_check_3 5 rfl rfl)
theorem dX0_check_75 : decode cX0_check 75 = .ok (.iload_n 3, 1) := dk_29 (dk_at dksX0_check_3 6 rfl rfl)
theorem dX0_check_76 : decode cX0_check 76 = .ok (.iload_n 1, 1) := dk_27 (dk_at dksX0_check_3 7 rfl rfl)
theorem dX0_check_77 : decode cX0_check 77 = .ok (.if_icmp .ge 52, 3) := dk_162 0 52 (dk_at dksX0_check_3 8 rfl rfl)
theorem dX0_check_80 : decode cX0_check 80 = .ok (.aload_n 0, 1) := dk_42 (dk_at dksX0_check_3 11 rfl rfl)
theorem dX0_check_81 : decode cX0_check 81 = .ok (.getfield 72, 3) := dk_180 0 72 (dk_at dksX0_check_3 12 rfl rfl)
theorem dX0_check_84 : decode cX0_check 84 = .ok (.getfield 246, 3) := dk_180 0 246 (dk_at dksX0_check_3 15 rfl rfl)
theorem dX0_check_87 : decode cX0_check 87 = .ok (.sipush 9999, 3) := dk_17 39 15 (dk_at dksX0_check_3 18 rfl rfl)
theorem dX0_check_90 : decode cX0_check 90 = .ok (.if_icmp .ge 39, 3) := dk_162 0 39 (dk_at dksX0_check_3 21 rfl rfl)
theorem dX0_check_93 : decode cX0_check 93 = .ok (.aload_n 0, 1) := dk_42 (dk_at dksX0_check_4 0 rfl rfl)
theorem dX0_check_94 : decode cX0_check 94 = .ok (.getfield 72, 3) := dk_180 0 72 (dk_at dksX0_check_4 1 rfl rfl)
theorem dX0_check_97 : decode cX0_check 97 = .ok (.iconst (-1), 1) := dk_2 (dk_at dksX0_check_4 4 rfl rfl)
theorem dX0_check_98 : decode cX0_check 98 = .ok (.invokevirtual 249, 3) := dk_182 0 249 (dk_at dksX0_check_4 5 rfl rfl)
theorem dX0_check_101 : decode cX0_check 101 = .ok (.aload_n 0, 1) := dk_42 (dk_at dksX0_check_4 8 rfl rfl)
theorem dX0_check_102 : decode cX0_check 102 = .ok (.aload_n 0, 1) := dk_42 (dk_at dksX0_check_4 9 rfl rfl)
theorem dX0_check_103 : decode cX0_check 103 = .ok (.getfield 72, 3) := dk_180 0 72 (dk_at dksX0_check_4 10 rfl rfl)
theorem dX0_check_106 : decode cX0_check 106 = .ok (.invokevirtual 243, 3) := dk_182 0 243 (dk_at dksX0_check_4 13 rfl rfl)
theorem dX0_check_109 : decode cX0_check 109 = .ok (.invokevirtual 506, 3) := dk_182 1 250 (dk_at dksX0_check_4 16 rfl rfl)
theorem dX0_check_112 : decode cX0_check 112 = .ok (.aload_n 0, 1) := dk_42 (dk_at dksX0_check_4 19 rfl rfl)
theorem dX0_check_113 : decode cX0_check 113 = .ok (.aload_n 0, 1) := dk_42 (dk_at dksX0_check_4 20 rfl rfl)
theorem dX0_check_114 : decode cX0_check 114 = .ok (.getfield 72, 3) := dk_180 0 72 (dk_at dksX0_check_4 21 rfl rfl)
theorem dX0_check_117 : decode cX0_check 117 = .ok (.invokevirtual 264, 3) := dk_182 1 8 (dk_at dksX0_check_5 0 rfl rfl)
theorem dX0_check_120 : decode cX0_check 120 = .ok (.invokevirtual 506, 3) := dk_182 1 250 (dk_at dksX0_check_5 3 rfl rfl)
theorem dX0_check_123 : decode cX0_check 123 = .ok (.iinc 3 1, 3) := dk_132 3 1 (dk_at dksX0_check_5 6 rfl rfl)
theorem dX0_check_126 : decode cX0_check 126 = .ok (.goto (-51), 3) := dk_167 255 205 (dk_at dksX0_check_5 9 rfl rfl)
theorem dX0_check_129 : decode cX0_check 129 = .ok (.aload_n 0, 1) := dk_42 (dk_at dksX0_check_5 12 rfl rfl)
theorem dX0_check_130 : decode cX0_check 130 = .ok (.getfield 497, 3) := dk_180 1 241 (dk_at dksX0_check_5 13 rfl rfl)
theorem dX0_check_133 : decode cX0_check 133 = .ok (.ifCond .eq 18, 3) := dk_153 0 18 (dk_at dksX0_check_5 16 rfl rfl)
theorem dX0_check_136 : decode cX0_check 136 = .ok (.aload_n 0, 1) := dk_42 (dk_at dksX0_check_5 19 rfl rfl)
theorem dX0_check_137 : decode cX0_check 137 = .ok (.getfield 500, 3) := dk_180 1 244 (dk_at dksX0_check_5 20 rfl rfl)
theorem dX0_check_140 : decode cX0_check 140 = .ok (.aload_n 0, 1) := dk_42 (dk_at dksX0_check_5 23 rfl rfl)
theorem dX0_check_141 : decode cX0_check 141 = .ok (.getfield 494, 3) := dk_180 1 238 (dk_at dksX0_check_6 0 rfl rfl)
theorem dX0_check_144 : decode cX0_check 144 = .ok (.if_icmp .ne 7, 3) := dk_160 0 7 (dk_at dksX0_check_6 3 rfl rfl)
theorem dX0_check_147 : decode cX0_check 147 = .ok (.iconst 0, 1) := dk_3 (dk_at dksX0_check_6 6 rfl rfl)
theorem dX0_check_148 : decode cX0_check 148 = .ok (.goto 9, 3) := dk_167 0 9 (dk_at dksX0_check_6 7 rfl rfl)
theorem dX0_check_151 : decode cX0_check 151 = .ok (.iconst 1, 1) := dk_4 (dk_at dksX0_check_6 10 rfl rfl)
theorem dX0_check_152 : decode cX0_check 152 = .ok (.aload_n 0, 1) := dk_42 (dk_at dksX0_check_6 11 rfl rfl)
theorem dX0_check_153 : decode cX0_check 153 = .ok (.getfield 500, 3) := dk_180 1 244 (dk_at dksX0_check_6 12 rfl rfl)
theorem dX0_check_156 : decode cX0_check 156 = .ok (.iadd, 1) := dk_96 (dk_at dksX0_check_6 15 rfl rfl)
theorem dX0_check_157 : decode cX0_check 157 = .ok (.istore_n 3, 1) := dk_62 (dk_at dksX0_check_6 16 rfl rfl)
theorem dX0_check_158 : decode cX0_check 158 = .ok (.aload_n 0, 1) := dk_42 (dk_at dksX0_check_6 17 rfl rfl)
theorem dX0_check_159 : decode cX0_check 159 = .ok (.aload_n 2, 1) := dk_44 (dk_at dksX0_check_6 18 rfl rfl)
theorem dX0_check_160 : decode cX0_check 160 = .ok (.putfield 72, 3) := dk_181 0 72 (dk_at dksX0_check_6 19 rfl rfl)
theorem dX0_check_163 : decode cX0_check 163 = .ok (.aload_n 0, 1) := dk_42 (dk_at dksX0_check_6 22 rfl rfl)
theorem dX0_check_164 : decode cX0_check 164 = .ok (.iconst 0, 1) := dk_3 (dk_at dksX0_check_6 23 rfl rfl)
theorem dX0_check_165 : decode cX0_check 165 = .ok (.putfield 494, 3) := dk_181 1 238 (dk_at dksX0_check_7 0 rfl rfl)
theorem dX0_check_168 : decode cX0_check 168 = .ok (.iload_n 3, 1) := dk_29 (dk_at dksX0_check_7 3 rfl rfl)
theorem dX0_check_169 : decode cX0_check 169 = .ok (.ireturn, 1) := dk_172 (dk_at dksX0_check_7 4 rfl rfl)
theorem dX0_check_170 : decode cX0_check 170 = .ok (.astore 4, 2) := dk_58 4 (dk_at dksX0_check_7 5 rfl rfl)
theorem dX0_check_172 : decode cX0_check 172 = .ok (.aload_n 0, 1) := dk_42 (dk_at dksX0_check_7 7 rfl rfl)
theorem dX0_check_173 : decode cX0_check 173 = .ok (.aload_n 2, 1) := dk_44 (dk_at dksX0_check_7 8 rfl rfl)
theorem dX0_check_174 : decode cX0_check 174 = .ok (.putfield 72, 3) := dk_181 0 72 (dk_at dksX0_check_7 9 rfl rfl)
theorem dX0_check_177 : decode cX0_check 177 = .ok (.aload_n 0, 1) := dk_42 (dk_at dksX0_check_7 12 rfl rfl)
theorem dX0_check_178 : decode cX0_check 178 = .ok (.iconst 0, 1) := dk_3 (dk_at dksX0_check_7 13 rfl rfl)
theorem dX0_check_179 : decode cX0_check 179 = .ok (.putfield 494, 3) := dk_181 1 238 (dk_at dksX0_check_7 14 rfl rfl)
theorem dX0_check_182 : decode cX0_check 182 = .ok (.aload 4, 2) := dk_25 4 (dk_at dksX0_check_7 17 rfl rfl)
theorem dX0_check_184 : decode cX0_check 184 = .ok (.athrow, 1) := dk_191 (dk_at dksX0_check_7 19 rfl rfl)
abbrev cX0_due : ByteArray := prog_1_method_85_code
def yX0_due : MethodName := ⟨RX0, "due", "(I)V"⟩
def dkwX0_due_2 : List UInt8 := [180, 1, 241, 153, 0, 7, 4, 167, 0, 4, 3, 96, 181, 1, 244, 177]
abbrev dktX0_due_2 : List UInt8 := dkwX0_due_2 ++ []
def dkwX0_due_1 : List UInt8 := [180, 1, 244, 46, 27, 160, 0, 7, 4, 167, 0, 4, 3, 181, 1, 241, 42, 89, 180, 1, 244, 42]
abbrev dktX0_due_1 : List UInt8 := dkwX0_due_1 ++ dktX0_due_2
def dkwX0_due_0 : List UInt8 := [42, 42, 180, 1, 241, 153, 0, 31, 42, 180, 1, 244, 42, 180, 1, 238, 162, 0, 20, 42, 180, 0, 110, 42]
abbrev dktX0_due_0 : List UInt8 := dkwX0_due_0 ++ dktX0_due_1
theorem dksX0_due_0 : cX0_due.data.toList.drop 0 = dktX0_due_0 := by decide +kernel
theorem dksX0_due_1 : cX0_due.data.toList.drop 24 = dktX0_due_1 := dk_seg dksX0_due_0 24 rfl rfl
theorem dksX0_due_2 : cX0_due.data.toList.drop 46 = dktX0_due_2 := dk_seg dksX0_due_1 22 rfl rfl
theorem dX0_due_0 : decode cX0_due 0 = .ok (.aload_n 0, 1) := dk_42 (dk_at dksX0_due_0 0 rfl rfl)
theorem dX0_due_1 : decode cX0_due 1 = .ok (.aload_n 0, 1) := dk_42 (dk_at dksX0_due_0 1 rfl rfl)
theorem dX0_due_2 : decode cX0_due 2 = .ok (.getfield 497, 3) := dk_180 1 241 (dk_at dksX0_due_0 2 rfl rfl)
theorem dX0_due_5 : decode cX0_due 5 = .ok (.ifCond .eq 31, 3) := dk_153 0 31 (dk_at dksX0_due_0 5 rfl rfl)
theorem dX0_due_8 : decode cX0_due 8 = .ok (.aload_n 0, 1) := dk_42 (dk_at dksX0_due_0 8 rfl rfl)
theorem dX0_due_9 : decode cX0_due 9 = .ok (.getfield 500, 3) := dk_180 1 244 (dk_at dksX0_due_0 9 rfl rfl)
theorem dX0_due_12 : decode cX0_due 12 = .ok (.aload_n 0, 1) := dk_42 (dk_at dksX0_due_0 12 rfl rfl)
theorem dX0_due_13 : decode cX0_due 13 = .ok (.getfield 494, 3) := dk_180 1 238 (dk_at dksX0_due_0 13 rfl rfl)
theorem dX0_due_16 : decode cX0_due 16 = .ok (.if_icmp .ge 20, 3) := dk_162 0 20 (dk_at dksX0_due_0 16 rfl rfl)
theorem dX0_due_19 : decode cX0_due 19 = .ok (.aload_n 0, 1) := dk_42 (dk_at dksX0_due_0 19 rfl rfl)
theorem dX0_due_20 : decode cX0_due 20 = .ok (.getfield 110, 3) := dk_180 0 110 (dk_at dksX0_due_0 20 rfl rfl)
theorem dX0_due_23 : decode cX0_due 23 = .ok (.aload_n 0, 1) := dk_42 (dk_at dksX0_due_0 23 rfl rfl)
theorem dX0_due_24 : decode cX0_due 24 = .ok (.getfield 500, 3) := dk_180 1 244 (dk_at dksX0_due_1 0 rfl rfl)
theorem dX0_due_27 : decode cX0_due 27 = .ok (.iaload, 1) := dk_46 (dk_at dksX0_due_1 3 rfl rfl)
theorem dX0_due_28 : decode cX0_due 28 = .ok (.iload_n 1, 1) := dk_27 (dk_at dksX0_due_1 4 rfl rfl)
theorem dX0_due_29 : decode cX0_due 29 = .ok (.if_icmp .ne 7, 3) := dk_160 0 7 (dk_at dksX0_due_1 5 rfl rfl)
theorem dX0_due_32 : decode cX0_due 32 = .ok (.iconst 1, 1) := dk_4 (dk_at dksX0_due_1 8 rfl rfl)
theorem dX0_due_33 : decode cX0_due 33 = .ok (.goto 4, 3) := dk_167 0 4 (dk_at dksX0_due_1 9 rfl rfl)
theorem dX0_due_36 : decode cX0_due 36 = .ok (.iconst 0, 1) := dk_3 (dk_at dksX0_due_1 12 rfl rfl)
theorem dX0_due_37 : decode cX0_due 37 = .ok (.putfield 497, 3) := dk_181 1 241 (dk_at dksX0_due_1 13 rfl rfl)
theorem dX0_due_40 : decode cX0_due 40 = .ok (.aload_n 0, 1) := dk_42 (dk_at dksX0_due_1 16 rfl rfl)
theorem dX0_due_41 : decode cX0_due 41 = .ok (.dup, 1) := dk_89 (dk_at dksX0_due_1 17 rfl rfl)
theorem dX0_due_42 : decode cX0_due 42 = .ok (.getfield 500, 3) := dk_180 1 244 (dk_at dksX0_due_1 18 rfl rfl)
theorem dX0_due_45 : decode cX0_due 45 = .ok (.aload_n 0, 1) := dk_42 (dk_at dksX0_due_1 21 rfl rfl)
theorem dX0_due_46 : decode cX0_due 46 = .ok (.getfield 497, 3) := dk_180 1 241 (dk_at dksX0_due_2 0 rfl rfl)
theorem dX0_due_49 : decode cX0_due 49 = .ok (.ifCond .eq 7, 3) := dk_153 0 7 (dk_at dksX0_due_2 3 rfl rfl)
theorem dX0_due_52 : decode cX0_due 52 = .ok (.iconst 1, 1) := dk_4 (dk_at dksX0_due_2 6 rfl rfl)
theorem dX0_due_53 : decode cX0_due 53 = .ok (.goto 4, 3) := dk_167 0 4 (dk_at dksX0_due_2 7 rfl rfl)
theorem dX0_due_56 : decode cX0_due 56 = .ok (.iconst 0, 1) := dk_3 (dk_at dksX0_due_2 10 rfl rfl)
theorem dX0_due_57 : decode cX0_due 57 = .ok (.iadd, 1) := dk_96 (dk_at dksX0_due_2 11 rfl rfl)
theorem dX0_due_58 : decode cX0_due 58 = .ok (.putfield 500, 3) := dk_181 1 244 (dk_at dksX0_due_2 12 rfl rfl)
theorem dX0_due_61 : decode cX0_due 61 = .ok (.return_, 1) := dk_177 (dk_at dksX0_due_2 15 rfl rfl)
abbrev cX0_keep : ByteArray := prog_1_method_87_code
def yX0_keep : MethodName := ⟨RX0, "keep", "()I"⟩
def dkwX0_keep_0 : List UInt8 := [42, 180, 0, 79, 42, 180, 0, 72, 182, 0, 114, 42, 4, 181, 1, 247, 42, 180, 0, 72, 180, 0, 118, 172]
abbrev dktX0_keep_0 : List UInt8 := dkwX0_keep_0 ++ []
theorem dksX0_keep_0 : cX0_keep.data.toList.drop 0 = dktX0_keep_0 := by decide +kernel
theorem dX0_keep_0 : decode cX0_keep 0 = .ok (.aload_n 0, 1) := dk_42 (dk_at dksX0_keep_0 0 rfl rfl)
theorem dX0_keep_1 : decode cX0_keep 1 = .ok (.getfield 79, 3) := dk_180 0 79 (dk_at dksX0_keep_0 1 rfl rfl)
theorem dX0_keep_4 : decode cX0_keep 4 = .ok (.aload_n 0, 1) := dk_42 (dk_at dksX0_keep_0 4 rfl rfl)
theorem dX0_keep_5 : decode cX0_keep 5 = .ok (.getfield 72, 3) := dk_180 0 72 (dk_at dksX0_keep_0 5 rfl rfl)
theorem dX0_keep_8 : decode cX0_keep 8 = .ok (.invokevirtual 114, 3) := dk_182 0 114 (dk_at dksX0_keep_0 8 rfl rfl)
theorem dX0_keep_11 : decode cX0_keep 11 = .ok (.aload_n 0, 1) := dk_42 (dk_at dksX0_keep_0 11 rfl rfl)
theorem dX0_keep_12 : decode cX0_keep 12 = .ok (.iconst 1, 1) := dk_4 (dk_at dksX0_keep_0 12 rfl rfl)
theorem dX0_keep_13 : decode cX0_keep 13 = .ok (.putfield 503, 3) := dk_181 1 247 (dk_at dksX0_keep_0 13 rfl rfl)
theorem dX0_keep_16 : decode cX0_keep 16 = .ok (.aload_n 0, 1) := dk_42 (dk_at dksX0_keep_0 16 rfl rfl)
theorem dX0_keep_17 : decode cX0_keep 17 = .ok (.getfield 72, 3) := dk_180 0 72 (dk_at dksX0_keep_0 17 rfl rfl)
theorem dX0_keep_20 : decode cX0_keep 20 = .ok (.getfield 118, 3) := dk_180 0 118 (dk_at dksX0_keep_0 20 rfl rfl)
theorem dX0_keep_23 : decode cX0_keep 23 = .ok (.ireturn, 1) := dk_172 (dk_at dksX0_keep_0 23 rfl rfl)
abbrev cX0_back : ByteArray := prog_1_method_88_code
def yX0_back : MethodName := ⟨RX0, "back", "()I"⟩
def dkwX0_back_1 : List UInt8 := [180, 0, 72, 180, 0, 118, 172]
abbrev dktX0_back_1 : List UInt8 := dkwX0_back_1 ++ []
def dkwX0_back_0 : List UInt8 := [42, 180, 1, 247, 154, 0, 7, 19, 1, 237, 172, 42, 180, 0, 72, 42, 180, 0, 79, 182, 0, 114, 42]
abbrev dktX0_back_0 : List UInt8 := dkwX0_back_0 ++ dktX0_back_1
theorem dksX0_back_0 : cX0_back.data.toList.drop 0 = dktX0_back_0 := by decide +kernel
theorem dksX0_back_1 : cX0_back.data.toList.drop 23 = dktX0_back_1 := dk_seg dksX0_back_0 23 rfl rfl
theorem dX0_back_0 : decode cX0_back 0 = .ok (.aload_n 0, 1) := dk_42 (dk_at dksX0_back_0 0 rfl rfl)
theorem dX0_back_1 : decode cX0_back 1 = .ok (.getfield 503, 3) := dk_180 1 247 (dk_at dksX0_back_0 1 rfl rfl)
theorem dX0_back_4 : decode cX0_back 4 = .ok (.ifCond .ne 7, 3) := dk_154 0 7 (dk_at dksX0_back_0 4 rfl rfl)
theorem dX0_back_7 : decode cX0_back 7 = .ok (.ldc_w 493, 3) := dk_19 1 237 (dk_at dksX0_back_0 7 rfl rfl)
theorem dX0_back_10 : decode cX0_back 10 = .ok (.ireturn, 1) := dk_172 (dk_at dksX0_back_0 10 rfl rfl)
theorem dX0_back_11 : decode cX0_back 11 = .ok (.aload_n 0, 1) := dk_42 (dk_at dksX0_back_0 11 rfl rfl)
theorem dX0_back_12 : decode cX0_back 12 = .ok (.getfield 72, 3) := dk_180 0 72 (dk_at dksX0_back_0 12 rfl rfl)
theorem dX0_back_15 : decode cX0_back 15 = .ok (.aload_n 0, 1) := dk_42 (dk_at dksX0_back_0 15 rfl rfl)
theorem dX0_back_16 : decode cX0_back 16 = .ok (.getfield 79, 3) := dk_180 0 79 (dk_at dksX0_back_0 16 rfl rfl)
theorem dX0_back_19 : decode cX0_back 19 = .ok (.invokevirtual 114, 3) := dk_182 0 114 (dk_at dksX0_back_0 19 rfl rfl)
theorem dX0_back_22 : decode cX0_back 22 = .ok (.aload_n 0, 1) := dk_42 (dk_at dksX0_back_0 22 rfl rfl)
theorem dX0_back_23 : decode cX0_back 23 = .ok (.getfield 72, 3) := dk_180 0 72 (dk_at dksX0_back_1 0 rfl rfl)
theorem dX0_back_26 : decode cX0_back 26 = .ok (.getfield 118, 3) := dk_180 0 118 (dk_at dksX0_back_1 3 rfl rfl)
theorem dX0_back_29 : decode cX0_back 29 = .ok (.ireturn, 1) := dk_172 (dk_at dksX0_back_1 6 rfl rfl)
abbrev cX0_count : ByteArray := prog_1_method_89_code
def yX0_count : MethodName := ⟨RX0, "count", "(I)I"⟩
def dkwX0_count_4 : List UInt8 := [42, 180, 1, 238, 172, 42, 180, 1, 37, 172, 42, 180, 0, 72, 180, 0, 192, 172, 18, 135, 172]
abbrev dktX0_count_4 : List UInt8 := dkwX0_count_4 ++ []
def dkwX0_count_3 : List UInt8 := [42, 180, 0, 72, 180, 0, 240, 172, 42, 180, 0, 72, 180, 1, 15, 172, 42, 180, 0, 72, 180, 1, 153, 172]
abbrev dktX0_count_3 : List UInt8 := dkwX0_count_3 ++ dktX0_count_4
def dkwX0_count_2 : List UInt8 := [42, 180, 0, 72, 180, 0, 118, 172, 42, 180, 0, 72, 182, 0, 243, 172, 42, 180, 0, 72, 180, 0, 246, 172]
abbrev dktX0_count_2 : List UInt8 := dkwX0_count_2 ++ dktX0_count_3
def dkwX0_count_1 : List UInt8 := [170, 0, 0, 0, 0, 0, 117, 0, 0, 0, 0, 0, 0, 0, 8, 0, 0, 0, 51, 0, 0, 0, 59, 0, 0, 0, 67, 0, 0, 0, 75, 0, 0, 0, 83, 0, 0, 0, 91, 0, 0, 0, 99, 0, 0, 0, 104, 0, 0, 0, 109]
abbrev dktX0_count_1 : List UInt8 := dkwX0_count_1 ++ dktX0_count_2
def dkwX0_count_0 : List UInt8 := [27]
abbrev dktX0_count_0 : List UInt8 := dkwX0_count_0 ++ dktX0_count_1
theorem dksX0_count_0 : cX0_count.data.toList.drop 0 = dktX0_count_0 := by decide +kernel
theorem dksX0_count_1 : cX0_count.data.toList.drop 1 = dktX0_count_1 := dk_seg dksX0_count_0 1 rfl rfl
theorem dksX0_count_2 : cX0_count.data.toList.drop 52 = dktX0_count_2 := dk_seg dksX0_count_1 51 rfl rfl
theorem dksX0_count_3 : cX0_count.data.toList.drop 76 = dktX0_count_3 := dk_seg dksX0_count_2 24 rfl rfl
theorem dksX0_count_4 : cX0_count.data.toList.drop 100 = dktX0_count_4 := dk_seg dksX0_count_3 24 rfl rfl
theorem dX0_count_0 : decode cX0_count 0 = .ok (.iload_n 1, 1) := dk_27 (dk_at dksX0_count_0 0 rfl rfl)
theorem dX0_count_1 : decode cX0_count 1 = .ok (.tableswitch 117 0 8 #[51, 59, 67, 75, 83, 91, 99, 104, 109], 51) := by decide +kernel
theorem dX0_count_52 : decode cX0_count 52 = .ok (.aload_n 0, 1) := dk_42 (dk_at dksX0_count_2 0 rfl rfl)
theorem dX0_count_53 : decode cX0_count 53 = .ok (.getfield 72, 3) := dk_180 0 72 (dk_at dksX0_count_2 1 rfl rfl)
theorem dX0_count_56 : decode cX0_count 56 = .ok (.getfield 118, 3) := dk_180 0 118 (dk_at dksX0_count_2 4 rfl rfl)
theorem dX0_count_59 : decode cX0_count 59 = .ok (.ireturn, 1) := dk_172 (dk_at dksX0_count_2 7 rfl rfl)
theorem dX0_count_60 : decode cX0_count 60 = .ok (.aload_n 0, 1) := dk_42 (dk_at dksX0_count_2 8 rfl rfl)
theorem dX0_count_61 : decode cX0_count 61 = .ok (.getfield 72, 3) := dk_180 0 72 (dk_at dksX0_count_2 9 rfl rfl)
theorem dX0_count_64 : decode cX0_count 64 = .ok (.invokevirtual 243, 3) := dk_182 0 243 (dk_at dksX0_count_2 12 rfl rfl)
theorem dX0_count_67 : decode cX0_count 67 = .ok (.ireturn, 1) := dk_172 (dk_at dksX0_count_2 15 rfl rfl)
theorem dX0_count_68 : decode cX0_count 68 = .ok (.aload_n 0, 1) := dk_42 (dk_at dksX0_count_2 16 rfl rfl)
theorem dX0_count_69 : decode cX0_count 69 = .ok (.getfield 72, 3) := dk_180 0 72 (dk_at dksX0_count_2 17 rfl rfl)
theorem dX0_count_72 : decode cX0_count 72 = .ok (.getfield 246, 3) := dk_180 0 246 (dk_at dksX0_count_2 20 rfl rfl)
theorem dX0_count_75 : decode cX0_count 75 = .ok (.ireturn, 1) := dk_172 (dk_at dksX0_count_2 23 rfl rfl)
theorem dX0_count_76 : decode cX0_count 76 = .ok (.aload_n 0, 1) := dk_42 (dk_at dksX0_count_3 0 rfl rfl)
theorem dX0_count_77 : decode cX0_count 77 = .ok (.getfield 72, 3) := dk_180 0 72 (dk_at dksX0_count_3 1 rfl rfl)
theorem dX0_count_80 : decode cX0_count 80 = .ok (.getfield 240, 3) := dk_180 0 240 (dk_at dksX0_count_3 4 rfl rfl)
theorem dX0_count_83 : decode cX0_count 83 = .ok (.ireturn, 1) := dk_172 (dk_at dksX0_count_3 7 rfl rfl)
theorem dX0_count_84 : decode cX0_count 84 = .ok (.aload_n 0, 1) := dk_42 (dk_at dksX0_count_3 8 rfl rfl)
theorem dX0_count_85 : decode cX0_count 85 = .ok (.getfield 72, 3) := dk_180 0 72 (dk_at dksX0_count_3 9 rfl rfl)
theorem dX0_count_88 : decode cX0_count 88 = .ok (.getfield 271, 3) := dk_180 1 15 (dk_at dksX0_count_3 12 rfl rfl)
theorem dX0_count_91 : decode cX0_count 91 = .ok (.ireturn, 1) := dk_172 (dk_at dksX0_count_3 15 rfl rfl)
theorem dX0_count_92 : decode cX0_count 92 = .ok (.aload_n 0, 1) := dk_42 (dk_at dksX0_count_3 16 rfl rfl)
theorem dX0_count_93 : decode cX0_count 93 = .ok (.getfield 72, 3) := dk_180 0 72 (dk_at dksX0_count_3 17 rfl rfl)
theorem dX0_count_96 : decode cX0_count 96 = .ok (.getfield 409, 3) := dk_180 1 153 (dk_at dksX0_count_3 20 rfl rfl)
theorem dX0_count_99 : decode cX0_count 99 = .ok (.ireturn, 1) := dk_172 (dk_at dksX0_count_3 23 rfl rfl)
theorem dX0_count_100 : decode cX0_count 100 = .ok (.aload_n 0, 1) := dk_42 (dk_at dksX0_count_4 0 rfl rfl)
theorem dX0_count_101 : decode cX0_count 101 = .ok (.getfield 494, 3) := dk_180 1 238 (dk_at dksX0_count_4 1 rfl rfl)
theorem dX0_count_104 : decode cX0_count 104 = .ok (.ireturn, 1) := dk_172 (dk_at dksX0_count_4 4 rfl rfl)
theorem dX0_count_105 : decode cX0_count 105 = .ok (.aload_n 0, 1) := dk_42 (dk_at dksX0_count_4 5 rfl rfl)
theorem dX0_count_106 : decode cX0_count 106 = .ok (.getfield 293, 3) := dk_180 1 37 (dk_at dksX0_count_4 6 rfl rfl)
theorem dX0_count_109 : decode cX0_count 109 = .ok (.ireturn, 1) := dk_172 (dk_at dksX0_count_4 9 rfl rfl)
theorem dX0_count_110 : decode cX0_count 110 = .ok (.aload_n 0, 1) := dk_42 (dk_at dksX0_count_4 10 rfl rfl)
theorem dX0_count_111 : decode cX0_count 111 = .ok (.getfield 72, 3) := dk_180 0 72 (dk_at dksX0_count_4 11 rfl rfl)
theorem dX0_count_114 : decode cX0_count 114 = .ok (.getfield 192, 3) := dk_180 0 192 (dk_at dksX0_count_4 14 rfl rfl)
theorem dX0_count_117 : decode cX0_count 117 = .ok (.ireturn, 1) := dk_172 (dk_at dksX0_count_4 17 rfl rfl)
theorem dX0_count_118 : decode cX0_count 118 = .ok (.ldc 135, 2) := dk_18 135 (dk_at dksX0_count_4 18 rfl rfl)
theorem dX0_count_120 : decode cX0_count 120 = .ok (.ireturn, 1) := dk_172 (dk_at dksX0_count_4 20 rfl rfl)
theorem q72 : (Jvm.Cond.initialized "TwoGuilds") ∈ lw_all := lw_g (lw_at lw_m1 1 rfl) rfl
theorem q106 : (Jvm.Cond.instantiable "TwoGuilds" (27 : Nat)) ∈ lw_all := lw_g (lw_at lw_m1 35 rfl) rfl
theorem q108 : (Jvm.Cond.instanceMethod ({ cls := "TwoGuilds", name := "<init>", desc := "()V" } : Jvm.MethodName)) ∈ lw_all := lw_g (lw_at lw_m1 37 rfl) rfl
theorem q109 : (Jvm.Cond.code ({ cls := "TwoGuilds", name := "<init>", desc := "()V" } : Jvm.MethodName) prog_1_method_8_code (2 : Nat) (Option.none : Option Jvm.ClassFile.FieldType)) ∈ lw_all := lw_g (lw_at lw_m1 38 rfl) rfl
theorem q110 : (Jvm.Cond.methodLink "TwoGuilds" (64 : Nat) ({ cls := "java/lang/Object", name := "<init>", desc := "()V" } : Jvm.MethodName)) ∈ lw_all := lw_g (lw_at lw_m1 39 rfl) rfl
theorem q113 : (Jvm.Cond.classLink "TwoGuilds" (69 : Nat) "TwoGuilds$Table") ∈ lw_all := lw_g (lw_at lw_m1 42 rfl) rfl
theorem q115 : (Jvm.Cond.methodLinkNest "TwoGuilds" (71 : Nat) ({ cls := "TwoGuilds$Table", name := "<init>", desc := "(LTwoGuilds;)V" } : Jvm.MethodName) "TwoGuilds") ∈ lw_tbl := lw_at lw_m1 44 rfl
theorem q124 : (Jvm.Cond.fieldLink "TwoGuilds" (118 : Nat) "TwoGuilds$Table" "gloveN" "I") ∈ lw_all := lw_g (lw_at lw_m1 53 rfl) rfl
theorem q126 : (Jvm.Cond.fieldLink "TwoGuilds" (409 : Nat) "TwoGuilds$Table" "textN" "I") ∈ lw_all := lw_g (lw_at lw_m1 55 rfl) rfl
theorem q128 : (Jvm.Cond.fieldLink "TwoGuilds" (271 : Nat) "TwoGuilds$Table" "wornN" "I") ∈ lw_all := lw_g (lw_at lw_m1 57 rfl) rfl
theorem q130 : (Jvm.Cond.fieldLink "TwoGuilds" (246 : Nat) "TwoGuilds$Table" "day" "I") ∈ lw_all := lw_g (lw_at lw_m1 59 rfl) rfl
theorem q132 : (Jvm.Cond.fieldLink "TwoGuilds" (240 : Nat) "TwoGuilds$Table" "loss" "I") ∈ lw_all := lw_g (lw_at lw_m1 61 rfl) rfl
theorem q134 : (Jvm.Cond.fieldLink "TwoGuilds" (192 : Nat) "TwoGuilds$Table" "z" "I") ∈ lw_all := lw_g (lw_at lw_m1 63 rfl) rfl
theorem q136 : (Jvm.Cond.fieldLink "TwoGuilds" (274 : Nat) "TwoGuilds$Table" "wornLeft" "[I") ∈ lw_all := lw_g (lw_at lw_m1 65 rfl) rfl
theorem q138 : (Jvm.Cond.fieldLink "TwoGuilds" (277 : Nat) "TwoGuilds$Table" "wornRight" "[I") ∈ lw_all := lw_g (lw_at lw_m1 67 rfl) rfl
theorem q140 : (Jvm.Cond.fieldLink "TwoGuilds" (147 : Nat) "TwoGuilds$Table" "gloves" "[LTwoGuilds$Glove;") ∈ lw_all := lw_g (lw_at lw_m1 69 rfl) rfl
theorem q142 : (Jvm.Cond.fieldLink "TwoGuilds" (412 : Nat) "TwoGuilds$Table" "texts" "[LTwoGuilds$Text;") ∈ lw_all := lw_g (lw_at lw_m1 71 rfl) rfl
theorem q168 : (Jvm.Cond.classLink "TwoGuilds" (101 : Nat) "TwoGuilds$Holder") ∈ lw_all := lw_g (lw_at lw_m1 97 rfl) rfl
theorem q171 : (Jvm.Cond.methodLinkNest "TwoGuilds" (113 : Nat) ({ cls := "TwoGuilds$Holder", name := "<init>", desc := "()V" } : Jvm.MethodName) "TwoGuilds") ∈ lw_tbl := lw_at lw_m1 100 rfl
theorem q175 : (Jvm.Cond.fieldLink "TwoGuilds" (227 : Nat) "TwoGuilds$Holder" "held" "Ljava/lang/Object;") ∈ lw_all := lw_g (lw_at lw_m1 104 rfl) rfl
theorem q180 : (Jvm.Cond.fieldLink "TwoGuilds" (72 : Nat) "TwoGuilds" "now" "LTwoGuilds$Table;") ∈ lw_all := lw_g (lw_at lw_m1 109 rfl) rfl
theorem q181 : (Jvm.Cond.fieldLink "TwoGuilds" (76 : Nat) "TwoGuilds" "spare" "LTwoGuilds$Table;") ∈ lw_all := lw_g (lw_at lw_m1 110 rfl) rfl
theorem q182 : (Jvm.Cond.fieldLink "TwoGuilds" (79 : Nat) "TwoGuilds" "image" "LTwoGuilds$Table;") ∈ lw_all := lw_g (lw_at lw_m1 111 rfl) rfl
theorem q183 : (Jvm.Cond.fieldLink "TwoGuilds" (503 : Nat) "TwoGuilds" "hasImage" "Z") ∈ lw_all := lw_g (lw_at lw_m1 112 rfl) rfl
theorem q184 : (Jvm.Cond.fieldLink "TwoGuilds" (82 : Nat) "TwoGuilds" "values" "[I") ∈ lw_all := lw_g (lw_at lw_m1 113 rfl) rfl
theorem q185 : (Jvm.Cond.fieldLink "TwoGuilds" (85 : Nat) "TwoGuilds" "bests" "[I") ∈ lw_all := lw_g (lw_at lw_m1 114 rfl) rfl
theorem q186 : (Jvm.Cond.fieldLink "TwoGuilds" (88 : Nat) "TwoGuilds" "partners" "[I") ∈ lw_all := lw_g (lw_at lw_m1 115 rfl) rfl
theorem q187 : (Jvm.Cond.fieldLink "TwoGuilds" (91 : Nat) "TwoGuilds" "gives" "[I") ∈ lw_all := lw_g (lw_at lw_m1 116 rfl) rfl
theorem q188 : (Jvm.Cond.fieldLink "TwoGuilds" (94 : Nat) "TwoGuilds" "join" "[I") ∈ lw_all := lw_g (lw_at lw_m1 117 rfl) rfl
theorem q189 : (Jvm.Cond.fieldLink "TwoGuilds" (280 : Nat) "TwoGuilds" "joinN" "I") ∈ lw_all := lw_g (lw_at lw_m1 118 rfl) rfl
theorem q191 : (Jvm.Cond.fieldLink "TwoGuilds" (50 : Nat) "TwoGuilds" "named" "[I") ∈ lw_all := lw_g (lw_at lw_m1 120 rfl) rfl
theorem q193 : (Jvm.Cond.fieldLink "TwoGuilds" (97 : Nat) "TwoGuilds" "tape" "[B") ∈ lw_all := lw_g (lw_at lw_m1 122 rfl) rfl
theorem q194 : (Jvm.Cond.fieldLink "TwoGuilds" (293 : Nat) "TwoGuilds" "taped" "I") ∈ lw_all := lw_g (lw_at lw_m1 123 rfl) rfl
theorem q195 : (Jvm.Cond.fieldLink "TwoGuilds" (296 : Nat) "TwoGuilds" "token" "I") ∈ lw_all := lw_g (lw_at lw_m1 124 rfl) rfl
theorem q196 : (Jvm.Cond.fieldLink "TwoGuilds" (305 : Nat) "TwoGuilds" "begin" "I") ∈ lw_all := lw_g (lw_at lw_m1 125 rfl) rfl
theorem q197 : (Jvm.Cond.fieldLink "TwoGuilds" (299 : Nat) "TwoGuilds" "behind" "I") ∈ lw_all := lw_g (lw_at lw_m1 126 rfl) rfl
theorem q198 : (Jvm.Cond.fieldLink "TwoGuilds" (314 : Nat) "TwoGuilds" "value" "I") ∈ lw_all := lw_g (lw_at lw_m1 127 rfl) rfl
theorem q199 : (Jvm.Cond.fieldLink "TwoGuilds" (385 : Nat) "TwoGuilds" "parens" "I") ∈ lw_all := lw_g (lw_at lw_m1 128 rfl) rfl
theorem q200 : (Jvm.Cond.fieldLink "TwoGuilds" (373 : Nat) "TwoGuilds" "nots" "I") ∈ lw_all := lw_g (lw_at lw_m1 129 rfl) rfl
theorem q201 : (Jvm.Cond.fieldLink "TwoGuilds" (362 : Nat) "TwoGuilds" "words" "I") ∈ lw_all := lw_g (lw_at lw_m1 130 rfl) rfl
theorem q202 : (Jvm.Cond.fieldLink "TwoGuilds" (356 : Nat) "TwoGuilds" "key" "I") ∈ lw_all := lw_g (lw_at lw_m1 131 rfl) rfl
theorem q203 : (Jvm.Cond.fieldLink "TwoGuilds" (103 : Nat) "TwoGuilds" "sheets" "[LTwoGuilds$Holder;") ∈ lw_all := lw_g (lw_at lw_m1 132 rfl) rfl
theorem q204 : (Jvm.Cond.fieldLink "TwoGuilds" (107 : Nat) "TwoGuilds" "slots" "[LTwoGuilds$Holder;") ∈ lw_all := lw_g (lw_at lw_m1 133 rfl) rfl
theorem q205 : (Jvm.Cond.fieldLink "TwoGuilds" (110 : Nat) "TwoGuilds" "waits" "[I") ∈ lw_all := lw_g (lw_at lw_m1 134 rfl) rfl
theorem q206 : (Jvm.Cond.fieldLink "TwoGuilds" (494 : Nat) "TwoGuilds" "waiting" "I") ∈ lw_all := lw_g (lw_at lw_m1 135 rfl) rfl
theorem q207 : (Jvm.Cond.fieldLink "TwoGuilds" (500 : Nat) "TwoGuilds" "asked" "I") ∈ lw_all := lw_g (lw_at lw_m1 136 rfl) rfl
theorem q208 : (Jvm.Cond.fieldLink "TwoGuilds" (497 : Nat) "TwoGuilds" "isLike" "Z") ∈ lw_all := lw_g (lw_at lw_m1 137 rfl) rfl
theorem q209 : (Jvm.Cond.lays "TwoGuilds" "TwoGuilds" "now" "LTwoGuilds$Table;") ∈ lw_all := lw_g (lw_at lw_m1 138 rfl) rfl
theorem q210 : (Jvm.Cond.soleField "TwoGuilds" "now") ∈ lw_all := lw_g (lw_at lw_m1 139 rfl) rfl
theorem q211 : (Jvm.Cond.laysFinal "TwoGuilds" "TwoGuilds" "spare" "LTwoGuilds$Table;") ∈ lw_all := lw_g (lw_at lw_m1 140 rfl) rfl
theorem q212 : (Jvm.Cond.soleField "TwoGuilds" "spare") ∈ lw_all := lw_g (lw_at lw_m1 141 rfl) rfl
theorem q213 : (Jvm.Cond.laysFinal "TwoGuilds" "TwoGuilds" "image" "LTwoGuilds$Table;") ∈ lw_all := lw_g (lw_at lw_m1 142 rfl) rfl
theorem q214 : (Jvm.Cond.soleField "TwoGuilds" "image") ∈ lw_all := lw_g (lw_at lw_m1 143 rfl) rfl
theorem q215 : (Jvm.Cond.lays "TwoGuilds" "TwoGuilds" "hasImage" "Z") ∈ lw_all := lw_g (lw_at lw_m1 144 rfl) rfl
theorem q216 : (Jvm.Cond.soleField "TwoGuilds" "hasImage") ∈ lw_all := lw_g (lw_at lw_m1 145 rfl) rfl
theorem q217 : (Jvm.Cond.laysFinal "TwoGuilds" "TwoGuilds" "values" "[I") ∈ lw_all := lw_g (lw_at lw_m1 146 rfl) rfl
theorem q218 : (Jvm.Cond.soleField "TwoGuilds" "values") ∈ lw_all := lw_g (lw_at lw_m1 147 rfl) rfl
theorem q219 : (Jvm.Cond.laysFinal "TwoGuilds" "TwoGuilds" "bests" "[I") ∈ lw_all := lw_g (lw_at lw_m1 148 rfl) rfl
theorem q220 : (Jvm.Cond.soleField "TwoGuilds" "bests") ∈ lw_all := lw_g (lw_at lw_m1 149 rfl) rfl
theorem q221 : (Jvm.Cond.laysFinal "TwoGuilds" "TwoGuilds" "partners" "[I") ∈ lw_all := lw_g (lw_at lw_m1 150 rfl) rfl
theorem q222 : (Jvm.Cond.soleField "TwoGuilds" "partners") ∈ lw_all := lw_g (lw_at lw_m1 151 rfl) rfl
theorem q223 : (Jvm.Cond.laysFinal "TwoGuilds" "TwoGuilds" "gives" "[I") ∈ lw_all := lw_g (lw_at lw_m1 152 rfl) rfl
theorem q224 : (Jvm.Cond.soleField "TwoGuilds" "gives") ∈ lw_all := lw_g (lw_at lw_m1 153 rfl) rfl
theorem q225 : (Jvm.Cond.laysFinal "TwoGuilds" "TwoGuilds" "join" "[I") ∈ lw_all := lw_g (lw_at lw_m1 154 rfl) rfl
theorem q226 : (Jvm.Cond.soleField "TwoGuilds" "join") ∈ lw_all := lw_g (lw_at lw_m1 155 rfl) rfl
theorem q227 : (Jvm.Cond.lays "TwoGuilds" "TwoGuilds" "joinN" "I") ∈ lw_all := lw_g (lw_at lw_m1 156 rfl) rfl
theorem q228 : (Jvm.Cond.soleField "TwoGuilds" "joinN") ∈ lw_all := lw_g (lw_at lw_m1 157 rfl) rfl
theorem q229 : (Jvm.Cond.laysFinal "TwoGuilds" "TwoGuilds" "named" "[I") ∈ lw_all := lw_g (lw_at lw_m1 158 rfl) rfl
theorem q230 : (Jvm.Cond.soleField "TwoGuilds" "named") ∈ lw_all := lw_g (lw_at lw_m1 159 rfl) rfl
theorem q231 : (Jvm.Cond.laysFinal "TwoGuilds" "TwoGuilds" "tape" "[B") ∈ lw_all := lw_g (lw_at lw_m1 160 rfl) rfl
theorem q232 : (Jvm.Cond.soleField "TwoGuilds" "tape") ∈ lw_all := lw_g (lw_at lw_m1 161 rfl) rfl
theorem q233 : (Jvm.Cond.lays "TwoGuilds" "TwoGuilds" "taped" "I") ∈ lw_all := lw_g (lw_at lw_m1 162 rfl) rfl
theorem q234 : (Jvm.Cond.soleField "TwoGuilds" "taped") ∈ lw_all := lw_g (lw_at lw_m1 163 rfl) rfl
theorem q235 : (Jvm.Cond.lays "TwoGuilds" "TwoGuilds" "token" "I") ∈ lw_all := lw_g (lw_at lw_m1 164 rfl) rfl
theorem q236 : (Jvm.Cond.soleField "TwoGuilds" "token") ∈ lw_all := lw_g (lw_at lw_m1 165 rfl) rfl
theorem q237 : (Jvm.Cond.lays "TwoGuilds" "TwoGuilds" "begin" "I") ∈ lw_all := lw_g (lw_at lw_m1 166 rfl) rfl
theorem q238 : (Jvm.Cond.soleField "TwoGuilds" "begin") ∈ lw_all := lw_g (lw_at lw_m1 167 rfl) rfl
theorem q239 : (Jvm.Cond.lays "TwoGuilds" "TwoGuilds" "behind" "I") ∈ lw_all := lw_g (lw_at lw_m1 168 rfl) rfl
theorem q240 : (Jvm.Cond.soleField "TwoGuilds" "behind") ∈ lw_all := lw_g (lw_at lw_m1 169 rfl) rfl
theorem q241 : (Jvm.Cond.lays "TwoGuilds" "TwoGuilds" "value" "I") ∈ lw_all := lw_g (lw_at lw_m1 170 rfl) rfl
theorem q242 : (Jvm.Cond.soleField "TwoGuilds" "value") ∈ lw_all := lw_g (lw_at lw_m1 171 rfl) rfl
theorem q243 : (Jvm.Cond.lays "TwoGuilds" "TwoGuilds" "parens" "I") ∈ lw_all := lw_g (lw_at lw_m1 172 rfl) rfl
theorem q244 : (Jvm.Cond.soleField "TwoGuilds" "parens") ∈ lw_all := lw_g (lw_at lw_m1 173 rfl) rfl
theorem q245 : (Jvm.Cond.lays "TwoGuilds" "TwoGuilds" "nots" "I") ∈ lw_all := lw_g (lw_at lw_m1 174 rfl) rfl
theorem q246 : (Jvm.Cond.soleField "TwoGuilds" "nots") ∈ lw_all := lw_g (lw_at lw_m1 175 rfl) rfl
theorem q247 : (Jvm.Cond.lays "TwoGuilds" "TwoGuilds" "words" "I") ∈ lw_all := lw_g (lw_at lw_m1 176 rfl) rfl
theorem q248 : (Jvm.Cond.soleField "TwoGuilds" "words") ∈ lw_all := lw_g (lw_at lw_m1 177 rfl) rfl
theorem q249 : (Jvm.Cond.lays "TwoGuilds" "TwoGuilds" "key" "I") ∈ lw_all := lw_g (lw_at lw_m1 178 rfl) rfl
theorem q250 : (Jvm.Cond.soleField "TwoGuilds" "key") ∈ lw_all := lw_g (lw_at lw_m1 179 rfl) rfl
theorem q251 : (Jvm.Cond.laysFinal "TwoGuilds" "TwoGuilds" "sheets" "[LTwoGuilds$Holder;") ∈ lw_all := lw_g (lw_at lw_m1 180 rfl) rfl
theorem q252 : (Jvm.Cond.soleField "TwoGuilds" "sheets") ∈ lw_all := lw_g (lw_at lw_m1 181 rfl) rfl
theorem q253 : (Jvm.Cond.laysFinal "TwoGuilds" "TwoGuilds" "slots" "[LTwoGuilds$Holder;") ∈ lw_all := lw_g (lw_at lw_m1 182 rfl) rfl
theorem q254 : (Jvm.Cond.soleField "TwoGuilds" "slots") ∈ lw_all := lw_g (lw_at lw_m1 183 rfl) rfl
theorem q255 : (Jvm.Cond.laysFinal "TwoGuilds" "TwoGuilds" "waits" "[I") ∈ lw_all := lw_g (lw_at lw_m1 184 rfl) rfl
theorem q256 : (Jvm.Cond.soleField "TwoGuilds" "waits") ∈ lw_all := lw_g (lw_at lw_m1 185 rfl) rfl
theorem q257 : (Jvm.Cond.lays "TwoGuilds" "TwoGuilds" "waiting" "I") ∈ lw_all := lw_g (lw_at lw_m1 186 rfl) rfl
theorem q258 : (Jvm.Cond.soleField "TwoGuilds" "waiting") ∈ lw_all := lw_g (lw_at lw_m1 187 rfl) rfl
theorem q259 : (Jvm.Cond.lays "TwoGuilds" "TwoGuilds" "asked" "I") ∈ lw_all := lw_g (lw_at lw_m1 188 rfl) rfl
theorem q260 : (Jvm.Cond.soleField "TwoGuilds" "asked") ∈ lw_all := lw_g (lw_at lw_m1 189 rfl) rfl
theorem q261 : (Jvm.Cond.lays "TwoGuilds" "TwoGuilds" "isLike" "Z") ∈ lw_all := lw_g (lw_at lw_m1 190 rfl) rfl
theorem q262 : (Jvm.Cond.soleField "TwoGuilds" "isLike") ∈ lw_all := lw_g (lw_at lw_m1 191 rfl) rfl
theorem q263 : (Jvm.Cond.superclass "TwoGuilds" "java/lang/Object") ∈ lw_all := lw_g (lw_at lw_m1 192 rfl) rfl
theorem q265 : (Jvm.Cond.instanceMethod ({ cls := "TwoGuilds", name := "glove", desc := "(IIII)I" } : Jvm.MethodName)) ∈ lw_all := lw_g (lw_at lw_m1 194 rfl) rfl
theorem q266 : (Jvm.Cond.selects "TwoGuilds" ({ cls := "TwoGuilds", name := "glove", desc := "(IIII)I" } : Jvm.MethodName) ({ cls := "TwoGuilds", name := "glove", desc := "(IIII)I" } : Jvm.MethodName)) ∈ lw_all := lw_g (lw_at lw_m1 195 rfl) rfl
theorem q267 : (Jvm.Cond.code ({ cls := "TwoGuilds", name := "glove", desc := "(IIII)I" } : Jvm.MethodName) prog_1_method_12_code (5 : Nat) (Option.some Jvm.ClassFile.FieldType.int)) ∈ lw_all := lw_g (lw_at lw_m1 196 rfl) rfl
theorem q268 : (Jvm.Cond.constantLong "TwoGuilds" (129 : Nat) (5 : Int64)) ∈ lw_all := lw_g (lw_at lw_m1 197 rfl) rfl
theorem q269 : (Jvm.Cond.methodLink "TwoGuilds" (121 : Nat) ({ cls := "TwoGuilds", name := "isIn", desc := "(JJJ)Z" } : Jvm.MethodName)) ∈ lw_all := lw_g (lw_at lw_m1 198 rfl) rfl
theorem q270 : (Jvm.Cond.static ({ cls := "TwoGuilds", name := "isIn", desc := "(JJJ)Z" } : Jvm.MethodName)) ∈ lw_all := lw_g (lw_at lw_m1 199 rfl) rfl
theorem q271 : (Jvm.Cond.code ({ cls := "TwoGuilds", name := "isIn", desc := "(JJJ)Z" } : Jvm.MethodName) prog_1_method_1_code (6 : Nat) (Option.some Jvm.ClassFile.FieldType.boolean)) ∈ lw_all := lw_g (lw_at lw_m1 200 rfl) rfl
theorem q272 : (Jvm.Cond.constantLong "TwoGuilds" (131 : Nat) (9 : Int64)) ∈ lw_all := lw_g (lw_at lw_m1 201 rfl) rfl
theorem q273 : (Jvm.Cond.constantLong "TwoGuilds" (133 : Nat) (99 : Int64)) ∈ lw_all := lw_g (lw_at lw_m1 202 rfl) rfl
theorem q274 : (Jvm.Cond.constant "TwoGuilds" (135 : Nat) (-1000000001 : Int32)) ∈ lw_all := lw_g (lw_at lw_m1 203 rfl) rfl
theorem q275 : (Jvm.Cond.constant "TwoGuilds" (136 : Nat) (-1000000003 : Int32)) ∈ lw_all := lw_g (lw_at lw_m1 204 rfl) rfl
theorem q276 : (Jvm.Cond.methodLink "TwoGuilds" (137 : Nat) ({ cls := "TwoGuilds", name := "comes", desc := "(IIII)V" } : Jvm.MethodName)) ∈ lw_all := lw_g (lw_at lw_m1 205 rfl) rfl
theorem q277 : (Jvm.Cond.privateMethod ({ cls := "TwoGuilds", name := "comes", desc := "(IIII)V" } : Jvm.MethodName)) ∈ lw_tbl := lw_at lw_m1 206 rfl
theorem q278 : (Jvm.Cond.instanceMethod ({ cls := "TwoGuilds", name := "comes", desc := "(IIII)V" } : Jvm.MethodName)) ∈ lw_all := lw_g (lw_at lw_m1 207 rfl) rfl
theorem q279 : (Jvm.Cond.code ({ cls := "TwoGuilds", name := "comes", desc := "(IIII)V" } : Jvm.MethodName) prog_1_method_13_code (6 : Nat) (Option.none : Option Jvm.ClassFile.FieldType)) ∈ lw_all := lw_g (lw_at lw_m1 208 rfl) rfl
theorem q280 : (Jvm.Cond.methodLink "TwoGuilds" (38 : Nat) ({ cls := "TwoGuilds", name := "made", desc := "(I)LTwoGuilds$Glove;" } : Jvm.MethodName)) ∈ lw_all := lw_g (lw_at lw_m1 209 rfl) rfl
theorem q281 : (Jvm.Cond.privateMethod ({ cls := "TwoGuilds", name := "made", desc := "(I)LTwoGuilds$Glove;" } : Jvm.MethodName)) ∈ lw_tbl := lw_at lw_m1 210 rfl
theorem q282 : (Jvm.Cond.instanceMethod ({ cls := "TwoGuilds", name := "made", desc := "(I)LTwoGuilds$Glove;" } : Jvm.MethodName)) ∈ lw_all := lw_g (lw_at lw_m1 211 rfl) rfl
theorem q283 : (Jvm.Cond.code ({ cls := "TwoGuilds", name := "made", desc := "(I)LTwoGuilds$Glove;" } : Jvm.MethodName) prog_1_method_5_code (2 : Nat) (Option.some (Jvm.ClassFile.FieldType.object "TwoGuilds$Glove"))) ∈ lw_all := lw_g (lw_at lw_m1 212 rfl) rfl
theorem q284 : (Jvm.Cond.classLink "TwoGuilds" (13 : Nat) "TwoGuilds$Glove") ∈ lw_all := lw_g (lw_at lw_m1 213 rfl) rfl
theorem q286 : (Jvm.Cond.methodLinkNest "TwoGuilds" (15 : Nat) ({ cls := "TwoGuilds$Glove", name := "<init>", desc := "(LTwoGuilds;)V" } : Jvm.MethodName) "TwoGuilds") ∈ lw_tbl := lw_at lw_m1 215 rfl
theorem q291 : (Jvm.Cond.fieldLink "TwoGuilds" (141 : Nat) "TwoGuilds$Glove" "side" "I") ∈ lw_all := lw_g (lw_at lw_m1 220 rfl) rfl
theorem q296 : (Jvm.Cond.fieldLink "TwoGuilds" (144 : Nat) "TwoGuilds$Glove" "size" "I") ∈ lw_all := lw_g (lw_at lw_m1 225 rfl) rfl
theorem q301 : (Jvm.Cond.fieldLink "TwoGuilds" (54 : Nat) "TwoGuilds$Glove" "price" "I") ∈ lw_all := lw_g (lw_at lw_m1 230 rfl) rfl
theorem q307 : (Jvm.Cond.fieldLink "TwoGuilds" (46 : Nat) "TwoGuilds$Glove" "wear" "I") ∈ lw_all := lw_g (lw_at lw_m1 236 rfl) rfl
theorem q310 : (Jvm.Cond.fieldLink "TwoGuilds" (151 : Nat) "TwoGuilds$Glove" "isLost" "Z") ∈ lw_all := lw_g (lw_at lw_m1 239 rfl) rfl
theorem q325 : (Jvm.Cond.classLink "TwoGuilds" (19 : Nat) "TwoGuilds$Lined") ∈ lw_all := lw_g (lw_at lw_m2 14 rfl) rfl
theorem q327 : (Jvm.Cond.methodLinkNest "TwoGuilds" (21 : Nat) ({ cls := "TwoGuilds$Lined", name := "<init>", desc := "(LTwoGuilds;)V" } : Jvm.MethodName) "TwoGuilds") ∈ lw_tbl := lw_at lw_m2 16 rfl
theorem q341 : (Jvm.Cond.classLink "TwoGuilds" (22 : Nat) "TwoGuilds$Loose") ∈ lw_all := lw_g (lw_at lw_m2 30 rfl) rfl
theorem q343 : (Jvm.Cond.methodLinkNest "TwoGuilds" (24 : Nat) ({ cls := "TwoGuilds$Loose", name := "<init>", desc := "(LTwoGuilds;)V" } : Jvm.MethodName) "TwoGuilds") ∈ lw_tbl := lw_at lw_m2 32 rfl
theorem q357 : (Jvm.Cond.classLink "TwoGuilds" (25 : Nat) "TwoGuilds$Furred") ∈ lw_all := lw_g (lw_at lw_m2 46 rfl) rfl
theorem q359 : (Jvm.Cond.methodLinkNest "TwoGuilds" (27 : Nat) ({ cls := "TwoGuilds$Furred", name := "<init>", desc := "(LTwoGuilds;)V" } : Jvm.MethodName) "TwoGuilds") ∈ lw_tbl := lw_at lw_m2 48 rfl
theorem q374 : (Jvm.Cond.classLink "TwoGuilds" (28 : Nat) "TwoGuilds$Forged") ∈ lw_all := lw_g (lw_at lw_m2 63 rfl) rfl
theorem q376 : (Jvm.Cond.methodLinkNest "TwoGuilds" (30 : Nat) ({ cls := "TwoGuilds$Forged", name := "<init>", desc := "(LTwoGuilds;)V" } : Jvm.MethodName) "TwoGuilds") ∈ lw_tbl := lw_at lw_m2 65 rfl
theorem q391 : (Jvm.Cond.classLink "TwoGuilds" (31 : Nat) "TwoGuilds$Mitten") ∈ lw_all := lw_g (lw_at lw_m2 80 rfl) rfl
theorem q393 : (Jvm.Cond.methodLinkNest "TwoGuilds" (33 : Nat) ({ cls := "TwoGuilds$Mitten", name := "<init>", desc := "(LTwoGuilds;)V" } : Jvm.MethodName) "TwoGuilds") ∈ lw_tbl := lw_at lw_m2 82 rfl
theorem q408 : (Jvm.Cond.instanceMethod ({ cls := "TwoGuilds", name := "told", desc := "(II)I" } : Jvm.MethodName)) ∈ lw_all := lw_g (lw_at lw_m2 97 rfl) rfl
theorem q409 : (Jvm.Cond.selects "TwoGuilds" ({ cls := "TwoGuilds", name := "told", desc := "(II)I" } : Jvm.MethodName) ({ cls := "TwoGuilds", name := "told", desc := "(II)I" } : Jvm.MethodName)) ∈ lw_all := lw_g (lw_at lw_m2 98 rfl) rfl
theorem q410 : (Jvm.Cond.code ({ cls := "TwoGuilds", name := "told", desc := "(II)I" } : Jvm.MethodName) prog_1_method_14_code (4 : Nat) (Option.some Jvm.ClassFile.FieldType.int)) ∈ lw_all := lw_g (lw_at lw_m2 99 rfl) rfl
theorem q411 : (Jvm.Cond.methodLink "TwoGuilds" (125 : Nat) ({ cls := "TwoGuilds", name := "isGlove", desc := "(I)Z" } : Jvm.MethodName)) ∈ lw_all := lw_g (lw_at lw_m2 100 rfl) rfl
theorem q412 : (Jvm.Cond.privateMethod ({ cls := "TwoGuilds", name := "isGlove", desc := "(I)Z" } : Jvm.MethodName)) ∈ lw_tbl := lw_at lw_m2 101 rfl
theorem q413 : (Jvm.Cond.instanceMethod ({ cls := "TwoGuilds", name := "isGlove", desc := "(I)Z" } : Jvm.MethodName)) ∈ lw_all := lw_g (lw_at lw_m2 102 rfl) rfl
theorem q414 : (Jvm.Cond.code ({ cls := "TwoGuilds", name := "isGlove", desc := "(I)Z" } : Jvm.MethodName) prog_1_method_10_code (2 : Nat) (Option.some Jvm.ClassFile.FieldType.boolean)) ∈ lw_all := lw_g (lw_at lw_m2 103 rfl) rfl
theorem q415 : (Jvm.Cond.methodLink "TwoGuilds" (34 : Nat) ({ cls := "TwoGuilds$Glove", name := "kind", desc := "()I" } : Jvm.MethodName)) ∈ lw_all := lw_g (lw_at lw_m2 104 rfl) rfl
theorem q440 : (Jvm.Cond.methodLink "TwoGuilds" (155 : Nat) ({ cls := "TwoGuilds", name := "asBit", desc := "(Z)I" } : Jvm.MethodName)) ∈ lw_all := lw_g (lw_at lw_m2 129 rfl) rfl
theorem q441 : (Jvm.Cond.static ({ cls := "TwoGuilds", name := "asBit", desc := "(Z)I" } : Jvm.MethodName)) ∈ lw_all := lw_g (lw_at lw_m2 130 rfl) rfl
theorem q442 : (Jvm.Cond.code ({ cls := "TwoGuilds", name := "asBit", desc := "(Z)I" } : Jvm.MethodName) prog_1_method_4_code (1 : Nat) (Option.some Jvm.ClassFile.FieldType.int)) ∈ lw_all := lw_g (lw_at lw_m2 131 rfl) rfl
theorem q443 : (Jvm.Cond.methodLink "TwoGuilds" (159 : Nat) ({ cls := "TwoGuilds$Glove", name := "worth", desc := "()I" } : Jvm.MethodName)) ∈ lw_all := lw_g (lw_at lw_m2 132 rfl) rfl
theorem q468 : (Jvm.Cond.instanceMethod ({ cls := "TwoGuilds", name := "as", desc := "(II)I" } : Jvm.MethodName)) ∈ lw_all := lw_g (lw_at lw_m2 157 rfl) rfl
theorem q469 : (Jvm.Cond.selects "TwoGuilds" ({ cls := "TwoGuilds", name := "as", desc := "(II)I" } : Jvm.MethodName) ({ cls := "TwoGuilds", name := "as", desc := "(II)I" } : Jvm.MethodName)) ∈ lw_all := lw_g (lw_at lw_m2 158 rfl) rfl
theorem q470 : (Jvm.Cond.codeWith ({ cls := "TwoGuilds", name := "as", desc := "(II)I" } : Jvm.MethodName) prog_1_method_16_code (4 : Nat) (Option.some Jvm.ClassFile.FieldType.int) [((23 : Nat), (39 : Nat), (40 : Nat), (166 : Nat))]) ∈ lw_all := lw_g (lw_at lw_m2 159 rfl) rfl
theorem q471 : (Jvm.Cond.classLink "TwoGuilds" (166 : Nat) "java/lang/ClassCastException") ∈ lw_all := lw_g (lw_at lw_m2 160 rfl) rfl
theorem q558 : (Jvm.Cond.methodLink "TwoGuilds" (162 : Nat) ({ cls := "TwoGuilds", name := "takenFor", desc := "(Ljava/lang/Object;I)LTwoGuilds$Glove;" } : Jvm.MethodName)) ∈ lw_all := lw_g (lw_at lw_m3 7 rfl) rfl
theorem q559 : (Jvm.Cond.static ({ cls := "TwoGuilds", name := "takenFor", desc := "(Ljava/lang/Object;I)LTwoGuilds$Glove;" } : Jvm.MethodName)) ∈ lw_all := lw_g (lw_at lw_m3 8 rfl) rfl
theorem q560 : (Jvm.Cond.code ({ cls := "TwoGuilds", name := "takenFor", desc := "(Ljava/lang/Object;I)LTwoGuilds$Glove;" } : Jvm.MethodName) prog_1_method_15_code (2 : Nat) (Option.some (Jvm.ClassFile.FieldType.object "TwoGuilds$Glove"))) ∈ lw_all := lw_g (lw_at lw_m3 9 rfl) rfl
theorem q561 : (Jvm.Cond.constant "TwoGuilds" (168 : Nat) (-1000000012 : Int32)) ∈ lw_all := lw_g (lw_at lw_m3 10 rfl) rfl
theorem q563 : (Jvm.Cond.instanceMethod ({ cls := "TwoGuilds", name := "turns", desc := "(II)I" } : Jvm.MethodName)) ∈ lw_all := lw_g (lw_at lw_m3 12 rfl) rfl
theorem q564 : (Jvm.Cond.selects "TwoGuilds" ({ cls := "TwoGuilds", name := "turns", desc := "(II)I" } : Jvm.MethodName) ({ cls := "TwoGuilds", name := "turns", desc := "(II)I" } : Jvm.MethodName)) ∈ lw_all := lw_g (lw_at lw_m3 13 rfl) rfl
theorem q565 : (Jvm.Cond.code ({ cls := "TwoGuilds", name := "turns", desc := "(II)I" } : Jvm.MethodName) prog_1_method_17_code (4 : Nat) (Option.some Jvm.ClassFile.FieldType.int)) ∈ lw_all := lw_g (lw_at lw_m3 14 rfl) rfl
theorem q566 : (Jvm.Cond.methodLink "TwoGuilds" (42 : Nat) ({ cls := "TwoGuilds$Glove", name := "like", desc := "(LTwoGuilds$Glove;)LTwoGuilds$Glove;" } : Jvm.MethodName)) ∈ lw_all := lw_g (lw_at lw_m3 15 rfl) rfl
theorem q577 : (Jvm.Cond.instanceMethod ({ cls := "TwoGuilds", name := "set", desc := "(III)I" } : Jvm.MethodName)) ∈ lw_all := lw_g (lw_at lw_m3 26 rfl) rfl
theorem q578 : (Jvm.Cond.selects "TwoGuilds" ({ cls := "TwoGuilds", name := "set", desc := "(III)I" } : Jvm.MethodName) ({ cls := "TwoGuilds", name := "set", desc := "(III)I" } : Jvm.MethodName)) ∈ lw_all := lw_g (lw_at lw_m3 27 rfl) rfl
theorem q579 : (Jvm.Cond.code ({ cls := "TwoGuilds", name := "set", desc := "(III)I" } : Jvm.MethodName) prog_1_method_18_code (6 : Nat) (Option.some Jvm.ClassFile.FieldType.int)) ∈ lw_all := lw_g (lw_at lw_m3 28 rfl) rfl
theorem q580 : (Jvm.Cond.methodLink "TwoGuilds" (169 : Nat) ({ cls := "TwoGuilds", name := "told", desc := "(II)I" } : Jvm.MethodName)) ∈ lw_all := lw_g (lw_at lw_m3 29 rfl) rfl
theorem q582 : (Jvm.Cond.instanceMethod ({ cls := "TwoGuilds", name := "fits", desc := "(II)I" } : Jvm.MethodName)) ∈ lw_all := lw_g (lw_at lw_m3 31 rfl) rfl
theorem q583 : (Jvm.Cond.selects "TwoGuilds" ({ cls := "TwoGuilds", name := "fits", desc := "(II)I" } : Jvm.MethodName) ({ cls := "TwoGuilds", name := "fits", desc := "(II)I" } : Jvm.MethodName)) ∈ lw_all := lw_g (lw_at lw_m3 32 rfl) rfl
theorem q584 : (Jvm.Cond.code ({ cls := "TwoGuilds", name := "fits", desc := "(II)I" } : Jvm.MethodName) prog_1_method_19_code (3 : Nat) (Option.some Jvm.ClassFile.FieldType.int)) ∈ lw_all := lw_g (lw_at lw_m3 33 rfl) rfl
theorem q585 : (Jvm.Cond.methodLink "TwoGuilds" (172 : Nat) ({ cls := "TwoGuilds", name := "areTwo", desc := "(II)Z" } : Jvm.MethodName)) ∈ lw_all := lw_g (lw_at lw_m3 34 rfl) rfl
theorem q586 : (Jvm.Cond.privateMethod ({ cls := "TwoGuilds", name := "areTwo", desc := "(II)Z" } : Jvm.MethodName)) ∈ lw_tbl := lw_at lw_m3 35 rfl
theorem q587 : (Jvm.Cond.instanceMethod ({ cls := "TwoGuilds", name := "areTwo", desc := "(II)Z" } : Jvm.MethodName)) ∈ lw_all := lw_g (lw_at lw_m3 36 rfl) rfl
theorem q588 : (Jvm.Cond.code ({ cls := "TwoGuilds", name := "areTwo", desc := "(II)Z" } : Jvm.MethodName) prog_1_method_11_code (3 : Nat) (Option.some Jvm.ClassFile.FieldType.boolean)) ∈ lw_all := lw_g (lw_at lw_m3 37 rfl) rfl
theorem q589 : (Jvm.Cond.methodLink "TwoGuilds" (176 : Nat) ({ cls := "TwoGuilds$Glove", name := "fits", desc := "(LTwoGuilds$Glove;)Z" } : Jvm.MethodName)) ∈ lw_all := lw_g (lw_at lw_m3 38 rfl) rfl
theorem q631 : (Jvm.Cond.instanceMethod ({ cls := "TwoGuilds", name := "value", desc := "(II)I" } : Jvm.MethodName)) ∈ lw_all := lw_g (lw_at lw_m3 80 rfl) rfl
theorem q632 : (Jvm.Cond.selects "TwoGuilds" ({ cls := "TwoGuilds", name := "value", desc := "(II)I" } : Jvm.MethodName) ({ cls := "TwoGuilds", name := "value", desc := "(II)I" } : Jvm.MethodName)) ∈ lw_all := lw_g (lw_at lw_m3 81 rfl) rfl
theorem q633 : (Jvm.Cond.code ({ cls := "TwoGuilds", name := "value", desc := "(II)I" } : Jvm.MethodName) prog_1_method_20_code (5 : Nat) (Option.some Jvm.ClassFile.FieldType.int)) ∈ lw_all := lw_g (lw_at lw_m3 82 rfl) rfl
theorem q634 : (Jvm.Cond.methodLink "TwoGuilds" (180 : Nat) ({ cls := "TwoGuilds$Glove", name := "pairs", desc := "(LTwoGuilds$Glove;)Z" } : Jvm.MethodName)) ∈ lw_all := lw_g (lw_at lw_m3 83 rfl) rfl
theorem q684 : (Jvm.Cond.methodLink "TwoGuilds" (183 : Nat) ({ cls := "TwoGuilds", name := "valueOf", desc := "(LTwoGuilds$Glove;LTwoGuilds$Glove;)I" } : Jvm.MethodName)) ∈ lw_all := lw_g (lw_at lw_m3 133 rfl) rfl
theorem q685 : (Jvm.Cond.privateMethod ({ cls := "TwoGuilds", name := "valueOf", desc := "(LTwoGuilds$Glove;LTwoGuilds$Glove;)I" } : Jvm.MethodName)) ∈ lw_tbl := lw_at lw_m3 134 rfl
theorem q686 : (Jvm.Cond.instanceMethod ({ cls := "TwoGuilds", name := "valueOf", desc := "(LTwoGuilds$Glove;LTwoGuilds$Glove;)I" } : Jvm.MethodName)) ∈ lw_all := lw_g (lw_at lw_m3 135 rfl) rfl
theorem q687 : (Jvm.Cond.code ({ cls := "TwoGuilds", name := "valueOf", desc := "(LTwoGuilds$Glove;LTwoGuilds$Glove;)I" } : Jvm.MethodName) prog_1_method_7_code (4 : Nat) (Option.some Jvm.ClassFile.FieldType.int)) ∈ lw_all := lw_g (lw_at lw_m3 136 rfl) rfl
theorem q688 : (Jvm.Cond.methodLink "TwoGuilds" (4 : Nat) ({ cls := "java/lang/Math", name := "min", desc := "(II)I" } : Jvm.MethodName)) ∈ lw_all := lw_g (lw_at lw_m3 137 rfl) rfl
theorem q691 : (Jvm.Cond.methodLink "TwoGuilds" (10 : Nat) ({ cls := "java/lang/Math", name := "max", desc := "(II)I" } : Jvm.MethodName)) ∈ lw_all := lw_g (lw_at lw_m3 140 rfl) rfl
theorem q694 : (Jvm.Cond.methodLink "TwoGuilds" (57 : Nat) ({ cls := "TwoGuilds", name := "ruled", desc := "(II)I" } : Jvm.MethodName)) ∈ lw_all := lw_g (lw_at lw_m3 143 rfl) rfl
theorem q695 : (Jvm.Cond.privateMethod ({ cls := "TwoGuilds", name := "ruled", desc := "(II)I" } : Jvm.MethodName)) ∈ lw_tbl := lw_at lw_m3 144 rfl
theorem q696 : (Jvm.Cond.instanceMethod ({ cls := "TwoGuilds", name := "ruled", desc := "(II)I" } : Jvm.MethodName)) ∈ lw_all := lw_g (lw_at lw_m3 145 rfl) rfl
theorem q697 : (Jvm.Cond.code ({ cls := "TwoGuilds", name := "ruled", desc := "(II)I" } : Jvm.MethodName) prog_1_method_65_code (4 : Nat) (Option.some Jvm.ClassFile.FieldType.int)) ∈ lw_all := lw_g (lw_at lw_m3 146 rfl) rfl
theorem q698 : (Jvm.Cond.methodLink "TwoGuilds" (421 : Nat) ({ cls := "TwoGuilds", name := "counts", desc := "(I)I" } : Jvm.MethodName)) ∈ lw_all := lw_g (lw_at lw_m3 147 rfl) rfl
theorem q699 : (Jvm.Cond.privateMethod ({ cls := "TwoGuilds", name := "counts", desc := "(I)I" } : Jvm.MethodName)) ∈ lw_tbl := lw_at lw_m3 148 rfl
theorem q700 : (Jvm.Cond.instanceMethod ({ cls := "TwoGuilds", name := "counts", desc := "(I)I" } : Jvm.MethodName)) ∈ lw_all := lw_g (lw_at lw_m3 149 rfl) rfl
theorem q701 : (Jvm.Cond.code ({ cls := "TwoGuilds", name := "counts", desc := "(I)I" } : Jvm.MethodName) prog_1_method_64_code (3 : Nat) (Option.some Jvm.ClassFile.FieldType.int)) ∈ lw_all := lw_g (lw_at lw_m3 150 rfl) rfl
theorem q702 : (Jvm.Cond.interfaceEntry "TwoGuilds" (428 : Nat)) ∈ lw_tbl := lw_at lw_m3 151 rfl
theorem q703 : (Jvm.Cond.methodLink "TwoGuilds" (428 : Nat) ({ cls := "TwoGuilds$Worth", name := "worth", desc := "()I" } : Jvm.MethodName)) ∈ lw_all := lw_g (lw_at lw_m3 152 rfl) rfl
theorem q737 : (Jvm.Cond.methodLink "TwoGuilds" (60 : Nat) ({ cls := "TwoGuilds", name := "heldIn", desc := "(III)I" } : Jvm.MethodName)) ∈ lw_all := lw_g (lw_at lw_m3 186 rfl) rfl
theorem q738 : (Jvm.Cond.static ({ cls := "TwoGuilds", name := "heldIn", desc := "(III)I" } : Jvm.MethodName)) ∈ lw_all := lw_g (lw_at lw_m3 187 rfl) rfl
theorem q739 : (Jvm.Cond.code ({ cls := "TwoGuilds", name := "heldIn", desc := "(III)I" } : Jvm.MethodName) prog_1_method_3_code (3 : Nat) (Option.some Jvm.ClassFile.FieldType.int)) ∈ lw_all := lw_g (lw_at lw_m3 188 rfl) rfl
theorem q740 : (Jvm.Cond.constant "TwoGuilds" (3 : Nat) (-1000000005 : Int32)) ∈ lw_all := lw_g (lw_at lw_m3 189 rfl) rfl
theorem q742 : (Jvm.Cond.instanceMethod ({ cls := "TwoGuilds", name := "deal", desc := "(I)I" } : Jvm.MethodName)) ∈ lw_all := lw_g (lw_at lw_m3 191 rfl) rfl
theorem q743 : (Jvm.Cond.selects "TwoGuilds" ({ cls := "TwoGuilds", name := "deal", desc := "(I)I" } : Jvm.MethodName) ({ cls := "TwoGuilds", name := "deal", desc := "(I)I" } : Jvm.MethodName)) ∈ lw_all := lw_g (lw_at lw_m3 192 rfl) rfl
theorem q744 : (Jvm.Cond.code ({ cls := "TwoGuilds", name := "deal", desc := "(I)I" } : Jvm.MethodName) prog_1_method_21_code (7 : Nat) (Option.some Jvm.ClassFile.FieldType.int)) ∈ lw_all := lw_g (lw_at lw_m3 193 rfl) rfl
theorem q745 : (Jvm.Cond.constantLong "TwoGuilds" (187 : Nat) (10 : Int64)) ∈ lw_all := lw_g (lw_at lw_m3 194 rfl) rfl
theorem q746 : (Jvm.Cond.methodLink "TwoGuilds" (189 : Nat) ({ cls := "TwoGuilds$Table", name := "drawn", desc := "()I" } : Jvm.MethodName)) ∈ lw_all := lw_g (lw_at lw_m3 195 rfl) rfl
theorem q752 : (Jvm.Cond.instanceMethod ({ cls := "TwoGuilds", name := "seed", desc := "(I)I" } : Jvm.MethodName)) ∈ lw_all := lw_g (lw_at lw_m3 201 rfl) rfl
theorem q753 : (Jvm.Cond.selects "TwoGuilds" ({ cls := "TwoGuilds", name := "seed", desc := "(I)I" } : Jvm.MethodName) ({ cls := "TwoGuilds", name := "seed", desc := "(I)I" } : Jvm.MethodName)) ∈ lw_all := lw_g (lw_at lw_m3 202 rfl) rfl
theorem q754 : (Jvm.Cond.code ({ cls := "TwoGuilds", name := "seed", desc := "(I)I" } : Jvm.MethodName) prog_1_method_22_code (3 : Nat) (Option.some Jvm.ClassFile.FieldType.int)) ∈ lw_all := lw_g (lw_at lw_m3 203 rfl) rfl
theorem q756 : (Jvm.Cond.instanceMethod ({ cls := "TwoGuilds", name := "best", desc := "(I)I" } : Jvm.MethodName)) ∈ lw_all := lw_g (lw_at lw_m3 205 rfl) rfl
theorem q757 : (Jvm.Cond.selects "TwoGuilds" ({ cls := "TwoGuilds", name := "best", desc := "(I)I" } : Jvm.MethodName) ({ cls := "TwoGuilds", name := "best", desc := "(I)I" } : Jvm.MethodName)) ∈ lw_all := lw_g (lw_at lw_m3 206 rfl) rfl
theorem q758 : (Jvm.Cond.code ({ cls := "TwoGuilds", name := "best", desc := "(I)I" } : Jvm.MethodName) prog_1_method_25_code (2 : Nat) (Option.some Jvm.ClassFile.FieldType.int)) ∈ lw_all := lw_g (lw_at lw_m3 207 rfl) rfl
theorem q759 : (Jvm.Cond.methodLink "TwoGuilds" (198 : Nat) ({ cls := "TwoGuilds$Table", name := "all", desc := "()I" } : Jvm.MethodName)) ∈ lw_all := lw_g (lw_at lw_m3 208 rfl) rfl
theorem q763 : (Jvm.Cond.methodLink "TwoGuilds" (207 : Nat) ({ cls := "TwoGuilds", name := "layBests", desc := "()V" } : Jvm.MethodName)) ∈ lw_all := lw_g (lw_at lw_m3 212 rfl) rfl
theorem q764 : (Jvm.Cond.privateMethod ({ cls := "TwoGuilds", name := "layBests", desc := "()V" } : Jvm.MethodName)) ∈ lw_tbl := lw_at lw_m3 213 rfl
theorem q765 : (Jvm.Cond.instanceMethod ({ cls := "TwoGuilds", name := "layBests", desc := "()V" } : Jvm.MethodName)) ∈ lw_all := lw_g (lw_at lw_m3 214 rfl) rfl
theorem q766 : (Jvm.Cond.code ({ cls := "TwoGuilds", name := "layBests", desc := "()V" } : Jvm.MethodName) prog_1_method_24_code (6 : Nat) (Option.none : Option Jvm.ClassFile.FieldType)) ∈ lw_all := lw_g (lw_at lw_m3 215 rfl) rfl
theorem q767 : (Jvm.Cond.methodLink "TwoGuilds" (195 : Nat) ({ cls := "TwoGuilds", name := "layValues", desc := "()V" } : Jvm.MethodName)) ∈ lw_all := lw_g (lw_at lw_m3 216 rfl) rfl
theorem q768 : (Jvm.Cond.privateMethod ({ cls := "TwoGuilds", name := "layValues", desc := "()V" } : Jvm.MethodName)) ∈ lw_tbl := lw_at lw_m3 217 rfl
theorem q769 : (Jvm.Cond.instanceMethod ({ cls := "TwoGuilds", name := "layValues", desc := "()V" } : Jvm.MethodName)) ∈ lw_all := lw_g (lw_at lw_m3 218 rfl) rfl
theorem q770 : (Jvm.Cond.code ({ cls := "TwoGuilds", name := "layValues", desc := "()V" } : Jvm.MethodName) prog_1_method_23_code (4 : Nat) (Option.none : Option Jvm.ClassFile.FieldType)) ∈ lw_all := lw_g (lw_at lw_m3 219 rfl) rfl
theorem q771 : (Jvm.Cond.methodLink "TwoGuilds" (201 : Nat) ({ cls := "java/lang/Integer", name := "numberOfTrailingZeros", desc := "(I)I" } : Jvm.MethodName)) ∈ lw_all := lw_g (lw_at lw_m3 220 rfl) rfl
theorem q776 : (Jvm.Cond.instanceMethod ({ cls := "TwoGuilds", name := "partner", desc := "(I)I" } : Jvm.MethodName)) ∈ lw_all := lw_g (lw_at lw_m3 225 rfl) rfl
theorem q777 : (Jvm.Cond.selects "TwoGuilds" ({ cls := "TwoGuilds", name := "partner", desc := "(I)I" } : Jvm.MethodName) ({ cls := "TwoGuilds", name := "partner", desc := "(I)I" } : Jvm.MethodName)) ∈ lw_all := lw_g (lw_at lw_m3 226 rfl) rfl
theorem q778 : (Jvm.Cond.code ({ cls := "TwoGuilds", name := "partner", desc := "(I)I" } : Jvm.MethodName) prog_1_method_27_code (5 : Nat) (Option.some Jvm.ClassFile.FieldType.int)) ∈ lw_all := lw_g (lw_at lw_m3 227 rfl) rfl
theorem q779 : (Jvm.Cond.methodLink "TwoGuilds" (210 : Nat) ({ cls := "TwoGuilds", name := "firstPartner", desc := "(I)I" } : Jvm.MethodName)) ∈ lw_all := lw_g (lw_at lw_m3 228 rfl) rfl
theorem q780 : (Jvm.Cond.privateMethod ({ cls := "TwoGuilds", name := "firstPartner", desc := "(I)I" } : Jvm.MethodName)) ∈ lw_tbl := lw_at lw_m3 229 rfl
theorem q781 : (Jvm.Cond.instanceMethod ({ cls := "TwoGuilds", name := "firstPartner", desc := "(I)I" } : Jvm.MethodName)) ∈ lw_all := lw_g (lw_at lw_m3 230 rfl) rfl
theorem q782 : (Jvm.Cond.code ({ cls := "TwoGuilds", name := "firstPartner", desc := "(I)I" } : Jvm.MethodName) prog_1_method_26_code (6 : Nat) (Option.some Jvm.ClassFile.FieldType.int)) ∈ lw_all := lw_g (lw_at lw_m3 231 rfl) rfl
theorem q783 : (Jvm.Cond.methodLink "TwoGuilds" (213 : Nat) ({ cls := "TwoGuilds", name := "orNone", desc := "(I)I" } : Jvm.MethodName)) ∈ lw_all := lw_g (lw_at lw_m3 232 rfl) rfl
theorem q784 : (Jvm.Cond.static ({ cls := "TwoGuilds", name := "orNone", desc := "(I)I" } : Jvm.MethodName)) ∈ lw_all := lw_g (lw_at lw_m3 233 rfl) rfl
theorem q785 : (Jvm.Cond.code ({ cls := "TwoGuilds", name := "orNone", desc := "(I)I" } : Jvm.MethodName) prog_1_method_2_code (1 : Nat) (Option.some Jvm.ClassFile.FieldType.int)) ∈ lw_all := lw_g (lw_at lw_m3 234 rfl) rfl
theorem q787 : (Jvm.Cond.instanceMethod ({ cls := "TwoGuilds", name := "adds", desc := "(I)I" } : Jvm.MethodName)) ∈ lw_all := lw_g (lw_at lw_m3 236 rfl) rfl
theorem q788 : (Jvm.Cond.selects "TwoGuilds" ({ cls := "TwoGuilds", name := "adds", desc := "(I)I" } : Jvm.MethodName) ({ cls := "TwoGuilds", name := "adds", desc := "(I)I" } : Jvm.MethodName)) ∈ lw_all := lw_g (lw_at lw_m3 237 rfl) rfl
theorem q789 : (Jvm.Cond.code ({ cls := "TwoGuilds", name := "adds", desc := "(I)I" } : Jvm.MethodName) prog_1_method_28_code (2 : Nat) (Option.some Jvm.ClassFile.FieldType.int)) ∈ lw_all := lw_g (lw_at lw_m3 238 rfl) rfl
theorem q791 : (Jvm.Cond.instanceMethod ({ cls := "TwoGuilds", name := "leaves", desc := "(I)I" } : Jvm.MethodName)) ∈ lw_all := lw_g (lw_at lw_m4 0 rfl) rfl
theorem q792 : (Jvm.Cond.selects "TwoGuilds" ({ cls := "TwoGuilds", name := "leaves", desc := "(I)I" } : Jvm.MethodName) ({ cls := "TwoGuilds", name := "leaves", desc := "(I)I" } : Jvm.MethodName)) ∈ lw_all := lw_g (lw_at lw_m4 1 rfl) rfl
theorem q793 : (Jvm.Cond.code ({ cls := "TwoGuilds", name := "leaves", desc := "(I)I" } : Jvm.MethodName) prog_1_method_31_code (6 : Nat) (Option.some Jvm.ClassFile.FieldType.int)) ∈ lw_all := lw_g (lw_at lw_m4 2 rfl) rfl
theorem q794 : (Jvm.Cond.methodLink "TwoGuilds" (224 : Nat) ({ cls := "TwoGuilds", name := "isSheet", desc := "(I)Z" } : Jvm.MethodName)) ∈ lw_all := lw_g (lw_at lw_m4 3 rfl) rfl
theorem q795 : (Jvm.Cond.static ({ cls := "TwoGuilds", name := "isSheet", desc := "(I)Z" } : Jvm.MethodName)) ∈ lw_all := lw_g (lw_at lw_m4 4 rfl) rfl
theorem q796 : (Jvm.Cond.code ({ cls := "TwoGuilds", name := "isSheet", desc := "(I)Z" } : Jvm.MethodName) prog_1_method_67_code (1 : Nat) (Option.some Jvm.ClassFile.FieldType.boolean)) ∈ lw_all := lw_g (lw_at lw_m4 5 rfl) rfl
theorem q797 : (Jvm.Cond.constantLong "TwoGuilds" (431 : Nat) (3 : Int64)) ∈ lw_all := lw_g (lw_at lw_m4 6 rfl) rfl
theorem q798 : (Jvm.Cond.constant "TwoGuilds" (231 : Nat) (-1000000011 : Int32)) ∈ lw_all := lw_g (lw_at lw_m4 7 rfl) rfl
theorem q799 : (Jvm.Cond.methodLink "TwoGuilds" (232 : Nat) ({ cls := "TwoGuilds", name := "toldBy", desc := "(Ljava/lang/Object;I)I" } : Jvm.MethodName)) ∈ lw_all := lw_g (lw_at lw_m4 8 rfl) rfl
theorem q800 : (Jvm.Cond.privateMethod ({ cls := "TwoGuilds", name := "toldBy", desc := "(Ljava/lang/Object;I)I" } : Jvm.MethodName)) ∈ lw_tbl := lw_at lw_m4 9 rfl
theorem q801 : (Jvm.Cond.instanceMethod ({ cls := "TwoGuilds", name := "toldBy", desc := "(Ljava/lang/Object;I)I" } : Jvm.MethodName)) ∈ lw_all := lw_g (lw_at lw_m4 10 rfl) rfl
theorem q802 : (Jvm.Cond.code ({ cls := "TwoGuilds", name := "toldBy", desc := "(Ljava/lang/Object;I)I" } : Jvm.MethodName) prog_1_method_29_code (3 : Nat) (Option.some Jvm.ClassFile.FieldType.int)) ∈ lw_all := lw_g (lw_at lw_m4 11 rfl) rfl
theorem q803 : (Jvm.Cond.methodLink "TwoGuilds" (216 : Nat) ({ cls := "TwoGuilds", name := "lengthOf", desc := "(Ljava/lang/Object;)I" } : Jvm.MethodName)) ∈ lw_all := lw_g (lw_at lw_m4 12 rfl) rfl
theorem q804 : (Jvm.Cond.static ({ cls := "TwoGuilds", name := "lengthOf", desc := "(Ljava/lang/Object;)I" } : Jvm.MethodName)) ∈ lw_all := lw_g (lw_at lw_m4 13 rfl) rfl
theorem q805 : (Jvm.Cond.code ({ cls := "TwoGuilds", name := "lengthOf", desc := "(Ljava/lang/Object;)I" } : Jvm.MethodName) prog_1_method_69_code (1 : Nat) (Option.some Jvm.ClassFile.FieldType.int)) ∈ lw_all := lw_g (lw_at lw_m4 14 rfl) rfl
theorem q806 : (Jvm.Cond.classLink "TwoGuilds" (433 : Nat) "[S") ∈ lw_all := lw_g (lw_at lw_m4 15 rfl) rfl
theorem q807 : (Jvm.Cond.classLink "TwoGuilds" (435 : Nat) "[F") ∈ lw_all := lw_g (lw_at lw_m4 16 rfl) rfl
theorem q808 : (Jvm.Cond.methodLink "TwoGuilds" (220 : Nat) ({ cls := "TwoGuilds", name := "numberAt", desc := "(Ljava/lang/Object;I)I" } : Jvm.MethodName)) ∈ lw_all := lw_g (lw_at lw_m4 17 rfl) rfl
theorem q809 : (Jvm.Cond.static ({ cls := "TwoGuilds", name := "numberAt", desc := "(Ljava/lang/Object;I)I" } : Jvm.MethodName)) ∈ lw_all := lw_g (lw_at lw_m4 18 rfl) rfl
theorem q810 : (Jvm.Cond.code ({ cls := "TwoGuilds", name := "numberAt", desc := "(Ljava/lang/Object;I)I" } : Jvm.MethodName) prog_1_method_70_code (3 : Nat) (Option.some Jvm.ClassFile.FieldType.int)) ∈ lw_all := lw_g (lw_at lw_m4 19 rfl) rfl
theorem q811 : (Jvm.Cond.methodLink "TwoGuilds" (235 : Nat) ({ cls := "TwoGuilds", name := "hasBy", desc := "(I)I" } : Jvm.MethodName)) ∈ lw_all := lw_g (lw_at lw_m4 20 rfl) rfl
theorem q812 : (Jvm.Cond.privateMethod ({ cls := "TwoGuilds", name := "hasBy", desc := "(I)I" } : Jvm.MethodName)) ∈ lw_tbl := lw_at lw_m4 21 rfl
theorem q813 : (Jvm.Cond.instanceMethod ({ cls := "TwoGuilds", name := "hasBy", desc := "(I)I" } : Jvm.MethodName)) ∈ lw_all := lw_g (lw_at lw_m4 22 rfl) rfl
theorem q814 : (Jvm.Cond.code ({ cls := "TwoGuilds", name := "hasBy", desc := "(I)I" } : Jvm.MethodName) prog_1_method_30_code (2 : Nat) (Option.some Jvm.ClassFile.FieldType.int)) ∈ lw_all := lw_g (lw_at lw_m4 23 rfl) rfl
theorem q816 : (Jvm.Cond.instanceMethod ({ cls := "TwoGuilds", name := "loss", desc := "(I)I" } : Jvm.MethodName)) ∈ lw_all := lw_g (lw_at lw_m4 25 rfl) rfl
theorem q817 : (Jvm.Cond.selects "TwoGuilds" ({ cls := "TwoGuilds", name := "loss", desc := "(I)I" } : Jvm.MethodName) ({ cls := "TwoGuilds", name := "loss", desc := "(I)I" } : Jvm.MethodName)) ∈ lw_all := lw_g (lw_at lw_m4 26 rfl) rfl
theorem q818 : (Jvm.Cond.code ({ cls := "TwoGuilds", name := "loss", desc := "(I)I" } : Jvm.MethodName) prog_1_method_32_code (3 : Nat) (Option.some Jvm.ClassFile.FieldType.int)) ∈ lw_all := lw_g (lw_at lw_m4 27 rfl) rfl
theorem q819 : (Jvm.Cond.constantLong "TwoGuilds" (238 : Nat) (100 : Int64)) ∈ lw_all := lw_g (lw_at lw_m4 28 rfl) rfl
theorem q821 : (Jvm.Cond.instanceMethod ({ cls := "TwoGuilds", name := "days", desc := "(I)I" } : Jvm.MethodName)) ∈ lw_all := lw_g (lw_at lw_m4 30 rfl) rfl
theorem q822 : (Jvm.Cond.selects "TwoGuilds" ({ cls := "TwoGuilds", name := "days", desc := "(I)I" } : Jvm.MethodName) ({ cls := "TwoGuilds", name := "days", desc := "(I)I" } : Jvm.MethodName)) ∈ lw_all := lw_g (lw_at lw_m4 31 rfl) rfl
theorem q823 : (Jvm.Cond.code ({ cls := "TwoGuilds", name := "days", desc := "(I)I" } : Jvm.MethodName) prog_1_method_33_code (4 : Nat) (Option.some Jvm.ClassFile.FieldType.int)) ∈ lw_all := lw_g (lw_at lw_m4 32 rfl) rfl
theorem q824 : (Jvm.Cond.methodLink "TwoGuilds" (243 : Nat) ({ cls := "TwoGuilds$Table", name := "lost", desc := "()I" } : Jvm.MethodName)) ∈ lw_all := lw_g (lw_at lw_m4 33 rfl) rfl
theorem q829 : (Jvm.Cond.methodLink "TwoGuilds" (249 : Nat) ({ cls := "TwoGuilds$Table", name := "goesOn", desc := "(I)V" } : Jvm.MethodName)) ∈ lw_all := lw_g (lw_at lw_m4 38 rfl) rfl
theorem q848 : (Jvm.Cond.instanceMethod ({ cls := "TwoGuilds", name := "behind", desc := "(II)I" } : Jvm.MethodName)) ∈ lw_all := lw_g (lw_at lw_m4 57 rfl) rfl
theorem q849 : (Jvm.Cond.selects "TwoGuilds" ({ cls := "TwoGuilds", name := "behind", desc := "(II)I" } : Jvm.MethodName) ({ cls := "TwoGuilds", name := "behind", desc := "(II)I" } : Jvm.MethodName)) ∈ lw_all := lw_g (lw_at lw_m4 58 rfl) rfl
theorem q850 : (Jvm.Cond.codeWith ({ cls := "TwoGuilds", name := "behind", desc := "(II)I" } : Jvm.MethodName) prog_1_method_34_code (6 : Nat) (Option.some Jvm.ClassFile.FieldType.int) [((32 : Nat), (88 : Nat), (96 : Nat), (0 : Nat)), ((96 : Nat), (98 : Nat), (96 : Nat), (0 : Nat))]) ∈ lw_all := lw_g (lw_at lw_m4 59 rfl) rfl
theorem q851 : (Jvm.Cond.constantLong "TwoGuilds" (253 : Nat) (2 : Int64)) ∈ lw_all := lw_g (lw_at lw_m4 60 rfl) rfl
theorem q852 : (Jvm.Cond.methodLink "TwoGuilds" (255 : Nat) ({ cls := "TwoGuilds", name := "thinks", desc := "(LTwoGuilds$Table;)V" } : Jvm.MethodName)) ∈ lw_all := lw_g (lw_at lw_m4 61 rfl) rfl
theorem q853 : (Jvm.Cond.privateMethod ({ cls := "TwoGuilds", name := "thinks", desc := "(LTwoGuilds$Table;)V" } : Jvm.MethodName)) ∈ lw_tbl := lw_at lw_m4 62 rfl
theorem q854 : (Jvm.Cond.instanceMethod ({ cls := "TwoGuilds", name := "thinks", desc := "(LTwoGuilds$Table;)V" } : Jvm.MethodName)) ∈ lw_all := lw_g (lw_at lw_m4 63 rfl) rfl
theorem q855 : (Jvm.Cond.code ({ cls := "TwoGuilds", name := "thinks", desc := "(LTwoGuilds$Table;)V" } : Jvm.MethodName) prog_1_method_9_code (2 : Nat) (Option.none : Option Jvm.ClassFile.FieldType)) ∈ lw_all := lw_g (lw_at lw_m4 64 rfl) rfl
theorem q856 : (Jvm.Cond.methodLink "TwoGuilds" (114 : Nat) ({ cls := "TwoGuilds$Table", name := "become", desc := "(LTwoGuilds$Table;)V" } : Jvm.MethodName)) ∈ lw_all := lw_g (lw_at lw_m4 65 rfl) rfl
theorem q866 : (Jvm.Cond.privateMethod ({ cls := "TwoGuilds", name := "anew", desc := "(LTwoGuilds$Glove;)LTwoGuilds$Glove;" } : Jvm.MethodName)) ∈ lw_tbl := lw_at lw_m4 75 rfl
theorem q867 : (Jvm.Cond.instanceMethod ({ cls := "TwoGuilds", name := "anew", desc := "(LTwoGuilds$Glove;)LTwoGuilds$Glove;" } : Jvm.MethodName)) ∈ lw_all := lw_g (lw_at lw_m4 76 rfl) rfl
theorem q868 : (Jvm.Cond.code ({ cls := "TwoGuilds", name := "anew", desc := "(LTwoGuilds$Glove;)LTwoGuilds$Glove;" } : Jvm.MethodName) prog_1_method_6_code (2 : Nat) (Option.some (Jvm.ClassFile.FieldType.object "TwoGuilds$Glove"))) ∈ lw_all := lw_g (lw_at lw_m4 77 rfl) rfl
theorem q869 : (Jvm.Cond.methodLink "TwoGuilds" (258 : Nat) ({ cls := "TwoGuilds$Table", name := "goesOn", desc := "(II)V" } : Jvm.MethodName)) ∈ lw_all := lw_g (lw_at lw_m4 78 rfl) rfl
theorem q874 : (Jvm.Cond.methodLink "TwoGuilds" (261 : Nat) ({ cls := "TwoGuilds", name := "best", desc := "(I)I" } : Jvm.MethodName)) ∈ lw_all := lw_g (lw_at lw_m4 83 rfl) rfl
theorem q875 : (Jvm.Cond.methodLink "TwoGuilds" (264 : Nat) ({ cls := "TwoGuilds$Table", name := "allWear", desc := "()I" } : Jvm.MethodName)) ∈ lw_all := lw_g (lw_at lw_m4 84 rfl) rfl
theorem q880 : (Jvm.Cond.instanceMethod ({ cls := "TwoGuilds", name := "keepHome", desc := "(I)I" } : Jvm.MethodName)) ∈ lw_all := lw_g (lw_at lw_m4 89 rfl) rfl
theorem q881 : (Jvm.Cond.selects "TwoGuilds" ({ cls := "TwoGuilds", name := "keepHome", desc := "(I)I" } : Jvm.MethodName) ({ cls := "TwoGuilds", name := "keepHome", desc := "(I)I" } : Jvm.MethodName)) ∈ lw_all := lw_g (lw_at lw_m4 90 rfl) rfl
theorem q882 : (Jvm.Cond.codeWith ({ cls := "TwoGuilds", name := "keepHome", desc := "(I)I" } : Jvm.MethodName) prog_1_method_35_code (8 : Nat) (Option.some Jvm.ClassFile.FieldType.int) [((20 : Nat), (95 : Nat), (103 : Nat), (0 : Nat)), ((103 : Nat), (105 : Nat), (103 : Nat), (0 : Nat))]) ∈ lw_all := lw_g (lw_at lw_m4 91 rfl) rfl
theorem q883 : (Jvm.Cond.constantLong "TwoGuilds" (267 : Nat) (30 : Int64)) ∈ lw_all := lw_g (lw_at lw_m4 92 rfl) rfl
theorem q885 : (Jvm.Cond.instanceMethod ({ cls := "TwoGuilds", name := "fine", desc := "()I" } : Jvm.MethodName)) ∈ lw_all := lw_g (lw_at lw_m4 94 rfl) rfl
theorem q886 : (Jvm.Cond.selects "TwoGuilds" ({ cls := "TwoGuilds", name := "fine", desc := "()I" } : Jvm.MethodName) ({ cls := "TwoGuilds", name := "fine", desc := "()I" } : Jvm.MethodName)) ∈ lw_all := lw_g (lw_at lw_m4 95 rfl) rfl
theorem q887 : (Jvm.Cond.code ({ cls := "TwoGuilds", name := "fine", desc := "()I" } : Jvm.MethodName) prog_1_method_36_code (1 : Nat) (Option.some Jvm.ClassFile.FieldType.int)) ∈ lw_all := lw_g (lw_at lw_m4 96 rfl) rfl
theorem q889 : (Jvm.Cond.instanceMethod ({ cls := "TwoGuilds", name := "worn", desc := "(II)I" } : Jvm.MethodName)) ∈ lw_all := lw_g (lw_at lw_m4 98 rfl) rfl
theorem q890 : (Jvm.Cond.selects "TwoGuilds" ({ cls := "TwoGuilds", name := "worn", desc := "(II)I" } : Jvm.MethodName) ({ cls := "TwoGuilds", name := "worn", desc := "(II)I" } : Jvm.MethodName)) ∈ lw_all := lw_g (lw_at lw_m4 99 rfl) rfl
theorem q891 : (Jvm.Cond.code ({ cls := "TwoGuilds", name := "worn", desc := "(II)I" } : Jvm.MethodName) prog_1_method_37_code (3 : Nat) (Option.some Jvm.ClassFile.FieldType.int)) ∈ lw_all := lw_g (lw_at lw_m4 100 rfl) rfl
theorem q892 : (Jvm.Cond.constantLong "TwoGuilds" (269 : Nat) (4 : Int64)) ∈ lw_all := lw_g (lw_at lw_m4 101 rfl) rfl
theorem q894 : (Jvm.Cond.instanceMethod ({ cls := "TwoGuilds", name := "forget", desc := "()I" } : Jvm.MethodName)) ∈ lw_all := lw_g (lw_at lw_m4 103 rfl) rfl
theorem q895 : (Jvm.Cond.selects "TwoGuilds" ({ cls := "TwoGuilds", name := "forget", desc := "()I" } : Jvm.MethodName) ({ cls := "TwoGuilds", name := "forget", desc := "()I" } : Jvm.MethodName)) ∈ lw_all := lw_g (lw_at lw_m4 104 rfl) rfl
theorem q896 : (Jvm.Cond.code ({ cls := "TwoGuilds", name := "forget", desc := "()I" } : Jvm.MethodName) prog_1_method_38_code (2 : Nat) (Option.some Jvm.ClassFile.FieldType.int)) ∈ lw_all := lw_g (lw_at lw_m4 105 rfl) rfl
theorem q898 : (Jvm.Cond.instanceMethod ({ cls := "TwoGuilds", name := "joins", desc := "()I" } : Jvm.MethodName)) ∈ lw_all := lw_g (lw_at lw_m4 107 rfl) rfl
theorem q899 : (Jvm.Cond.selects "TwoGuilds" ({ cls := "TwoGuilds", name := "joins", desc := "()I" } : Jvm.MethodName) ({ cls := "TwoGuilds", name := "joins", desc := "()I" } : Jvm.MethodName)) ∈ lw_all := lw_g (lw_at lw_m4 108 rfl) rfl
theorem q900 : (Jvm.Cond.code ({ cls := "TwoGuilds", name := "joins", desc := "()I" } : Jvm.MethodName) prog_1_method_42_code (1 : Nat) (Option.some Jvm.ClassFile.FieldType.int)) ∈ lw_all := lw_g (lw_at lw_m4 109 rfl) rfl
theorem q901 : (Jvm.Cond.methodLink "TwoGuilds" (290 : Nat) ({ cls := "TwoGuilds", name := "layJoins", desc := "()V" } : Jvm.MethodName)) ∈ lw_all := lw_g (lw_at lw_m4 110 rfl) rfl
theorem q902 : (Jvm.Cond.privateMethod ({ cls := "TwoGuilds", name := "layJoins", desc := "()V" } : Jvm.MethodName)) ∈ lw_tbl := lw_at lw_m4 111 rfl
theorem q903 : (Jvm.Cond.instanceMethod ({ cls := "TwoGuilds", name := "layJoins", desc := "()V" } : Jvm.MethodName)) ∈ lw_all := lw_g (lw_at lw_m4 112 rfl) rfl
theorem q904 : (Jvm.Cond.code ({ cls := "TwoGuilds", name := "layJoins", desc := "()V" } : Jvm.MethodName) prog_1_method_41_code (3 : Nat) (Option.none : Option Jvm.ClassFile.FieldType)) ∈ lw_all := lw_g (lw_at lw_m4 113 rfl) rfl
theorem q905 : (Jvm.Cond.methodLink "TwoGuilds" (283 : Nat) ({ cls := "TwoGuilds", name := "isJoin", desc := "(I)Z" } : Jvm.MethodName)) ∈ lw_all := lw_g (lw_at lw_m4 114 rfl) rfl
theorem q906 : (Jvm.Cond.privateMethod ({ cls := "TwoGuilds", name := "isJoin", desc := "(I)Z" } : Jvm.MethodName)) ∈ lw_tbl := lw_at lw_m4 115 rfl
theorem q907 : (Jvm.Cond.instanceMethod ({ cls := "TwoGuilds", name := "isJoin", desc := "(I)Z" } : Jvm.MethodName)) ∈ lw_all := lw_g (lw_at lw_m4 116 rfl) rfl
theorem q908 : (Jvm.Cond.code ({ cls := "TwoGuilds", name := "isJoin", desc := "(I)Z" } : Jvm.MethodName) prog_1_method_40_code (5 : Nat) (Option.some Jvm.ClassFile.FieldType.boolean)) ∈ lw_all := lw_g (lw_at lw_m4 117 rfl) rfl
theorem q909 : (Jvm.Cond.methodLink "TwoGuilds" (286 : Nat) ({ cls := "TwoGuilds", name := "holds", desc := "()Z" } : Jvm.MethodName)) ∈ lw_all := lw_g (lw_at lw_m4 118 rfl) rfl
theorem q910 : (Jvm.Cond.privateMethod ({ cls := "TwoGuilds", name := "holds", desc := "()Z" } : Jvm.MethodName)) ∈ lw_tbl := lw_at lw_m4 119 rfl
theorem q911 : (Jvm.Cond.instanceMethod ({ cls := "TwoGuilds", name := "holds", desc := "()Z" } : Jvm.MethodName)) ∈ lw_all := lw_g (lw_at lw_m4 120 rfl) rfl
theorem q912 : (Jvm.Cond.code ({ cls := "TwoGuilds", name := "holds", desc := "()Z" } : Jvm.MethodName) prog_1_method_39_code (2 : Nat) (Option.some Jvm.ClassFile.FieldType.boolean)) ∈ lw_all := lw_g (lw_at lw_m4 121 rfl) rfl
theorem q914 : (Jvm.Cond.instanceMethod ({ cls := "TwoGuilds", name := "sure", desc := "(I)I" } : Jvm.MethodName)) ∈ lw_all := lw_g (lw_at lw_m4 123 rfl) rfl
theorem q915 : (Jvm.Cond.selects "TwoGuilds" ({ cls := "TwoGuilds", name := "sure", desc := "(I)I" } : Jvm.MethodName) ({ cls := "TwoGuilds", name := "sure", desc := "(I)I" } : Jvm.MethodName)) ∈ lw_all := lw_g (lw_at lw_m4 124 rfl) rfl
theorem q916 : (Jvm.Cond.code ({ cls := "TwoGuilds", name := "sure", desc := "(I)I" } : Jvm.MethodName) prog_1_method_43_code (3 : Nat) (Option.some Jvm.ClassFile.FieldType.int)) ∈ lw_all := lw_g (lw_at lw_m4 125 rfl) rfl
theorem q918 : (Jvm.Cond.instanceMethod ({ cls := "TwoGuilds", name := "better", desc := "(I)I" } : Jvm.MethodName)) ∈ lw_all := lw_g (lw_at lw_m4 127 rfl) rfl
theorem q919 : (Jvm.Cond.selects "TwoGuilds" ({ cls := "TwoGuilds", name := "better", desc := "(I)I" } : Jvm.MethodName) ({ cls := "TwoGuilds", name := "better", desc := "(I)I" } : Jvm.MethodName)) ∈ lw_all := lw_g (lw_at lw_m4 128 rfl) rfl
theorem q920 : (Jvm.Cond.code ({ cls := "TwoGuilds", name := "better", desc := "(I)I" } : Jvm.MethodName) prog_1_method_44_code (7 : Nat) (Option.some Jvm.ClassFile.FieldType.int)) ∈ lw_all := lw_g (lw_at lw_m4 129 rfl) rfl
theorem q922 : (Jvm.Cond.instanceMethod ({ cls := "TwoGuilds", name := "feed", desc := "(III)I" } : Jvm.MethodName)) ∈ lw_all := lw_g (lw_at lw_m4 131 rfl) rfl
theorem q923 : (Jvm.Cond.selects "TwoGuilds" ({ cls := "TwoGuilds", name := "feed", desc := "(III)I" } : Jvm.MethodName) ({ cls := "TwoGuilds", name := "feed", desc := "(III)I" } : Jvm.MethodName)) ∈ lw_all := lw_g (lw_at lw_m4 132 rfl) rfl
theorem q924 : (Jvm.Cond.code ({ cls := "TwoGuilds", name := "feed", desc := "(III)I" } : Jvm.MethodName) prog_1_method_60_code (6 : Nat) (Option.some Jvm.ClassFile.FieldType.int)) ∈ lw_all := lw_g (lw_at lw_m4 133 rfl) rfl
theorem q926 : (Jvm.Cond.instanceMethod ({ cls := "TwoGuilds", name := "trim", desc := "(I)I" } : Jvm.MethodName)) ∈ lw_all := lw_g (lw_at lw_m4 135 rfl) rfl
theorem q927 : (Jvm.Cond.selects "TwoGuilds" ({ cls := "TwoGuilds", name := "trim", desc := "(I)I" } : Jvm.MethodName) ({ cls := "TwoGuilds", name := "trim", desc := "(I)I" } : Jvm.MethodName)) ∈ lw_all := lw_g (lw_at lw_m4 136 rfl) rfl
theorem q928 : (Jvm.Cond.code ({ cls := "TwoGuilds", name := "trim", desc := "(I)I" } : Jvm.MethodName) prog_1_method_61_code (2 : Nat) (Option.some Jvm.ClassFile.FieldType.int)) ∈ lw_all := lw_g (lw_at lw_m4 137 rfl) rfl
theorem q930 : (Jvm.Cond.instanceMethod ({ cls := "TwoGuilds", name := "text", desc := "()I" } : Jvm.MethodName)) ∈ lw_all := lw_g (lw_at lw_m4 139 rfl) rfl
theorem q931 : (Jvm.Cond.selects "TwoGuilds" ({ cls := "TwoGuilds", name := "text", desc := "()I" } : Jvm.MethodName) ({ cls := "TwoGuilds", name := "text", desc := "()I" } : Jvm.MethodName)) ∈ lw_all := lw_g (lw_at lw_m4 140 rfl) rfl
theorem q932 : (Jvm.Cond.codeWith ({ cls := "TwoGuilds", name := "text", desc := "()I" } : Jvm.MethodName) prog_1_method_62_code (4 : Nat) (Option.some Jvm.ClassFile.FieldType.int) [((0 : Nat), (20 : Nat), (73 : Nat), (326 : Nat)), ((27 : Nat), (66 : Nat), (73 : Nat), (326 : Nat)), ((0 : Nat), (20 : Nat), (89 : Nat), (0 : Nat)), ((27 : Nat), (66 : Nat), (89 : Nat), (0 : Nat)), ((73 : Nat), (82 : Nat), (89 : Nat), (0 : Nat))]) ∈ lw_all := lw_g (lw_at lw_m4 141 rfl) rfl
theorem q933 : (Jvm.Cond.classLink "TwoGuilds" (326 : Nat) "TwoGuilds$Faulty") ∈ lw_all := lw_g (lw_at lw_m4 142 rfl) rfl
theorem q934 : (Jvm.Cond.methodLink "TwoGuilds" (405 : Nat) ({ cls := "TwoGuilds", name := "readText", desc := "()LTwoGuilds$Text;" } : Jvm.MethodName)) ∈ lw_all := lw_g (lw_at lw_m4 143 rfl) rfl
theorem q935 : (Jvm.Cond.privateMethod ({ cls := "TwoGuilds", name := "readText", desc := "()LTwoGuilds$Text;" } : Jvm.MethodName)) ∈ lw_tbl := lw_at lw_m4 144 rfl
theorem q936 : (Jvm.Cond.instanceMethod ({ cls := "TwoGuilds", name := "readText", desc := "()LTwoGuilds$Text;" } : Jvm.MethodName)) ∈ lw_all := lw_g (lw_at lw_m4 145 rfl) rfl
theorem q937 : (Jvm.Cond.code ({ cls := "TwoGuilds", name := "readText", desc := "()LTwoGuilds$Text;" } : Jvm.MethodName) prog_1_method_59_code (2 : Nat) (Option.some (Jvm.ClassFile.FieldType.object "TwoGuilds$Text"))) ∈ lw_all := lw_g (lw_at lw_m4 146 rfl) rfl
theorem q938 : (Jvm.Cond.methodLink "TwoGuilds" (337 : Nat) ({ cls := "TwoGuilds", name := "goesOn", desc := "()V" } : Jvm.MethodName)) ∈ lw_all := lw_g (lw_at lw_m4 147 rfl) rfl
theorem q939 : (Jvm.Cond.privateMethod ({ cls := "TwoGuilds", name := "goesOn", desc := "()V" } : Jvm.MethodName)) ∈ lw_tbl := lw_at lw_m4 148 rfl
theorem q940 : (Jvm.Cond.instanceMethod ({ cls := "TwoGuilds", name := "goesOn", desc := "()V" } : Jvm.MethodName)) ∈ lw_all := lw_g (lw_at lw_m4 149 rfl) rfl
theorem q941 : (Jvm.Cond.code ({ cls := "TwoGuilds", name := "goesOn", desc := "()V" } : Jvm.MethodName) prog_1_method_48_code (5 : Nat) (Option.none : Option Jvm.ClassFile.FieldType)) ∈ lw_all := lw_g (lw_at lw_m4 150 rfl) rfl
theorem q942 : (Jvm.Cond.methodLink "TwoGuilds" (302 : Nat) ({ cls := "TwoGuilds", name := "byteAt", desc := "(I)I" } : Jvm.MethodName)) ∈ lw_all := lw_g (lw_at lw_m4 151 rfl) rfl
theorem q943 : (Jvm.Cond.privateMethod ({ cls := "TwoGuilds", name := "byteAt", desc := "(I)I" } : Jvm.MethodName)) ∈ lw_tbl := lw_at lw_m4 152 rfl
theorem q944 : (Jvm.Cond.instanceMethod ({ cls := "TwoGuilds", name := "byteAt", desc := "(I)I" } : Jvm.MethodName)) ∈ lw_all := lw_g (lw_at lw_m4 153 rfl) rfl
theorem q945 : (Jvm.Cond.code ({ cls := "TwoGuilds", name := "byteAt", desc := "(I)I" } : Jvm.MethodName) prog_1_method_47_code (2 : Nat) (Option.some Jvm.ClassFile.FieldType.int)) ∈ lw_all := lw_g (lw_at lw_m4 154 rfl) rfl
theorem q946 : (Jvm.Cond.methodLink "TwoGuilds" (308 : Nat) ({ cls := "TwoGuilds", name := "isLetter", desc := "(I)Z" } : Jvm.MethodName)) ∈ lw_all := lw_g (lw_at lw_m4 155 rfl) rfl
theorem q947 : (Jvm.Cond.static ({ cls := "TwoGuilds", name := "isLetter", desc := "(I)Z" } : Jvm.MethodName)) ∈ lw_all := lw_g (lw_at lw_m4 156 rfl) rfl
theorem q948 : (Jvm.Cond.code ({ cls := "TwoGuilds", name := "isLetter", desc := "(I)Z" } : Jvm.MethodName) prog_1_method_45_code (1 : Nat) (Option.some Jvm.ClassFile.FieldType.boolean)) ∈ lw_all := lw_g (lw_at lw_m4 157 rfl) rfl
theorem q949 : (Jvm.Cond.methodLink "TwoGuilds" (311 : Nat) ({ cls := "TwoGuilds", name := "isDigit", desc := "(I)Z" } : Jvm.MethodName)) ∈ lw_all := lw_g (lw_at lw_m4 158 rfl) rfl
theorem q950 : (Jvm.Cond.static ({ cls := "TwoGuilds", name := "isDigit", desc := "(I)Z" } : Jvm.MethodName)) ∈ lw_all := lw_g (lw_at lw_m4 159 rfl) rfl
theorem q951 : (Jvm.Cond.code ({ cls := "TwoGuilds", name := "isDigit", desc := "(I)Z" } : Jvm.MethodName) prog_1_method_46_code (1 : Nat) (Option.some Jvm.ClassFile.FieldType.boolean)) ∈ lw_all := lw_g (lw_at lw_m4 160 rfl) rfl
theorem q952 : (Jvm.Cond.stringRef "TwoGuilds" (391 : Nat) "pair") ∈ lw_tbl := lw_at lw_m4 161 rfl
theorem q953 : (Jvm.Cond.methodLink "TwoGuilds" (393 : Nat) ({ cls := "TwoGuilds", name := "isWord", desc := "(Ljava/lang/String;)Z" } : Jvm.MethodName)) ∈ lw_all := lw_g (lw_at lw_m4 162 rfl) rfl
theorem q954 : (Jvm.Cond.privateMethod ({ cls := "TwoGuilds", name := "isWord", desc := "(Ljava/lang/String;)Z" } : Jvm.MethodName)) ∈ lw_tbl := lw_at lw_m4 163 rfl
theorem q955 : (Jvm.Cond.instanceMethod ({ cls := "TwoGuilds", name := "isWord", desc := "(Ljava/lang/String;)Z" } : Jvm.MethodName)) ∈ lw_all := lw_g (lw_at lw_m4 164 rfl) rfl
theorem q956 : (Jvm.Cond.code ({ cls := "TwoGuilds", name := "isWord", desc := "(Ljava/lang/String;)Z" } : Jvm.MethodName) prog_1_method_49_code (4 : Nat) (Option.some Jvm.ClassFile.FieldType.boolean)) ∈ lw_all := lw_g (lw_at lw_m4 165 rfl) rfl
theorem q957 : (Jvm.Cond.methodLink "TwoGuilds" (317 : Nat) ({ cls := "java/lang/String", name := "length", desc := "()I" } : Jvm.MethodName)) ∈ lw_all := lw_g (lw_at lw_m4 166 rfl) rfl
theorem q967 : (Jvm.Cond.methodLink "TwoGuilds" (322 : Nat) ({ cls := "java/lang/String", name := "charAt", desc := "(I)C" } : Jvm.MethodName)) ∈ lw_all := lw_g (lw_at lw_m4 176 rfl) rfl
theorem q1005 : (Jvm.Cond.stringRef "TwoGuilds" (397 : Nat) "wear") ∈ lw_tbl := lw_at lw_m4 214 rfl
theorem q1006 : (Jvm.Cond.stringRef "TwoGuilds" (398 : Nat) "fine") ∈ lw_tbl := lw_at lw_m4 215 rfl
theorem q1007 : (Jvm.Cond.methodLink "TwoGuilds" (376 : Nat) ({ cls := "TwoGuilds", name := "must", desc := "(Z)V" } : Jvm.MethodName)) ∈ lw_all := lw_g (lw_at lw_m4 216 rfl) rfl
theorem q1008 : (Jvm.Cond.privateMethod ({ cls := "TwoGuilds", name := "must", desc := "(Z)V" } : Jvm.MethodName)) ∈ lw_tbl := lw_at lw_m4 217 rfl
theorem q1009 : (Jvm.Cond.instanceMethod ({ cls := "TwoGuilds", name := "must", desc := "(Z)V" } : Jvm.MethodName)) ∈ lw_all := lw_g (lw_at lw_m4 218 rfl) rfl
theorem q1010 : (Jvm.Cond.code ({ cls := "TwoGuilds", name := "must", desc := "(Z)V" } : Jvm.MethodName) prog_1_method_51_code (2 : Nat) (Option.none : Option Jvm.ClassFile.FieldType)) ∈ lw_all := lw_g (lw_at lw_m4 219 rfl) rfl
theorem q1019 : (Jvm.Cond.methodLink "TwoGuilds" (328 : Nat) ({ cls := "TwoGuilds$Faulty", name := "<init>", desc := "(I)V" } : Jvm.MethodName)) ∈ lw_all := lw_g (lw_at lw_m4 228 rfl) rfl
theorem q1029 : (Jvm.Cond.fieldLink "TwoGuilds" (416 : Nat) "TwoGuilds$Faulty" "place" "I") ∈ lw_all := lw_g (lw_at lw_m4 238 rfl) rfl
theorem q1034 : (Jvm.Cond.methodLink "TwoGuilds" (388 : Nat) ({ cls := "TwoGuilds", name := "either", desc := "()LTwoGuilds$Worth;" } : Jvm.MethodName)) ∈ lw_all := lw_g (lw_at lw_m5 3 rfl) rfl
theorem q1035 : (Jvm.Cond.privateMethod ({ cls := "TwoGuilds", name := "either", desc := "()LTwoGuilds$Worth;" } : Jvm.MethodName)) ∈ lw_tbl := lw_at lw_m5 4 rfl
theorem q1036 : (Jvm.Cond.instanceMethod ({ cls := "TwoGuilds", name := "either", desc := "()LTwoGuilds$Worth;" } : Jvm.MethodName)) ∈ lw_all := lw_g (lw_at lw_m5 5 rfl) rfl
theorem q1037 : (Jvm.Cond.code ({ cls := "TwoGuilds", name := "either", desc := "()LTwoGuilds$Worth;" } : Jvm.MethodName) prog_1_method_52_code (2 : Nat) (Option.some (Jvm.ClassFile.FieldType.object "TwoGuilds$Worth"))) ∈ lw_all := lw_g (lw_at lw_m5 6 rfl) rfl
theorem q1038 : (Jvm.Cond.methodLink "TwoGuilds" (330 : Nat) ({ cls := "TwoGuilds", name := "both", desc := "()LTwoGuilds$Worth;" } : Jvm.MethodName)) ∈ lw_all := lw_g (lw_at lw_m5 7 rfl) rfl
theorem q1039 : (Jvm.Cond.privateMethod ({ cls := "TwoGuilds", name := "both", desc := "()LTwoGuilds$Worth;" } : Jvm.MethodName)) ∈ lw_tbl := lw_at lw_m5 8 rfl
theorem q1040 : (Jvm.Cond.instanceMethod ({ cls := "TwoGuilds", name := "both", desc := "()LTwoGuilds$Worth;" } : Jvm.MethodName)) ∈ lw_all := lw_g (lw_at lw_m5 9 rfl) rfl
theorem q1041 : (Jvm.Cond.code ({ cls := "TwoGuilds", name := "both", desc := "()LTwoGuilds$Worth;" } : Jvm.MethodName) prog_1_method_53_code (2 : Nat) (Option.some (Jvm.ClassFile.FieldType.object "TwoGuilds$Worth"))) ∈ lw_all := lw_g (lw_at lw_m5 10 rfl) rfl
theorem q1042 : (Jvm.Cond.methodLink "TwoGuilds" (344 : Nat) ({ cls := "TwoGuilds", name := "test", desc := "()LTwoGuilds$Worth;" } : Jvm.MethodName)) ∈ lw_all := lw_g (lw_at lw_m5 11 rfl) rfl
theorem q1043 : (Jvm.Cond.privateMethod ({ cls := "TwoGuilds", name := "test", desc := "()LTwoGuilds$Worth;" } : Jvm.MethodName)) ∈ lw_tbl := lw_at lw_m5 12 rfl
theorem q1044 : (Jvm.Cond.instanceMethod ({ cls := "TwoGuilds", name := "test", desc := "()LTwoGuilds$Worth;" } : Jvm.MethodName)) ∈ lw_all := lw_g (lw_at lw_m5 13 rfl) rfl
theorem q1045 : (Jvm.Cond.code ({ cls := "TwoGuilds", name := "test", desc := "()LTwoGuilds$Worth;" } : Jvm.MethodName) prog_1_method_54_code (3 : Nat) (Option.some (Jvm.ClassFile.FieldType.object "TwoGuilds$Worth"))) ∈ lw_all := lw_g (lw_at lw_m5 14 rfl) rfl
theorem q1046 : (Jvm.Cond.methodLink "TwoGuilds" (347 : Nat) ({ cls := "TwoGuilds", name := "plus", desc := "()LTwoGuilds$Worth;" } : Jvm.MethodName)) ∈ lw_all := lw_g (lw_at lw_m5 15 rfl) rfl
theorem q1047 : (Jvm.Cond.privateMethod ({ cls := "TwoGuilds", name := "plus", desc := "()LTwoGuilds$Worth;" } : Jvm.MethodName)) ∈ lw_tbl := lw_at lw_m5 16 rfl
theorem q1048 : (Jvm.Cond.instanceMethod ({ cls := "TwoGuilds", name := "plus", desc := "()LTwoGuilds$Worth;" } : Jvm.MethodName)) ∈ lw_all := lw_g (lw_at lw_m5 17 rfl) rfl
theorem q1049 : (Jvm.Cond.code ({ cls := "TwoGuilds", name := "plus", desc := "()LTwoGuilds$Worth;" } : Jvm.MethodName) prog_1_method_55_code (3 : Nat) (Option.some (Jvm.ClassFile.FieldType.object "TwoGuilds$Worth"))) ∈ lw_all := lw_g (lw_at lw_m5 18 rfl) rfl
theorem q1050 : (Jvm.Cond.methodLink "TwoGuilds" (350 : Nat) ({ cls := "TwoGuilds", name := "times", desc := "()LTwoGuilds$Worth;" } : Jvm.MethodName)) ∈ lw_all := lw_g (lw_at lw_m5 19 rfl) rfl
theorem q1051 : (Jvm.Cond.privateMethod ({ cls := "TwoGuilds", name := "times", desc := "()LTwoGuilds$Worth;" } : Jvm.MethodName)) ∈ lw_tbl := lw_at lw_m5 20 rfl
theorem q1052 : (Jvm.Cond.instanceMethod ({ cls := "TwoGuilds", name := "times", desc := "()LTwoGuilds$Worth;" } : Jvm.MethodName)) ∈ lw_all := lw_g (lw_at lw_m5 21 rfl) rfl
theorem q1053 : (Jvm.Cond.code ({ cls := "TwoGuilds", name := "times", desc := "()LTwoGuilds$Worth;" } : Jvm.MethodName) prog_1_method_56_code (3 : Nat) (Option.some (Jvm.ClassFile.FieldType.object "TwoGuilds$Worth"))) ∈ lw_all := lw_g (lw_at lw_m5 22 rfl) rfl
theorem q1054 : (Jvm.Cond.methodLink "TwoGuilds" (353 : Nat) ({ cls := "TwoGuilds", name := "part", desc := "()LTwoGuilds$Worth;" } : Jvm.MethodName)) ∈ lw_all := lw_g (lw_at lw_m5 23 rfl) rfl
theorem q1055 : (Jvm.Cond.privateMethod ({ cls := "TwoGuilds", name := "part", desc := "()LTwoGuilds$Worth;" } : Jvm.MethodName)) ∈ lw_tbl := lw_at lw_m5 24 rfl
theorem q1056 : (Jvm.Cond.instanceMethod ({ cls := "TwoGuilds", name := "part", desc := "()LTwoGuilds$Worth;" } : Jvm.MethodName)) ∈ lw_all := lw_g (lw_at lw_m5 25 rfl) rfl
theorem q1057 : (Jvm.Cond.code ({ cls := "TwoGuilds", name := "part", desc := "()LTwoGuilds$Worth;" } : Jvm.MethodName) prog_1_method_58_code (3 : Nat) (Option.some (Jvm.ClassFile.FieldType.object "TwoGuilds$Worth"))) ∈ lw_all := lw_g (lw_at lw_m5 26 rfl) rfl
theorem q1058 : (Jvm.Cond.methodLink "TwoGuilds" (359 : Nat) ({ cls := "TwoGuilds", name := "isName", desc := "()Z" } : Jvm.MethodName)) ∈ lw_all := lw_g (lw_at lw_m5 27 rfl) rfl
theorem q1059 : (Jvm.Cond.privateMethod ({ cls := "TwoGuilds", name := "isName", desc := "()Z" } : Jvm.MethodName)) ∈ lw_tbl := lw_at lw_m5 28 rfl
theorem q1060 : (Jvm.Cond.instanceMethod ({ cls := "TwoGuilds", name := "isName", desc := "()Z" } : Jvm.MethodName)) ∈ lw_all := lw_g (lw_at lw_m5 29 rfl) rfl
theorem q1061 : (Jvm.Cond.code ({ cls := "TwoGuilds", name := "isName", desc := "()Z" } : Jvm.MethodName) prog_1_method_57_code (1 : Nat) (Option.some Jvm.ClassFile.FieldType.boolean)) ∈ lw_all := lw_g (lw_at lw_m5 30 rfl) rfl
theorem q1062 : (Jvm.Cond.classLink "TwoGuilds" (365 : Nat) "TwoGuilds$Plain") ∈ lw_all := lw_g (lw_at lw_m5 31 rfl) rfl
theorem q1064 : (Jvm.Cond.methodLink "TwoGuilds" (367 : Nat) ({ cls := "TwoGuilds$Plain", name := "<init>", desc := "(I)V" } : Jvm.MethodName)) ∈ lw_all := lw_g (lw_at lw_m5 33 rfl) rfl
theorem q1072 : (Jvm.Cond.classLink "TwoGuilds" (368 : Nat) "TwoGuilds$Name") ∈ lw_all := lw_g (lw_at lw_m5 41 rfl) rfl
theorem q1074 : (Jvm.Cond.methodLink "TwoGuilds" (370 : Nat) ({ cls := "TwoGuilds$Name", name := "<init>", desc := "(LTwoGuilds;I)V" } : Jvm.MethodName)) ∈ lw_all := lw_g (lw_at lw_m5 43 rfl) rfl
theorem q1085 : (Jvm.Cond.methodLink "TwoGuilds" (334 : Nat) ({ cls := "TwoGuilds", name := "isSign", desc := "(I)Z" } : Jvm.MethodName)) ∈ lw_all := lw_g (lw_at lw_m5 54 rfl) rfl
theorem q1086 : (Jvm.Cond.privateMethod ({ cls := "TwoGuilds", name := "isSign", desc := "(I)Z" } : Jvm.MethodName)) ∈ lw_tbl := lw_at lw_m5 55 rfl
theorem q1087 : (Jvm.Cond.instanceMethod ({ cls := "TwoGuilds", name := "isSign", desc := "(I)Z" } : Jvm.MethodName)) ∈ lw_all := lw_g (lw_at lw_m5 56 rfl) rfl
theorem q1088 : (Jvm.Cond.code ({ cls := "TwoGuilds", name := "isSign", desc := "(I)Z" } : Jvm.MethodName) prog_1_method_50_code (2 : Nat) (Option.some Jvm.ClassFile.FieldType.boolean)) ∈ lw_all := lw_g (lw_at lw_m5 57 rfl) rfl
theorem q1089 : (Jvm.Cond.classLink "TwoGuilds" (380 : Nat) "TwoGuilds$Not") ∈ lw_all := lw_g (lw_at lw_m5 58 rfl) rfl
theorem q1091 : (Jvm.Cond.methodLink "TwoGuilds" (382 : Nat) ({ cls := "TwoGuilds$Not", name := "<init>", desc := "(LTwoGuilds$Worth;)V" } : Jvm.MethodName)) ∈ lw_all := lw_g (lw_at lw_m5 60 rfl) rfl
theorem q1099 : (Jvm.Cond.classLink "TwoGuilds" (339 : Nat) "TwoGuilds$Two") ∈ lw_all := lw_g (lw_at lw_m5 68 rfl) rfl
theorem q1101 : (Jvm.Cond.methodLink "TwoGuilds" (341 : Nat) ({ cls := "TwoGuilds$Two", name := "<init>", desc := "(ILTwoGuilds$Worth;LTwoGuilds$Worth;)V" } : Jvm.MethodName)) ∈ lw_all := lw_g (lw_at lw_m5 70 rfl) rfl
theorem q1115 : (Jvm.Cond.classLink "TwoGuilds" (400 : Nat) "TwoGuilds$Text") ∈ lw_all := lw_g (lw_at lw_m5 84 rfl) rfl
theorem q1117 : (Jvm.Cond.methodLink "TwoGuilds" (402 : Nat) ({ cls := "TwoGuilds$Text", name := "<init>", desc := "(IILTwoGuilds$Worth;)V" } : Jvm.MethodName)) ∈ lw_all := lw_g (lw_at lw_m5 86 rfl) rfl
theorem q1122 : (Jvm.Cond.fieldLink "TwoGuilds" (419 : Nat) "TwoGuilds$Text" "key" "I") ∈ lw_all := lw_g (lw_at lw_m5 91 rfl) rfl
theorem q1124 : (Jvm.Cond.fieldLink "TwoGuilds" (420 : Nat) "TwoGuilds$Text" "words" "I") ∈ lw_all := lw_g (lw_at lw_m5 93 rfl) rfl
theorem q1126 : (Jvm.Cond.fieldLink "TwoGuilds" (424 : Nat) "TwoGuilds$Text" "e" "LTwoGuilds$Worth;") ∈ lw_all := lw_g (lw_at lw_m5 95 rfl) rfl
theorem q1135 : (Jvm.Cond.instanceMethod ({ cls := "TwoGuilds", name := "textTold", desc := "(II)I" } : Jvm.MethodName)) ∈ lw_all := lw_g (lw_at lw_m5 104 rfl) rfl
theorem q1136 : (Jvm.Cond.selects "TwoGuilds" ({ cls := "TwoGuilds", name := "textTold", desc := "(II)I" } : Jvm.MethodName) ({ cls := "TwoGuilds", name := "textTold", desc := "(II)I" } : Jvm.MethodName)) ∈ lw_all := lw_g (lw_at lw_m5 105 rfl) rfl
theorem q1137 : (Jvm.Cond.code ({ cls := "TwoGuilds", name := "textTold", desc := "(II)I" } : Jvm.MethodName) prog_1_method_63_code (3 : Nat) (Option.some Jvm.ClassFile.FieldType.int)) ∈ lw_all := lw_g (lw_at lw_m5 106 rfl) rfl
theorem q1139 : (Jvm.Cond.instanceMethod ({ cls := "TwoGuilds", name := "why", desc := "(I)I" } : Jvm.MethodName)) ∈ lw_all := lw_g (lw_at lw_m5 108 rfl) rfl
theorem q1140 : (Jvm.Cond.selects "TwoGuilds" ({ cls := "TwoGuilds", name := "why", desc := "(I)I" } : Jvm.MethodName) ({ cls := "TwoGuilds", name := "why", desc := "(I)I" } : Jvm.MethodName)) ∈ lw_all := lw_g (lw_at lw_m5 109 rfl) rfl
theorem q1141 : (Jvm.Cond.code ({ cls := "TwoGuilds", name := "why", desc := "(I)I" } : Jvm.MethodName) prog_1_method_66_code (2 : Nat) (Option.some Jvm.ClassFile.FieldType.int)) ∈ lw_all := lw_g (lw_at lw_m5 110 rfl) rfl
theorem q1143 : (Jvm.Cond.instanceMethod ({ cls := "TwoGuilds", name := "sheet", desc := "(III)I" } : Jvm.MethodName)) ∈ lw_all := lw_g (lw_at lw_m5 112 rfl) rfl
theorem q1144 : (Jvm.Cond.selects "TwoGuilds" ({ cls := "TwoGuilds", name := "sheet", desc := "(III)I" } : Jvm.MethodName) ({ cls := "TwoGuilds", name := "sheet", desc := "(III)I" } : Jvm.MethodName)) ∈ lw_all := lw_g (lw_at lw_m5 113 rfl) rfl
theorem q1145 : (Jvm.Cond.codeWith ({ cls := "TwoGuilds", name := "sheet", desc := "(III)I" } : Jvm.MethodName) prog_1_method_72_code (5 : Nat) (Option.some Jvm.ClassFile.FieldType.int) [((48 : Nat), (80 : Nat), (81 : Nat), (442 : Nat))]) ∈ lw_all := lw_g (lw_at lw_m5 114 rfl) rfl
theorem q1146 : (Jvm.Cond.classLink "TwoGuilds" (442 : Nat) "java/lang/NegativeArraySizeException") ∈ lw_all := lw_g (lw_at lw_m5 115 rfl) rfl
theorem q1160 : (Jvm.Cond.constantLong "TwoGuilds" (440 : Nat) (-1 : Int64)) ∈ lw_all := lw_g (lw_at lw_m5 129 rfl) rfl
theorem q1161 : (Jvm.Cond.constant "TwoGuilds" (444 : Nat) (-1000000014 : Int32)) ∈ lw_all := lw_g (lw_at lw_m5 130 rfl) rfl
theorem q1165 : (Jvm.Cond.instanceMethod ({ cls := "TwoGuilds", name := "mark", desc := "(III)I" } : Jvm.MethodName)) ∈ lw_all := lw_g (lw_at lw_m5 134 rfl) rfl
theorem q1166 : (Jvm.Cond.selects "TwoGuilds" ({ cls := "TwoGuilds", name := "mark", desc := "(III)I" } : Jvm.MethodName) ({ cls := "TwoGuilds", name := "mark", desc := "(III)I" } : Jvm.MethodName)) ∈ lw_all := lw_g (lw_at lw_m5 135 rfl) rfl
theorem q1167 : (Jvm.Cond.codeWith ({ cls := "TwoGuilds", name := "mark", desc := "(III)I" } : Jvm.MethodName) prog_1_method_74_code (5 : Nat) (Option.some Jvm.ClassFile.FieldType.int) [((10 : Nat), (38 : Nat), (39 : Nat), (460 : Nat)), ((10 : Nat), (38 : Nat), (44 : Nat), (437 : Nat))]) ∈ lw_all := lw_g (lw_at lw_m5 136 rfl) rfl
theorem q1168 : (Jvm.Cond.classLink "TwoGuilds" (460 : Nat) "java/lang/NullPointerException") ∈ lw_all := lw_g (lw_at lw_m5 137 rfl) rfl
theorem q1193 : (Jvm.Cond.classLink "TwoGuilds" (437 : Nat) "java/lang/IndexOutOfBoundsException") ∈ lw_all := lw_g (lw_at lw_m5 162 rfl) rfl
theorem q1212 : (Jvm.Cond.methodLink "TwoGuilds" (452 : Nat) ({ cls := "TwoGuilds", name := "within", desc := "(III)V" } : Jvm.MethodName)) ∈ lw_all := lw_g (lw_at lw_m5 181 rfl) rfl
theorem q1213 : (Jvm.Cond.static ({ cls := "TwoGuilds", name := "within", desc := "(III)V" } : Jvm.MethodName)) ∈ lw_all := lw_g (lw_at lw_m5 182 rfl) rfl
theorem q1214 : (Jvm.Cond.code ({ cls := "TwoGuilds", name := "within", desc := "(III)V" } : Jvm.MethodName) prog_1_method_71_code (3 : Nat) (Option.none : Option Jvm.ClassFile.FieldType)) ∈ lw_all := lw_g (lw_at lw_m5 183 rfl) rfl
theorem q1223 : (Jvm.Cond.methodLink "TwoGuilds" (439 : Nat) ({ cls := "java/lang/IndexOutOfBoundsException", name := "<init>", desc := "()V" } : Jvm.MethodName)) ∈ lw_all := lw_g (lw_at lw_m5 192 rfl) rfl
theorem q1229 : (Jvm.Cond.methodLink "TwoGuilds" (456 : Nat) ({ cls := "TwoGuilds", name := "written", desc := "(Ljava/lang/Object;II)I" } : Jvm.MethodName)) ∈ lw_all := lw_g (lw_at lw_m5 198 rfl) rfl
theorem q1230 : (Jvm.Cond.static ({ cls := "TwoGuilds", name := "written", desc := "(Ljava/lang/Object;II)I" } : Jvm.MethodName)) ∈ lw_all := lw_g (lw_at lw_m5 199 rfl) rfl
theorem q1231 : (Jvm.Cond.code ({ cls := "TwoGuilds", name := "written", desc := "(Ljava/lang/Object;II)I" } : Jvm.MethodName) prog_1_method_73_code (3 : Nat) (Option.some Jvm.ClassFile.FieldType.int)) ∈ lw_all := lw_g (lw_at lw_m5 200 rfl) rfl
theorem q1232 : (Jvm.Cond.constantLong "TwoGuilds" (445 : Nat) (-99999 : Int64)) ∈ lw_all := lw_g (lw_at lw_m5 201 rfl) rfl
theorem q1233 : (Jvm.Cond.constantLong "TwoGuilds" (447 : Nat) (99999 : Int64)) ∈ lw_all := lw_g (lw_at lw_m5 202 rfl) rfl
theorem q1234 : (Jvm.Cond.constantFloat "TwoGuilds" (451 : Nat) (2143289344 : UInt32)) ∈ lw_all := lw_g (lw_at lw_m5 203 rfl) rfl
theorem q1235 : (Jvm.Cond.constant "TwoGuilds" (462 : Nat) (-1000000013 : Int32)) ∈ lw_all := lw_g (lw_at lw_m5 204 rfl) rfl
theorem q1237 : (Jvm.Cond.instanceMethod ({ cls := "TwoGuilds", name := "pour", desc := "(I)I" } : Jvm.MethodName)) ∈ lw_all := lw_g (lw_at lw_m5 206 rfl) rfl
theorem q1238 : (Jvm.Cond.selects "TwoGuilds" ({ cls := "TwoGuilds", name := "pour", desc := "(I)I" } : Jvm.MethodName) ({ cls := "TwoGuilds", name := "pour", desc := "(I)I" } : Jvm.MethodName)) ∈ lw_all := lw_g (lw_at lw_m5 207 rfl) rfl
theorem q1239 : (Jvm.Cond.code ({ cls := "TwoGuilds", name := "pour", desc := "(I)I" } : Jvm.MethodName) prog_1_method_75_code (8 : Nat) (Option.some Jvm.ClassFile.FieldType.int)) ∈ lw_all := lw_g (lw_at lw_m5 208 rfl) rfl
theorem q1241 : (Jvm.Cond.instanceMethod ({ cls := "TwoGuilds", name := "reads", desc := "(I)I" } : Jvm.MethodName)) ∈ lw_all := lw_g (lw_at lw_m5 210 rfl) rfl
theorem q1242 : (Jvm.Cond.selects "TwoGuilds" ({ cls := "TwoGuilds", name := "reads", desc := "(I)I" } : Jvm.MethodName) ({ cls := "TwoGuilds", name := "reads", desc := "(I)I" } : Jvm.MethodName)) ∈ lw_all := lw_g (lw_at lw_m5 211 rfl) rfl
theorem q1243 : (Jvm.Cond.code ({ cls := "TwoGuilds", name := "reads", desc := "(I)I" } : Jvm.MethodName) prog_1_method_76_code (5 : Nat) (Option.some Jvm.ClassFile.FieldType.int)) ∈ lw_all := lw_g (lw_at lw_m5 212 rfl) rfl
theorem q1245 : (Jvm.Cond.instanceMethod ({ cls := "TwoGuilds", name := "copy", desc := "(IIIII)I" } : Jvm.MethodName)) ∈ lw_all := lw_g (lw_at lw_m5 214 rfl) rfl
theorem q1246 : (Jvm.Cond.selects "TwoGuilds" ({ cls := "TwoGuilds", name := "copy", desc := "(IIIII)I" } : Jvm.MethodName) ({ cls := "TwoGuilds", name := "copy", desc := "(IIIII)I" } : Jvm.MethodName)) ∈ lw_all := lw_g (lw_at lw_m5 215 rfl) rfl
theorem q1247 : (Jvm.Cond.codeWith ({ cls := "TwoGuilds", name := "copy", desc := "(IIIII)I" } : Jvm.MethodName) prog_1_method_77_code (9 : Nat) (Option.some Jvm.ClassFile.FieldType.int) [((68 : Nat), (105 : Nat), (106 : Nat), (437 : Nat))]) ∈ lw_all := lw_g (lw_at lw_m5 216 rfl) rfl
theorem q1248 : (Jvm.Cond.methodLink "TwoGuilds" (463 : Nat) ({ cls := "java/lang/System", name := "arraycopy", desc := "(Ljava/lang/Object;ILjava/lang/Object;II)V" } : Jvm.MethodName)) ∈ lw_all := lw_g (lw_at lw_m5 217 rfl) rfl
theorem q1250 : (Jvm.Cond.instanceMethod ({ cls := "TwoGuilds", name := "lay", desc := "(III)I" } : Jvm.MethodName)) ∈ lw_all := lw_g (lw_at lw_m5 219 rfl) rfl
theorem q1251 : (Jvm.Cond.selects "TwoGuilds" ({ cls := "TwoGuilds", name := "lay", desc := "(III)I" } : Jvm.MethodName) ({ cls := "TwoGuilds", name := "lay", desc := "(III)I" } : Jvm.MethodName)) ∈ lw_all := lw_g (lw_at lw_m5 220 rfl) rfl
theorem q1252 : (Jvm.Cond.code ({ cls := "TwoGuilds", name := "lay", desc := "(III)I" } : Jvm.MethodName) prog_1_method_80_code (6 : Nat) (Option.some Jvm.ClassFile.FieldType.int)) ∈ lw_all := lw_g (lw_at lw_m5 221 rfl) rfl
theorem q1253 : (Jvm.Cond.methodLink "TwoGuilds" (471 : Nat) ({ cls := "TwoGuilds", name := "isSlot", desc := "(I)Z" } : Jvm.MethodName)) ∈ lw_all := lw_g (lw_at lw_m5 222 rfl) rfl
theorem q1254 : (Jvm.Cond.static ({ cls := "TwoGuilds", name := "isSlot", desc := "(I)Z" } : Jvm.MethodName)) ∈ lw_all := lw_g (lw_at lw_m5 223 rfl) rfl
theorem q1255 : (Jvm.Cond.code ({ cls := "TwoGuilds", name := "isSlot", desc := "(I)Z" } : Jvm.MethodName) prog_1_method_68_code (1 : Nat) (Option.some Jvm.ClassFile.FieldType.boolean)) ∈ lw_all := lw_g (lw_at lw_m5 224 rfl) rfl
theorem q1256 : (Jvm.Cond.methodLink "TwoGuilds" (474 : Nat) ({ cls := "TwoGuilds", name := "anew", desc := "(LTwoGuilds$Glove;)LTwoGuilds$Glove;" } : Jvm.MethodName)) ∈ lw_all := lw_g (lw_at lw_m5 225 rfl) rfl
theorem q1257 : (Jvm.Cond.methodLink "TwoGuilds" (477 : Nat) ({ cls := "TwoGuilds", name := "again", desc := "(Ljava/lang/Object;)Ljava/lang/Object;" } : Jvm.MethodName)) ∈ lw_all := lw_g (lw_at lw_m5 226 rfl) rfl
theorem q1258 : (Jvm.Cond.static ({ cls := "TwoGuilds", name := "again", desc := "(Ljava/lang/Object;)Ljava/lang/Object;" } : Jvm.MethodName)) ∈ lw_all := lw_g (lw_at lw_m5 227 rfl) rfl
theorem q1259 : (Jvm.Cond.code ({ cls := "TwoGuilds", name := "again", desc := "(Ljava/lang/Object;)Ljava/lang/Object;" } : Jvm.MethodName) prog_1_method_78_code (3 : Nat) (Option.some (Jvm.ClassFile.FieldType.object "java/lang/Object"))) ∈ lw_all := lw_g (lw_at lw_m5 228 rfl) rfl
theorem q1260 : (Jvm.Cond.classLink "TwoGuilds" (469 : Nat) "TwoGuilds$Figure") ∈ lw_all := lw_g (lw_at lw_m5 229 rfl) rfl
theorem q1262 : (Jvm.Cond.methodLink "TwoGuilds" (481 : Nat) ({ cls := "TwoGuilds$Figure", name := "<init>", desc := "(I)V" } : Jvm.MethodName)) ∈ lw_all := lw_g (lw_at lw_m5 231 rfl) rfl
theorem q1267 : (Jvm.Cond.fieldLink "TwoGuilds" (488 : Nat) "TwoGuilds$Figure" "v" "I") ∈ lw_all := lw_g (lw_at lw_m5 236 rfl) rfl
theorem q1271 : (Jvm.Cond.methodLink "TwoGuilds" (482 : Nat) ({ cls := "TwoGuilds", name := "thingOf", desc := "(Ljava/lang/Object;)I" } : Jvm.MethodName)) ∈ lw_all := lw_g (lw_at lw_m6 0 rfl) rfl
theorem q1272 : (Jvm.Cond.static ({ cls := "TwoGuilds", name := "thingOf", desc := "(Ljava/lang/Object;)I" } : Jvm.MethodName)) ∈ lw_all := lw_g (lw_at lw_m6 1 rfl) rfl
theorem q1273 : (Jvm.Cond.code ({ cls := "TwoGuilds", name := "thingOf", desc := "(Ljava/lang/Object;)I" } : Jvm.MethodName) prog_1_method_79_code (1 : Nat) (Option.some Jvm.ClassFile.FieldType.int)) ∈ lw_all := lw_g (lw_at lw_m6 2 rfl) rfl
theorem q1275 : (Jvm.Cond.instanceMethod ({ cls := "TwoGuilds", name := "ask", desc := "(II)I" } : Jvm.MethodName)) ∈ lw_all := lw_g (lw_at lw_m6 4 rfl) rfl
theorem q1276 : (Jvm.Cond.selects "TwoGuilds" ({ cls := "TwoGuilds", name := "ask", desc := "(II)I" } : Jvm.MethodName) ({ cls := "TwoGuilds", name := "ask", desc := "(II)I" } : Jvm.MethodName)) ∈ lw_all := lw_g (lw_at lw_m6 5 rfl) rfl
theorem q1277 : (Jvm.Cond.codeWith ({ cls := "TwoGuilds", name := "ask", desc := "(II)I" } : Jvm.MethodName) prog_1_method_81_code (4 : Nat) (Option.some Jvm.ClassFile.FieldType.int) [((22 : Nat), (42 : Nat), (43 : Nat), (460 : Nat)), ((22 : Nat), (42 : Nat), (47 : Nat), (166 : Nat))]) ∈ lw_all := lw_g (lw_at lw_m6 6 rfl) rfl
theorem q1278 : (Jvm.Cond.interfaceEntry "TwoGuilds" (485 : Nat)) ∈ lw_tbl := lw_at lw_m6 7 rfl
theorem q1279 : (Jvm.Cond.methodLink "TwoGuilds" (485 : Nat) ({ cls := "TwoGuilds$Weighs", name := "worth", desc := "()I" } : Jvm.MethodName)) ∈ lw_all := lw_g (lw_at lw_m6 8 rfl) rfl
theorem q1307 : (Jvm.Cond.instanceMethod ({ cls := "TwoGuilds", name := "item", desc := "(II)I" } : Jvm.MethodName)) ∈ lw_all := lw_g (lw_at lw_m6 36 rfl) rfl
theorem q1308 : (Jvm.Cond.selects "TwoGuilds" ({ cls := "TwoGuilds", name := "item", desc := "(II)I" } : Jvm.MethodName) ({ cls := "TwoGuilds", name := "item", desc := "(II)I" } : Jvm.MethodName)) ∈ lw_all := lw_g (lw_at lw_m6 37 rfl) rfl
theorem q1309 : (Jvm.Cond.codeWith ({ cls := "TwoGuilds", name := "item", desc := "(II)I" } : Jvm.MethodName) prog_1_method_82_code (5 : Nat) (Option.some Jvm.ClassFile.FieldType.int) [((10 : Nat), (50 : Nat), (51 : Nat), (460 : Nat)), ((10 : Nat), (50 : Nat), (55 : Nat), (166 : Nat)), ((10 : Nat), (50 : Nat), (59 : Nat), (437 : Nat))]) ∈ lw_all := lw_g (lw_at lw_m6 38 rfl) rfl
theorem q1311 : (Jvm.Cond.instanceMethod ({ cls := "TwoGuilds", name := "rest", desc := "(II)I" } : Jvm.MethodName)) ∈ lw_all := lw_g (lw_at lw_m6 40 rfl) rfl
theorem q1312 : (Jvm.Cond.selects "TwoGuilds" ({ cls := "TwoGuilds", name := "rest", desc := "(II)I" } : Jvm.MethodName) ({ cls := "TwoGuilds", name := "rest", desc := "(II)I" } : Jvm.MethodName)) ∈ lw_all := lw_g (lw_at lw_m6 41 rfl) rfl
theorem q1313 : (Jvm.Cond.codeWith ({ cls := "TwoGuilds", name := "rest", desc := "(II)I" } : Jvm.MethodName) prog_1_method_83_code (4 : Nat) (Option.some Jvm.ClassFile.FieldType.int) [((10 : Nat), (27 : Nat), (28 : Nat), (460 : Nat)), ((10 : Nat), (27 : Nat), (32 : Nat), (166 : Nat)), ((10 : Nat), (27 : Nat), (36 : Nat), (491 : Nat))]) ∈ lw_all := lw_g (lw_at lw_m6 42 rfl) rfl
theorem q1314 : (Jvm.Cond.classLink "TwoGuilds" (491 : Nat) "java/lang/ArithmeticException") ∈ lw_all := lw_g (lw_at lw_m6 43 rfl) rfl
theorem q1328 : (Jvm.Cond.constant "TwoGuilds" (493 : Nat) (-1000000002 : Int32)) ∈ lw_all := lw_g (lw_at lw_m6 57 rfl) rfl
theorem q1330 : (Jvm.Cond.instanceMethod ({ cls := "TwoGuilds", name := "tell", desc := "(I)I" } : Jvm.MethodName)) ∈ lw_all := lw_g (lw_at lw_m6 59 rfl) rfl
theorem q1331 : (Jvm.Cond.selects "TwoGuilds" ({ cls := "TwoGuilds", name := "tell", desc := "(I)I" } : Jvm.MethodName) ({ cls := "TwoGuilds", name := "tell", desc := "(I)I" } : Jvm.MethodName)) ∈ lw_all := lw_g (lw_at lw_m6 60 rfl) rfl
theorem q1332 : (Jvm.Cond.code ({ cls := "TwoGuilds", name := "tell", desc := "(I)I" } : Jvm.MethodName) prog_1_method_84_code (2 : Nat) (Option.some Jvm.ClassFile.FieldType.int)) ∈ lw_all := lw_g (lw_at lw_m6 61 rfl) rfl
theorem q1334 : (Jvm.Cond.instanceMethod ({ cls := "TwoGuilds", name := "check", desc := "(I)I" } : Jvm.MethodName)) ∈ lw_all := lw_g (lw_at lw_m6 63 rfl) rfl
theorem q1335 : (Jvm.Cond.selects "TwoGuilds" ({ cls := "TwoGuilds", name := "check", desc := "(I)I" } : Jvm.MethodName) ({ cls := "TwoGuilds", name := "check", desc := "(I)I" } : Jvm.MethodName)) ∈ lw_all := lw_g (lw_at lw_m6 64 rfl) rfl
theorem q1336 : (Jvm.Cond.codeWith ({ cls := "TwoGuilds", name := "check", desc := "(I)I" } : Jvm.MethodName) prog_1_method_86_code (5 : Nat) (Option.some Jvm.ClassFile.FieldType.int) [((5 : Nat), (20 : Nat), (170 : Nat), (0 : Nat)), ((32 : Nat), (43 : Nat), (170 : Nat), (0 : Nat)), ((55 : Nat), (158 : Nat), (170 : Nat), (0 : Nat)), ((170 : Nat), (172 : Nat), (170 : Nat), (0 : Nat))]) ∈ lw_all := lw_g (lw_at lw_m6 65 rfl) rfl
theorem q1337 : (Jvm.Cond.methodLink "TwoGuilds" (506 : Nat) ({ cls := "TwoGuilds", name := "due", desc := "(I)V" } : Jvm.MethodName)) ∈ lw_all := lw_g (lw_at lw_m6 66 rfl) rfl
theorem q1338 : (Jvm.Cond.privateMethod ({ cls := "TwoGuilds", name := "due", desc := "(I)V" } : Jvm.MethodName)) ∈ lw_tbl := lw_at lw_m6 67 rfl
theorem q1339 : (Jvm.Cond.instanceMethod ({ cls := "TwoGuilds", name := "due", desc := "(I)V" } : Jvm.MethodName)) ∈ lw_all := lw_g (lw_at lw_m6 68 rfl) rfl
theorem q1340 : (Jvm.Cond.code ({ cls := "TwoGuilds", name := "due", desc := "(I)V" } : Jvm.MethodName) prog_1_method_85_code (2 : Nat) (Option.none : Option Jvm.ClassFile.FieldType)) ∈ lw_all := lw_g (lw_at lw_m6 69 rfl) rfl
theorem q1342 : (Jvm.Cond.instanceMethod ({ cls := "TwoGuilds", name := "keep", desc := "()I" } : Jvm.MethodName)) ∈ lw_all := lw_g (lw_at lw_m6 71 rfl) rfl
theorem q1343 : (Jvm.Cond.selects "TwoGuilds" ({ cls := "TwoGuilds", name := "keep", desc := "()I" } : Jvm.MethodName) ({ cls := "TwoGuilds", name := "keep", desc := "()I" } : Jvm.MethodName)) ∈ lw_all := lw_g (lw_at lw_m6 72 rfl) rfl
theorem q1344 : (Jvm.Cond.code ({ cls := "TwoGuilds", name := "keep", desc := "()I" } : Jvm.MethodName) prog_1_method_87_code (1 : Nat) (Option.some Jvm.ClassFile.FieldType.int)) ∈ lw_all := lw_g (lw_at lw_m6 73 rfl) rfl
theorem q1346 : (Jvm.Cond.instanceMethod ({ cls := "TwoGuilds", name := "back", desc := "()I" } : Jvm.MethodName)) ∈ lw_all := lw_g (lw_at lw_m6 75 rfl) rfl
theorem q1347 : (Jvm.Cond.selects "TwoGuilds" ({ cls := "TwoGuilds", name := "back", desc := "()I" } : Jvm.MethodName) ({ cls := "TwoGuilds", name := "back", desc := "()I" } : Jvm.MethodName)) ∈ lw_all := lw_g (lw_at lw_m6 76 rfl) rfl
theorem q1348 : (Jvm.Cond.code ({ cls := "TwoGuilds", name := "back", desc := "()I" } : Jvm.MethodName) prog_1_method_88_code (1 : Nat) (Option.some Jvm.ClassFile.FieldType.int)) ∈ lw_all := lw_g (lw_at lw_m6 77 rfl) rfl
theorem q1350 : (Jvm.Cond.instanceMethod ({ cls := "TwoGuilds", name := "count", desc := "(I)I" } : Jvm.MethodName)) ∈ lw_all := lw_g (lw_at lw_m6 79 rfl) rfl
theorem q1351 : (Jvm.Cond.selects "TwoGuilds" ({ cls := "TwoGuilds", name := "count", desc := "(I)I" } : Jvm.MethodName) ({ cls := "TwoGuilds", name := "count", desc := "(I)I" } : Jvm.MethodName)) ∈ lw_all := lw_g (lw_at lw_m6 80 rfl) rfl
theorem q1352 : (Jvm.Cond.code ({ cls := "TwoGuilds", name := "count", desc := "(I)I" } : Jvm.MethodName) prog_1_method_89_code (2 : Nat) (Option.some Jvm.ClassFile.FieldType.int)) ∈ lw_all := lw_g (lw_at lw_m6 81 rfl) rfl
theorem in_X0 : ∀ w ∈ wsX00, w ∈ lw_all := lw_in wsX00 [209, 211, 213, 215, 217, 219, 221, 223, 225, 227, 229, 231, 233, 235, 237, 239, 241, 243, 245, 247, 249, 251, 253, 255, 257, 259, 261] (by decide +kernel) (by decide +kernel)
