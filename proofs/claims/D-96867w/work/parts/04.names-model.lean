/-! TwoGuildsModel -/
set_option maxRecDepth 100000
def RX3 : String := "TwoGuildsModel"
def TX3 : u_T := fun k => match k with
  | 0 => ("TwoGuildsModel", "now", "[I", true)
  | 1 => ("TwoGuildsModel", "image", "[I", true)
  | 2 => ("TwoGuildsModel", "aside", "[I", true)
  | 3 => ("TwoGuildsModel", "hasImage", "Z", false)
  | 4 => ("TwoGuildsModel", "values", "[I", true)
  | 5 => ("TwoGuildsModel", "bests", "[I", true)
  | 6 => ("TwoGuildsModel", "before", "[I", true)
  | 7 => ("TwoGuildsModel", "joined", "[I", true)
  | 8 => ("TwoGuildsModel", "tape", "[I", true)
  | 9 => ("TwoGuildsModel", "taped", "I", false)
  | 10 => ("TwoGuildsModel", "next", "I", false)
  | 11 => ("TwoGuildsModel", "from", "I", false)
  | 12 => ("TwoGuildsModel", "token", "I", false)
  | 13 => ("TwoGuildsModel", "value", "I", false)
  | 14 => ("TwoGuildsModel", "ended", "I", false)
  | 15 => ("TwoGuildsModel", "key", "I", false)
  | 16 => ("TwoGuildsModel", "keys", "[C", true)
  | 17 => ("TwoGuildsModel", "keyAt", "[I", true)
  | 18 => ("TwoGuildsModel", "code", "[I", true)
  | 19 => ("TwoGuildsModel", "codes", "I", false)
  | 20 => ("TwoGuildsModel", "atoms", "I", false)
  | 21 => ("TwoGuildsModel", "waits", "[I", true)
  | 22 => ("TwoGuildsModel", "held", "I", false)
  | 23 => ("TwoGuildsModel", "tested", "[Z", true)
  | 24 => ("TwoGuildsModel", "stack", "[I", true)
  | 25 => ("TwoGuildsModel", "facts", "[I", true)
  | 26 => ("TwoGuildsModel", "sorts", "[I", true)
  | 27 => ("TwoGuildsModel", "sizes", "[I", true)
  | 28 => ("TwoGuildsModel", "cells", "[I", true)
  | 29 => ("TwoGuildsModel", "holds", "[I", true)
  | 30 => ("TwoGuildsModel", "holdsA", "[I", true)
  | 31 => ("TwoGuildsModel", "holdsB", "[I", true)
  | 32 => ("TwoGuildsModel", "heldCells", "[I", true)
  | 33 => ("TwoGuildsModel", "moved", "[I", true)
  | 34 => ("TwoGuildsModel", "tells", "[I", true)
  | _ => ("TwoGuildsModel", "waiting", "I", false)
def tyX3 : Nat → FieldType := fun k => match k with
  | 0 => .array .int
  | 1 => .array .int
  | 2 => .array .int
  | 3 => .boolean
  | 4 => .array .int
  | 5 => .array .int
  | 6 => .array .int
  | 7 => .array .int
  | 8 => .array .int
  | 9 => .int
  | 10 => .int
  | 11 => .int
  | 12 => .int
  | 13 => .int
  | 14 => .int
  | 15 => .int
  | 16 => .array .char
  | 17 => .array .int
  | 18 => .array .int
  | 19 => .int
  | 20 => .int
  | 21 => .array .int
  | 22 => .int
  | 23 => .array .boolean
  | 24 => .array .int
  | 25 => .array .int
  | 26 => .array .int
  | 27 => .array .int
  | 28 => .array .int
  | 29 => .array .int
  | 30 => .array .int
  | 31 => .array .int
  | 32 => .array .int
  | 33 => .array .int
  | 34 => .array .int
  | _ => .int
abbrev wsX30 : List Cond := u_ws RX3 TX3 36
set_option maxRecDepth 100000 in
theorem nmX3 : ∀ a, a < 36 → ∀ b, b < 36 → a ≠ b → (TX3 a).2.1 ≠ (TX3 b).2.1 := by decide +kernel
set_option maxRecDepth 100000 in
theorem tyX3_ok : ∀ k, k < 36 → parseFieldDescriptor (TX3 k).2.2.1 = some (tyX3 k) := by decide +kernel
abbrev cX3_init : ByteArray := prog_22_method_1_code
def yX3_init : MethodName := ⟨RX3, "<init>", "()V"⟩
def dkwX3_init_13 : List UInt8 := [79, 177]
abbrev dktX3_init_13 : List UInt8 := dkwX3_init_13 ++ []
def dkwX3_init_12 : List UInt8 := [181, 0, 78, 42, 16, 60, 188, 10, 181, 0, 81, 42, 180, 0, 9, 3, 4, 79, 42, 180, 0, 9, 6, 8]
abbrev dktX3_init_12 : List UInt8 := dkwX3_init_12 ++ dktX3_init_13
def dkwX3_init_11 : List UInt8 := [181, 0, 69, 42, 8, 188, 10, 181, 0, 72, 42, 16, 120, 188, 10, 181, 0, 75, 42, 16, 24, 188, 10]
abbrev dktX3_init_11 : List UInt8 := dkwX3_init_11 ++ dktX3_init_12
def dkwX3_init_10 : List UInt8 := [188, 10, 181, 0, 60, 42, 16, 96, 188, 10, 181, 0, 63, 42, 8, 188, 10, 181, 0, 66, 42, 8, 188, 10]
abbrev dktX3_init_10 : List UInt8 := dkwX3_init_10 ++ dktX3_init_11
def dkwX3_init_9 : List UInt8 := [188, 10, 89, 3, 2, 79, 89, 4, 2, 79, 89, 5, 2, 79, 89, 6, 2, 79, 181, 0, 57, 42, 7]
abbrev dktX3_init_9 : List UInt8 := dkwX3_init_9 ++ dktX3_init_10
def dkwX3_init_8 : List UInt8 := [16, 10, 188, 4, 181, 0, 47, 42, 16, 96, 188, 10, 181, 0, 51, 42, 7, 188, 10, 181, 0, 54, 42, 7]
abbrev dktX3_init_8 : List UInt8 := dkwX3_init_8 ++ dktX3_init_9
def dkwX3_init_7 : List UInt8 := [6, 16, 12, 79, 181, 0, 38, 42, 16, 96, 188, 10, 181, 0, 41, 42, 16, 96, 188, 10, 181, 0, 44, 42]
abbrev dktX3_init_7 : List UInt8 := dkwX3_init_7 ++ dktX3_init_8
def dkwX3_init_6 : List UInt8 := [16, 101, 85, 181, 0, 34, 42, 7, 188, 10, 89, 3, 3, 79, 89, 4, 7, 79, 89, 5, 16, 8, 79, 89]
abbrev dktX3_init_6 : List UInt8 := dkwX3_init_6 ++ dktX3_init_7
def dkwX3_init_5 : List UInt8 := [16, 114, 85, 89, 16, 8, 16, 102, 85, 89, 16, 9, 16, 105, 85, 89, 16, 10, 16, 110, 85, 89, 16, 11]
abbrev dktX3_init_5 : List UInt8 := dkwX3_init_5 ++ dktX3_init_6
def dkwX3_init_4 : List UInt8 := [6, 16, 114, 85, 89, 7, 16, 119, 85, 89, 8, 16, 101, 85, 89, 16, 6, 16, 97, 85, 89, 16, 7]
abbrev dktX3_init_4 : List UInt8 := dkwX3_init_4 ++ dktX3_init_5
def dkwX3_init_3 : List UInt8 := [181, 0, 31, 42, 16, 12, 188, 5, 89, 3, 16, 112, 85, 89, 4, 16, 97, 85, 89, 5, 16, 105, 85, 89]
abbrev dktX3_init_3 : List UInt8 := dkwX3_init_3 ++ dktX3_init_4
def dkwX3_init_2 : List UInt8 := [181, 0, 22, 42, 16, 76, 188, 10, 181, 0, 25, 42, 16, 25, 188, 10, 181, 0, 28, 42, 16, 96, 188, 10]
abbrev dktX3_init_2 : List UInt8 := dkwX3_init_2 ++ dktX3_init_3
def dkwX3_init_1 : List UInt8 := [17, 5, 168, 188, 10, 181, 0, 16, 42, 16, 100, 188, 10, 181, 0, 19, 42, 17, 4, 0, 188, 10]
abbrev dktX3_init_1 : List UInt8 := dkwX3_init_1 ++ dktX3_init_2
def dkwX3_init_0 : List UInt8 := [42, 183, 0, 1, 42, 17, 5, 168, 188, 10, 181, 0, 9, 42, 17, 5, 168, 188, 10, 181, 0, 13, 42]
abbrev dktX3_init_0 : List UInt8 := dkwX3_init_0 ++ dktX3_init_1
theorem dksX3_init_0 : cX3_init.data.toList.drop 0 = dktX3_init_0 := by decide +kernel
theorem dksX3_init_1 : cX3_init.data.toList.drop 23 = dktX3_init_1 := dk_seg dksX3_init_0 23 rfl rfl
theorem dksX3_init_2 : cX3_init.data.toList.drop 45 = dktX3_init_2 := dk_seg dksX3_init_1 22 rfl rfl
theorem dksX3_init_3 : cX3_init.data.toList.drop 69 = dktX3_init_3 := dk_seg dksX3_init_2 24 rfl rfl
theorem dksX3_init_4 : cX3_init.data.toList.drop 93 = dktX3_init_4 := dk_seg dksX3_init_3 24 rfl rfl
theorem dksX3_init_5 : cX3_init.data.toList.drop 116 = dktX3_init_5 := dk_seg dksX3_init_4 23 rfl rfl
theorem dksX3_init_6 : cX3_init.data.toList.drop 140 = dktX3_init_6 := dk_seg dksX3_init_5 24 rfl rfl
theorem dksX3_init_7 : cX3_init.data.toList.drop 164 = dktX3_init_7 := dk_seg dksX3_init_6 24 rfl rfl
theorem dksX3_init_8 : cX3_init.data.toList.drop 188 = dktX3_init_8 := dk_seg dksX3_init_7 24 rfl rfl
theorem dksX3_init_9 : cX3_init.data.toList.drop 212 = dktX3_init_9 := dk_seg dksX3_init_8 24 rfl rfl
theorem dksX3_init_10 : cX3_init.data.toList.drop 235 = dktX3_init_10 := dk_seg dksX3_init_9 23 rfl rfl
theorem dksX3_init_11 : cX3_init.data.toList.drop 259 = dktX3_init_11 := dk_seg dksX3_init_10 24 rfl rfl
theorem dksX3_init_12 : cX3_init.data.toList.drop 282 = dktX3_init_12 := dk_seg dksX3_init_11 23 rfl rfl
theorem dksX3_init_13 : cX3_init.data.toList.drop 306 = dktX3_init_13 := dk_seg dksX3_init_12 24 rfl rfl
theorem dX3_init_0 : decode cX3_init 0 = .ok (.aload_n 0, 1) := dk_42 (dk_at dksX3_init_0 0 rfl rfl)
theorem dX3_init_1 : decode cX3_init 1 = .ok (.invokespecial 1, 3) := dk_183 0 1 (dk_at dksX3_init_0 1 rfl rfl)
theorem dX3_init_4 : decode cX3_init 4 = .ok (.aload_n 0, 1) := dk_42 (dk_at dksX3_init_0 4 rfl rfl)
theorem dX3_init_5 : decode cX3_init 5 = .ok (.sipush 1448, 3) := dk_17 5 168 (dk_at dksX3_init_0 5 rfl rfl)
theorem dX3_init_8 : decode cX3_init 8 = .ok (.newarray .int, 2) := dk_188_10 (dk_at dksX3_init_0 8 rfl rfl)
theorem dX3_init_10 : decode cX3_init 10 = .ok (.putfield 9, 3) := dk_181 0 9 (dk_at dksX3_init_0 10 rfl rfl)
theorem dX3_init_13 : decode cX3_init 13 = .ok (.aload_n 0, 1) := dk_42 (dk_at dksX3_init_0 13 rfl rfl)
theorem dX3_init_14 : decode cX3_init 14 = .ok (.sipush 1448, 3) := dk_17 5 168 (dk_at dksX3_init_0 14 rfl rfl)
theorem dX3_init_17 : decode cX3_init 17 = .ok (.newarray .int, 2) := dk_188_10 (dk_at dksX3_init_0 17 rfl rfl)
theorem dX3_init_19 : decode cX3_init 19 = .ok (.putfield 13, 3) := dk_181 0 13 (dk_at dksX3_init_0 19 rfl rfl)
theorem dX3_init_22 : decode cX3_init 22 = .ok (.aload_n 0, 1) := dk_42 (dk_at dksX3_init_0 22 rfl rfl)
theorem dX3_init_23 : decode cX3_init 23 = .ok (.sipush 1448, 3) := dk_17 5 168 (dk_at dksX3_init_1 0 rfl rfl)
theorem dX3_init_26 : decode cX3_init 26 = .ok (.newarray .int, 2) := dk_188_10 (dk_at dksX3_init_1 3 rfl rfl)
theorem dX3_init_28 : decode cX3_init 28 = .ok (.putfield 16, 3) := dk_181 0 16 (dk_at dksX3_init_1 5 rfl rfl)
theorem dX3_init_31 : decode cX3_init 31 = .ok (.aload_n 0, 1) := dk_42 (dk_at dksX3_init_1 8 rfl rfl)
theorem dX3_init_32 : decode cX3_init 32 = .ok (.bipush 100, 2) := dk_16 100 (dk_at dksX3_init_1 9 rfl rfl)
theorem dX3_init_34 : decode cX3_init 34 = .ok (.newarray .int, 2) := dk_188_10 (dk_at dksX3_init_1 11 rfl rfl)
theorem dX3_init_36 : decode cX3_init 36 = .ok (.putfield 19, 3) := dk_181 0 19 (dk_at dksX3_init_1 13 rfl rfl)
theorem dX3_init_39 : decode cX3_init 39 = .ok (.aload_n 0, 1) := dk_42 (dk_at dksX3_init_1 16 rfl rfl)
theorem dX3_init_40 : decode cX3_init 40 = .ok (.sipush 1024, 3) := dk_17 4 0 (dk_at dksX3_init_1 17 rfl rfl)
theorem dX3_init_43 : decode cX3_init 43 = .ok (.newarray .int, 2) := dk_188_10 (dk_at dksX3_init_1 20 rfl rfl)
theorem dX3_init_45 : decode cX3_init 45 = .ok (.putfield 22, 3) := dk_181 0 22 (dk_at dksX3_init_2 0 rfl rfl)
theorem dX3_init_48 : decode cX3_init 48 = .ok (.aload_n 0, 1) := dk_42 (dk_at dksX3_init_2 3 rfl rfl)
theorem dX3_init_49 : decode cX3_init 49 = .ok (.bipush 76, 2) := dk_16 76 (dk_at dksX3_init_2 4 rfl rfl)
theorem dX3_init_51 : decode cX3_init 51 = .ok (.newarray .int, 2) := dk_188_10 (dk_at dksX3_init_2 6 rfl rfl)
theorem dX3_init_53 : decode cX3_init 53 = .ok (.putfield 25, 3) := dk_181 0 25 (dk_at dksX3_init_2 8 rfl rfl)
theorem dX3_init_56 : decode cX3_init 56 = .ok (.aload_n 0, 1) := dk_42 (dk_at dksX3_init_2 11 rfl rfl)
theorem dX3_init_57 : decode cX3_init 57 = .ok (.bipush 25, 2) := dk_16 25 (dk_at dksX3_init_2 12 rfl rfl)
theorem dX3_init_59 : decode cX3_init 59 = .ok (.newarray .int, 2) := dk_188_10 (dk_at dksX3_init_2 14 rfl rfl)
theorem dX3_init_61 : decode cX3_init 61 = .ok (.putfield 28, 3) := dk_181 0 28 (dk_at dksX3_init_2 16 rfl rfl)
theorem dX3_init_64 : decode cX3_init 64 = .ok (.aload_n 0, 1) := dk_42 (dk_at dksX3_init_2 19 rfl rfl)
theorem dX3_init_65 : decode cX3_init 65 = .ok (.bipush 96, 2) := dk_16 96 (dk_at dksX3_init_2 20 rfl rfl)
theorem dX3_init_67 : decode cX3_init 67 = .ok (.newarray .int, 2) := dk_188_10 (dk_at dksX3_init_2 22 rfl rfl)
theorem dX3_init_69 : decode cX3_init 69 = .ok (.putfield 31, 3) := dk_181 0 31 (dk_at dksX3_init_3 0 rfl rfl)
theorem dX3_init_72 : decode cX3_init 72 = .ok (.aload_n 0, 1) := dk_42 (dk_at dksX3_init_3 3 rfl rfl)
theorem dX3_init_73 : decode cX3_init 73 = .ok (.bipush 12, 2) := dk_16 12 (dk_at dksX3_init_3 4 rfl rfl)
theorem dX3_init_75 : decode cX3_init 75 = .ok (.newarray .char, 2) := dk_188_5 (dk_at dksX3_init_3 6 rfl rfl)
theorem dX3_init_77 : decode cX3_init 77 = .ok (.dup, 1) := dk_89 (dk_at dksX3_init_3 8 rfl rfl)
theorem dX3_init_78 : decode cX3_init 78 = .ok (.iconst 0, 1) := dk_3 (dk_at dksX3_init_3 9 rfl rfl)
theorem dX3_init_79 : decode cX3_init 79 = .ok (.bipush 112, 2) := dk_16 112 (dk_at dksX3_init_3 10 rfl rfl)
theorem dX3_init_81 : decode cX3_init 81 = .ok (.castore, 1) := dk_85 (dk_at dksX3_init_3 12 rfl rfl)
theorem dX3_init_82 : decode cX3_init 82 = .ok (.dup, 1) := dk_89 (dk_at dksX3_init_3 13 rfl rfl)
theorem dX3_init_83 : decode cX3_init 83 = .ok (.iconst 1, 1) := dk_4 (dk_at dksX3_init_3 14 rfl rfl)
theorem dX3_init_84 : decode cX3_init 84 = .ok (.bipush 97, 2) := dk_16 97 (dk_at dksX3_init_3 15 rfl rfl)
theorem dX3_init_86 : decode cX3_init 86 = .ok (.castore, 1) := dk_85 (dk_at dksX3_init_3 17 rfl rfl)
theorem dX3_init_87 : decode cX3_init 87 = .ok (.dup, 1) := dk_89 (dk_at dksX3_init_3 18 rfl rfl)
theorem dX3_init_88 : decode cX3_init 88 = .ok (.iconst 2, 1) := dk_5 (dk_at dksX3_init_3 19 rfl rfl)
theorem dX3_init_89 : decode cX3_init 89 = .ok (.bipush 105, 2) := dk_16 105 (dk_at dksX3_init_3 20 rfl rfl)
theorem dX3_init_91 : decode cX3_init 91 = .ok (.castore, 1) := dk_85 (dk_at dksX3_init_3 22 rfl rfl)
theorem dX3_init_92 : decode cX3_init 92 = .ok (.dup, 1) := dk_89 (dk_at dksX3_init_3 23 rfl rfl)
theorem dX3_init_93 : decode cX3_init 93 = .ok (.iconst 3, 1) := dk_6 (dk_at dksX3_init_4 0 rfl rfl)
theorem dX3_init_94 : decode cX3_init 94 = .ok (.bipush 114, 2) := dk_16 114 (dk_at dksX3_init_4 1 rfl rfl)
theorem dX3_init_96 : decode cX3_init 96 = .ok (.castore, 1) := dk_85 (dk_at dksX3_init_4 3 rfl rfl)
theorem dX3_init_97 : decode cX3_init 97 = .ok (.dup, 1) := dk_89 (dk_at dksX3_init_4 4 rfl rfl)
theorem dX3_init_98 : decode cX3_init 98 = .ok (.iconst 4, 1) := dk_7 (dk_at dksX3_init_4 5 rfl rfl)
theorem dX3_init_99 : decode cX3_init 99 = .ok (.bipush 119, 2) := dk_16 119 (dk_at dksX3_init_4 6 rfl rfl)
theorem dX3_init_101 : decode cX3_init 101 = .ok (.castore, 1) := dk_85 (dk_at dksX3_init_4 8 rfl rfl)
theorem dX3_init_102 : decode cX3_init 102 = .ok (.dup, 1) := dk_89 (dk_at dksX3_init_4 9 rfl rfl)
theorem dX3_init_103 : decode cX3_init 103 = .ok (.iconst 5, 1) := dk_8 (dk_at dksX3_init_4 10 rfl rfl)
theorem dX3_init_104 : decode cX3_init 104 = .ok (.bipush 101, 2) := dk_16 101 (dk_at dksX3_init_4 11 rfl rfl)
theorem dX3_init_106 : decode cX3_init 106 = .ok (.castore, 1) := dk_85 (dk_at dksX3_init_4 13 rfl rfl)
theorem dX3_init_107 : decode cX3_init 107 = .ok (.dup, 1) := dk_89 (dk_at dksX3_init_4 14 rfl rfl)
theorem dX3_init_108 : decode cX3_init 108 = .ok (.bipush 6, 2) := dk_16 6 (dk_at dksX3_init_4 15 rfl rfl)
theorem dX3_init_110 : decode cX3_init 110 = .ok (.bipush 97, 2) := dk_16 97 (dk_at dksX3_init_4 17 rfl rfl)
theorem dX3_init_112 : decode cX3_init 112 = .ok (.castore, 1) := dk_85 (dk_at dksX3_init_4 19 rfl rfl)
theorem dX3_init_113 : decode cX3_init 113 = .ok (.dup, 1) := dk_89 (dk_at dksX3_init_4 20 rfl rfl)
theorem dX3_init_114 : decode cX3_init 114 = .ok (.bipush 7, 2) := dk_16 7 (dk_at dksX3_init_4 21 rfl rfl)
theorem dX3_init_116 : decode cX3_init 116 = .ok (.bipush 114, 2) := dk_16 114 (dk_at dksX3_init_5 0 rfl rfl)
theorem dX3_init_118 : decode cX3_init 118 = .ok (.castore, 1) := dk_85 (dk_at dksX3_init_5 2 rfl rfl)
theorem dX3_init_119 : decode cX3_init 119 = .ok (.dup, 1) := dk_89 (dk_at dksX3_init_5 3 rfl rfl)
theorem dX3_init_120 : decode cX3_init 120 = .ok (.bipush 8, 2) := dk_16 8 (dk_at dksX3_init_5 4 rfl rfl)
theorem dX3_init_122 : decode cX3_init 122 = .ok (.bipush 102, 2) := dk_16 102 (dk_at dksX3_init_5 6 rfl rfl)
theorem dX3_init_124 : decode cX3_init 124 = .ok (.castore, 1) := dk_85 (dk_at dksX3_init_5 8 rfl rfl)
theorem dX3_init_125 : decode cX3_init 125 = .ok (.dup, 1) := dk_89 (dk_at dksX3_init_5 9 rfl rfl)
theorem dX3_init_126 : decode cX3_init 126 = .ok (.bipush 9, 2) := dk_16 9 (dk_at dksX3_init_5 10 rfl rfl)
theorem dX3_init_128 : decode cX3_init 128 = .ok (.bipush 105, 2) := dk_16 105 (dk_at dksX3_init_5 12 rfl rfl)
theorem dX3_init_130 : decode cX3_init 130 = .ok (.castore, 1) := dk_85 (dk_at dksX3_init_5 14 rfl rfl)
theorem dX3_init_131 : decode cX3_init 131 = .ok (.dup, 1) := dk_89 (dk_at dksX3_init_5 15 rfl rfl)
theorem dX3_init_132 : decode cX3_init 132 = .ok (.bipush 10, 2) := dk_16 10 (dk_at dksX3_init_5 16 rfl rfl)
theorem dX3_init_134 : decode cX3_init 134 = .ok (.bipush 110, 2) := dk_16 110 (dk_at dksX3_init_5 18 rfl rfl)
theorem dX3_init_136 : decode cX3_init 136 = .ok (.castore, 1) := dk_85 (dk_at dksX3_init_5 20 rfl rfl)
theorem dX3_init_137 : decode cX3_init 137 = .ok (.dup, 1) := dk_89 (dk_at dksX3_init_5 21 rfl rfl)
theorem dX3_init_138 : decode cX3_init 138 = .ok (.bipush 11, 2) := dk_16 11 (dk_at dksX3_init_5 22 rfl rfl)
theorem dX3_init_140 : decode cX3_init 140 = .ok (.bipush 101, 2) := dk_16 101 (dk_at dksX3_init_6 0 rfl rfl)
theorem dX3_init_142 : decode cX3_init 142 = .ok (.castore, 1) := dk_85 (dk_at dksX3_init_6 2 rfl rfl)
theorem dX3_init_143 : decode cX3_init 143 = .ok (.putfield 34, 3) := dk_181 0 34 (dk_at dksX3_init_6 3 rfl rfl)
theorem dX3_init_146 : decode cX3_init 146 = .ok (.aload_n 0, 1) := dk_42 (dk_at dksX3_init_6 6 rfl rfl)
theorem dX3_init_147 : decode cX3_init 147 = .ok (.iconst 4, 1) := dk_7 (dk_at dksX3_init_6 7 rfl rfl)
theorem dX3_init_148 : decode cX3_init 148 = .ok (.newarray .int, 2) := dk_188_10 (dk_at dksX3_init_6 8 rfl rfl)
theorem dX3_init_150 : decode cX3_init 150 = .ok (.dup, 1) := dk_89 (dk_at dksX3_init_6 10 rfl rfl)
theorem dX3_init_151 : decode cX3_init 151 = .ok (.iconst 0, 1) := dk_3 (dk_at dksX3_init_6 11 rfl rfl)
theorem dX3_init_152 : decode cX3_init 152 = .ok (.iconst 0, 1) := dk_3 (dk_at dksX3_init_6 12 rfl rfl)
theorem dX3_init_153 : decode cX3_init 153 = .ok (.iastore, 1) := dk_79 (dk_at dksX3_init_6 13 rfl rfl)
theorem dX3_init_154 : decode cX3_init 154 = .ok (.dup, 1) := dk_89 (dk_at dksX3_init_6 14 rfl rfl)
theorem dX3_init_155 : decode cX3_init 155 = .ok (.iconst 1, 1) := dk_4 (dk_at dksX3_init_6 15 rfl rfl)
theorem dX3_init_156 : decode cX3_init 156 = .ok (.iconst 4, 1) := dk_7 (dk_at dksX3_init_6 16 rfl rfl)
theorem dX3_init_157 : decode cX3_init 157 = .ok (.iastore, 1) := dk_79 (dk_at dksX3_init_6 17 rfl rfl)
theorem dX3_init_158 : decode cX3_init 158 = .ok (.dup, 1) := dk_89 (dk_at dksX3_init_6 18 rfl rfl)
theorem dX3_init_159 : decode cX3_init 159 = .ok (.iconst 2, 1) := dk_5 (dk_at dksX3_init_6 19 rfl rfl)
theorem dX3_init_160 : decode cX3_init 160 = .ok (.bipush 8, 2) := dk_16 8 (dk_at dksX3_init_6 20 rfl rfl)
theorem dX3_init_162 : decode cX3_init 162 = .ok (.iastore, 1) := dk_79 (dk_at dksX3_init_6 22 rfl rfl)
theorem dX3_init_163 : decode cX3_init 163 = .ok (.dup, 1) := dk_89 (dk_at dksX3_init_6 23 rfl rfl)
theorem dX3_init_164 : decode cX3_init 164 = .ok (.iconst 3, 1) := dk_6 (dk_at dksX3_init_7 0 rfl rfl)
theorem dX3_init_165 : decode cX3_init 165 = .ok (.bipush 12, 2) := dk_16 12 (dk_at dksX3_init_7 1 rfl rfl)
theorem dX3_init_167 : decode cX3_init 167 = .ok (.iastore, 1) := dk_79 (dk_at dksX3_init_7 3 rfl rfl)
theorem dX3_init_168 : decode cX3_init 168 = .ok (.putfield 38, 3) := dk_181 0 38 (dk_at dksX3_init_7 4 rfl rfl)
theorem dX3_init_171 : decode cX3_init 171 = .ok (.aload_n 0, 1) := dk_42 (dk_at dksX3_init_7 7 rfl rfl)
theorem dX3_init_172 : decode cX3_init 172 = .ok (.bipush 96, 2) := dk_16 96 (dk_at dksX3_init_7 8 rfl rfl)
theorem dX3_init_174 : decode cX3_init 174 = .ok (.newarray .int, 2) := dk_188_10 (dk_at dksX3_init_7 10 rfl rfl)
theorem dX3_init_176 : decode cX3_init 176 = .ok (.putfield 41, 3) := dk_181 0 41 (dk_at dksX3_init_7 12 rfl rfl)
theorem dX3_init_179 : decode cX3_init 179 = .ok (.aload_n 0, 1) := dk_42 (dk_at dksX3_init_7 15 rfl rfl)
theorem dX3_init_180 : decode cX3_init 180 = .ok (.bipush 96, 2) := dk_16 96 (dk_at dksX3_init_7 16 rfl rfl)
theorem dX3_init_182 : decode cX3_init 182 = .ok (.newarray .int, 2) := dk_188_10 (dk_at dksX3_init_7 18 rfl rfl)
theorem dX3_init_184 : decode cX3_init 184 = .ok (.putfield 44, 3) := dk_181 0 44 (dk_at dksX3_init_7 20 rfl rfl)
theorem dX3_init_187 : decode cX3_init 187 = .ok (.aload_n 0, 1) := dk_42 (dk_at dksX3_init_7 23 rfl rfl)
theorem dX3_init_188 : decode cX3_init 188 = .ok (.bipush 10, 2) := dk_16 10 (dk_at dksX3_init_8 0 rfl rfl)
theorem dX3_init_190 : decode cX3_init 190 = .ok (.newarray .boolean, 2) := dk_188_4 (dk_at dksX3_init_8 2 rfl rfl)
theorem dX3_init_192 : decode cX3_init 192 = .ok (.putfield 47, 3) := dk_181 0 47 (dk_at dksX3_init_8 4 rfl rfl)
theorem dX3_init_195 : decode cX3_init 195 = .ok (.aload_n 0, 1) := dk_42 (dk_at dksX3_init_8 7 rfl rfl)
theorem dX3_init_196 : decode cX3_init 196 = .ok (.bipush 96, 2) := dk_16 96 (dk_at dksX3_init_8 8 rfl rfl)
theorem dX3_init_198 : decode cX3_init 198 = .ok (.newarray .int, 2) := dk_188_10 (dk_at dksX3_init_8 10 rfl rfl)
theorem dX3_init_200 : decode cX3_init 200 = .ok (.putfield 51, 3) := dk_181 0 51 (dk_at dksX3_init_8 12 rfl rfl)
theorem dX3_init_203 : decode cX3_init 203 = .ok (.aload_n 0, 1) := dk_42 (dk_at dksX3_init_8 15 rfl rfl)
theorem dX3_init_204 : decode cX3_init 204 = .ok (.iconst 4, 1) := dk_7 (dk_at dksX3_init_8 16 rfl rfl)
theorem dX3_init_205 : decode cX3_init 205 = .ok (.newarray .int, 2) := dk_188_10 (dk_at dksX3_init_8 17 rfl rfl)
theorem dX3_init_207 : decode cX3_init 207 = .ok (.putfield 54, 3) := dk_181 0 54 (dk_at dksX3_init_8 19 rfl rfl)
theorem dX3_init_210 : decode cX3_init 210 = .ok (.aload_n 0, 1) := dk_42 (dk_at dksX3_init_8 22 rfl rfl)
theorem dX3_init_211 : decode cX3_init 211 = .ok (.iconst 4, 1) := dk_7 (dk_at dksX3_init_8 23 rfl rfl)
theorem dX3_init_212 : decode cX3_init 212 = .ok (.newarray .int, 2) := dk_188_10 (dk_at dksX3_init_9 0 rfl rfl)
theorem dX3_init_214 : decode cX3_init 214 = .ok (.dup, 1) := dk_89 (dk_at dksX3_init_9 2 rfl rfl)
theorem dX3_init_215 : decode cX3_init 215 = .ok (.iconst 0, 1) := dk_3 (dk_at dksX3_init_9 3 rfl rfl)
theorem dX3_init_216 : decode cX3_init 216 = .ok (.iconst (-1), 1) := dk_2 (dk_at dksX3_init_9 4 rfl rfl)
theorem dX3_init_217 : decode cX3_init 217 = .ok (.iastore, 1) := dk_79 (dk_at dksX3_init_9 5 rfl rfl)
theorem dX3_init_218 : decode cX3_init 218 = .ok (.dup, 1) := dk_89 (dk_at dksX3_init_9 6 rfl rfl)
theorem dX3_init_219 : decode cX3_init 219 = .ok (.iconst 1, 1) := dk_4 (dk_at dksX3_init_9 7 rfl rfl)
theorem dX3_init_220 : decode cX3_init 220 = .ok (.iconst (-1), 1) := dk_2 (dk_at dksX3_init_9 8 rfl rfl)
theorem dX3_init_221 : decode cX3_init 221 = .ok (.iastore, 1) := dk_79 (dk_at dksX3_init_9 9 rfl rfl)
theorem dX3_init_222 : decode cX3_init 222 = .ok (.dup, 1) := dk_89 (dk_at dksX3_init_9 10 rfl rfl)
theorem dX3_init_223 : decode cX3_init 223 = .ok (.iconst 2, 1) := dk_5 (dk_at dksX3_init_9 11 rfl rfl)
theorem dX3_init_224 : decode cX3_init 224 = .ok (.iconst (-1), 1) := dk_2 (dk_at dksX3_init_9 12 rfl rfl)
theorem dX3_init_225 : decode cX3_init 225 = .ok (.iastore, 1) := dk_79 (dk_at dksX3_init_9 13 rfl rfl)
theorem dX3_init_226 : decode cX3_init 226 = .ok (.dup, 1) := dk_89 (dk_at dksX3_init_9 14 rfl rfl)
theorem dX3_init_227 : decode cX3_init 227 = .ok (.iconst 3, 1) := dk_6 (dk_at dksX3_init_9 15 rfl rfl)
theorem dX3_init_228 : decode cX3_init 228 = .ok (.iconst (-1), 1) := dk_2 (dk_at dksX3_init_9 16 rfl rfl)
theorem dX3_init_229 : decode cX3_init 229 = .ok (.iastore, 1) := dk_79 (dk_at dksX3_init_9 17 rfl rfl)
theorem dX3_init_230 : decode cX3_init 230 = .ok (.putfield 57, 3) := dk_181 0 57 (dk_at dksX3_init_9 18 rfl rfl)
theorem dX3_init_233 : decode cX3_init 233 = .ok (.aload_n 0, 1) := dk_42 (dk_at dksX3_init_9 21 rfl rfl)
theorem dX3_init_234 : decode cX3_init 234 = .ok (.iconst 4, 1) := dk_7 (dk_at dksX3_init_9 22 rfl rfl)
theorem dX3_init_235 : decode cX3_init 235 = .ok (.newarray .int, 2) := dk_188_10 (dk_at dksX3_init_10 0 rfl rfl)
theorem dX3_init_237 : decode cX3_init 237 = .ok (.putfield 60, 3) := dk_181 0 60 (dk_at dksX3_init_10 2 rfl rfl)
theorem dX3_init_240 : decode cX3_init 240 = .ok (.aload_n 0, 1) := dk_42 (dk_at dksX3_init_10 5 rfl rfl)
theorem dX3_init_241 : decode cX3_init 241 = .ok (.bipush 96, 2) := dk_16 96 (dk_at dksX3_init_10 6 rfl rfl)
theorem dX3_init_243 : decode cX3_init 243 = .ok (.newarray .int, 2) := dk_188_10 (dk_at dksX3_init_10 8 rfl rfl)
theorem dX3_init_245 : decode cX3_init 245 = .ok (.putfield 63, 3) := dk_181 0 63 (dk_at dksX3_init_10 10 rfl rfl)
theorem dX3_init_248 : decode cX3_init 248 = .ok (.aload_n 0, 1) := dk_42 (dk_at dksX3_init_10 13 rfl rfl)
theorem dX3_init_249 : decode cX3_init 249 = .ok (.iconst 5, 1) := dk_8 (dk_at dksX3_init_10 14 rfl rfl)
theorem dX3_init_250 : decode cX3_init 250 = .ok (.newarray .int, 2) := dk_188_10 (dk_at dksX3_init_10 15 rfl rfl)
theorem dX3_init_252 : decode cX3_init 252 = .ok (.putfield 66, 3) := dk_181 0 66 (dk_at dksX3_init_10 17 rfl rfl)
theorem dX3_init_255 : decode cX3_init 255 = .ok (.aload_n 0, 1) := dk_42 (dk_at dksX3_init_10 20 rfl rfl)
theorem dX3_init_256 : decode cX3_init 256 = .ok (.iconst 5, 1) := dk_8 (dk_at dksX3_init_10 21 rfl rfl)
theorem dX3_init_257 : decode cX3_init 257 = .ok (.newarray .int, 2) := dk_188_10 (dk_at dksX3_init_10 22 rfl rfl)
theorem dX3_init_259 : decode cX3_init 259 = .ok (.putfield 69, 3) := dk_181 0 69 (dk_at dksX3_init_11 0 rfl rfl)
theorem dX3_init_262 : decode cX3_init 262 = .ok (.aload_n 0, 1) := dk_42 (dk_at dksX3_init_11 3 rfl rfl)
theorem dX3_init_263 : decode cX3_init 263 = .ok (.iconst 5, 1) := dk_8 (dk_at dksX3_init_11 4 rfl rfl)
theorem dX3_init_264 : decode cX3_init 264 = .ok (.newarray .int, 2) := dk_188_10 (dk_at dksX3_init_11 5 rfl rfl)
theorem dX3_init_266 : decode cX3_init 266 = .ok (.putfield 72, 3) := dk_181 0 72 (dk_at dksX3_init_11 7 rfl rfl)
theorem dX3_init_269 : decode cX3_init 269 = .ok (.aload_n 0, 1) := dk_42 (dk_at dksX3_init_11 10 rfl rfl)
theorem dX3_init_270 : decode cX3_init 270 = .ok (.bipush 120, 2) := dk_16 120 (dk_at dksX3_init_11 11 rfl rfl)
theorem dX3_init_272 : decode cX3_init 272 = .ok (.newarray .int, 2) := dk_188_10 (dk_at dksX3_init_11 13 rfl rfl)
theorem dX3_init_274 : decode cX3_init 274 = .ok (.putfield 75, 3) := dk_181 0 75 (dk_at dksX3_init_11 15 rfl rfl)
theorem dX3_init_277 : decode cX3_init 277 = .ok (.aload_n 0, 1) := dk_42 (dk_at dksX3_init_11 18 rfl rfl)
theorem dX3_init_278 : decode cX3_init 278 = .ok (.bipush 24, 2) := dk_16 24 (dk_at dksX3_init_11 19 rfl rfl)
theorem dX3_init_280 : decode cX3_init 280 = .ok (.newarray .int, 2) := dk_188_10 (dk_at dksX3_init_11 21 rfl rfl)
theorem dX3_init_282 : decode cX3_init 282 = .ok (.putfield 78, 3) := dk_181 0 78 (dk_at dksX3_init_12 0 rfl rfl)
theorem dX3_init_285 : decode cX3_init 285 = .ok (.aload_n 0, 1) := dk_42 (dk_at dksX3_init_12 3 rfl rfl)
theorem dX3_init_286 : decode cX3_init 286 = .ok (.bipush 60, 2) := dk_16 60 (dk_at dksX3_init_12 4 rfl rfl)
theorem dX3_init_288 : decode cX3_init 288 = .ok (.newarray .int, 2) := dk_188_10 (dk_at dksX3_init_12 6 rfl rfl)
theorem dX3_init_290 : decode cX3_init 290 = .ok (.putfield 81, 3) := dk_181 0 81 (dk_at dksX3_init_12 8 rfl rfl)
theorem dX3_init_293 : decode cX3_init 293 = .ok (.aload_n 0, 1) := dk_42 (dk_at dksX3_init_12 11 rfl rfl)
theorem dX3_init_294 : decode cX3_init 294 = .ok (.getfield 9, 3) := dk_180 0 9 (dk_at dksX3_init_12 12 rfl rfl)
theorem dX3_init_297 : decode cX3_init 297 = .ok (.iconst 0, 1) := dk_3 (dk_at dksX3_init_12 15 rfl rfl)
theorem dX3_init_298 : decode cX3_init 298 = .ok (.iconst 1, 1) := dk_4 (dk_at dksX3_init_12 16 rfl rfl)
theorem dX3_init_299 : decode cX3_init 299 = .ok (.iastore, 1) := dk_79 (dk_at dksX3_init_12 17 rfl rfl)
theorem dX3_init_300 : decode cX3_init 300 = .ok (.aload_n 0, 1) := dk_42 (dk_at dksX3_init_12 18 rfl rfl)
theorem dX3_init_301 : decode cX3_init 301 = .ok (.getfield 9, 3) := dk_180 0 9 (dk_at dksX3_init_12 19 rfl rfl)
theorem dX3_init_304 : decode cX3_init 304 = .ok (.iconst 3, 1) := dk_6 (dk_at dksX3_init_12 22 rfl rfl)
theorem dX3_init_305 : decode cX3_init 305 = .ok (.iconst 5, 1) := dk_8 (dk_at dksX3_init_12 23 rfl rfl)
theorem dX3_init_306 : decode cX3_init 306 = .ok (.iastore, 1) := dk_79 (dk_at dksX3_init_13 0 rfl rfl)
theorem dX3_init_307 : decode cX3_init 307 = .ok (.return_, 1) := dk_177 (dk_at dksX3_init_13 1 rfl rfl)
abbrev cX3_glove : ByteArray := prog_22_method_12_code
def yX3_glove : MethodName := ⟨RX3, "glove", "(IIII)I"⟩
def dkwX3_glove_2 : List UInt8 := [4, 46, 16, 10, 160, 0, 8, 18, 94, 167, 0, 12, 42, 27, 28, 29, 21, 4, 182, 0, 95, 172]
abbrev dktX3_glove_2 : List UInt8 := dkwX3_glove_2 ++ []
def dkwX3_glove_1 : List UInt8 := [184, 0, 85, 153, 0, 14, 21, 4, 3, 16, 99, 184, 0, 85, 154, 0, 6, 18, 93, 172, 42, 180, 0, 9]
abbrev dktX3_glove_1 : List UInt8 := dkwX3_glove_1 ++ dktX3_glove_2
def dkwX3_glove_0 : List UInt8 := [27, 3, 8, 184, 0, 85, 153, 0, 33, 28, 3, 4, 184, 0, 85, 153, 0, 24, 29, 3, 16, 9]
abbrev dktX3_glove_0 : List UInt8 := dkwX3_glove_0 ++ dktX3_glove_1
theorem dksX3_glove_0 : cX3_glove.data.toList.drop 0 = dktX3_glove_0 := by decide +kernel
theorem dksX3_glove_1 : cX3_glove.data.toList.drop 22 = dktX3_glove_1 := dk_seg dksX3_glove_0 22 rfl rfl
theorem dksX3_glove_2 : cX3_glove.data.toList.drop 46 = dktX3_glove_2 := dk_seg dksX3_glove_1 24 rfl rfl
theorem dX3_glove_0 : decode cX3_glove 0 = .ok (.iload_n 1, 1) := dk_27 (dk_at dksX3_glove_0 0 rfl rfl)
theorem dX3_glove_1 : decode cX3_glove 1 = .ok (.iconst 0, 1) := dk_3 (dk_at dksX3_glove_0 1 rfl rfl)
theorem dX3_glove_2 : decode cX3_glove 2 = .ok (.iconst 5, 1) := dk_8 (dk_at dksX3_glove_0 2 rfl rfl)
theorem dX3_glove_3 : decode cX3_glove 3 = .ok (.invokestatic 85, 3) := dk_184 0 85 (dk_at dksX3_glove_0 3 rfl rfl)
theorem dX3_glove_6 : decode cX3_glove 6 = .ok (.ifCond .eq 33, 3) := dk_153 0 33 (dk_at dksX3_glove_0 6 rfl rfl)
theorem dX3_glove_9 : decode cX3_glove 9 = .ok (.iload_n 2, 1) := dk_28 (dk_at dksX3_glove_0 9 rfl rfl)
theorem dX3_glove_10 : decode cX3_glove 10 = .ok (.iconst 0, 1) := dk_3 (dk_at dksX3_glove_0 10 rfl rfl)
theorem dX3_glove_11 : decode cX3_glove 11 = .ok (.iconst 1, 1) := dk_4 (dk_at dksX3_glove_0 11 rfl rfl)
theorem dX3_glove_12 : decode cX3_glove 12 = .ok (.invokestatic 85, 3) := dk_184 0 85 (dk_at dksX3_glove_0 12 rfl rfl)
theorem dX3_glove_15 : decode cX3_glove 15 = .ok (.ifCond .eq 24, 3) := dk_153 0 24 (dk_at dksX3_glove_0 15 rfl rfl)
theorem dX3_glove_18 : decode cX3_glove 18 = .ok (.iload_n 3, 1) := dk_29 (dk_at dksX3_glove_0 18 rfl rfl)
theorem dX3_glove_19 : decode cX3_glove 19 = .ok (.iconst 0, 1) := dk_3 (dk_at dksX3_glove_0 19 rfl rfl)
theorem dX3_glove_20 : decode cX3_glove 20 = .ok (.bipush 9, 2) := dk_16 9 (dk_at dksX3_glove_0 20 rfl rfl)
theorem dX3_glove_22 : decode cX3_glove 22 = .ok (.invokestatic 85, 3) := dk_184 0 85 (dk_at dksX3_glove_1 0 rfl rfl)
theorem dX3_glove_25 : decode cX3_glove 25 = .ok (.ifCond .eq 14, 3) := dk_153 0 14 (dk_at dksX3_glove_1 3 rfl rfl)
theorem dX3_glove_28 : decode cX3_glove 28 = .ok (.iload 4, 2) := dk_21 4 (dk_at dksX3_glove_1 6 rfl rfl)
theorem dX3_glove_30 : decode cX3_glove 30 = .ok (.iconst 0, 1) := dk_3 (dk_at dksX3_glove_1 8 rfl rfl)
theorem dX3_glove_31 : decode cX3_glove 31 = .ok (.bipush 99, 2) := dk_16 99 (dk_at dksX3_glove_1 9 rfl rfl)
theorem dX3_glove_33 : decode cX3_glove 33 = .ok (.invokestatic 85, 3) := dk_184 0 85 (dk_at dksX3_glove_1 11 rfl rfl)
theorem dX3_glove_36 : decode cX3_glove 36 = .ok (.ifCond .ne 6, 3) := dk_154 0 6 (dk_at dksX3_glove_1 14 rfl rfl)
theorem dX3_glove_39 : decode cX3_glove 39 = .ok (.ldc 93, 2) := dk_18 93 (dk_at dksX3_glove_1 17 rfl rfl)
theorem dX3_glove_41 : decode cX3_glove 41 = .ok (.ireturn, 1) := dk_172 (dk_at dksX3_glove_1 19 rfl rfl)
theorem dX3_glove_42 : decode cX3_glove 42 = .ok (.aload_n 0, 1) := dk_42 (dk_at dksX3_glove_1 20 rfl rfl)
theorem dX3_glove_43 : decode cX3_glove 43 = .ok (.getfield 9, 3) := dk_180 0 9 (dk_at dksX3_glove_1 21 rfl rfl)
theorem dX3_glove_46 : decode cX3_glove 46 = .ok (.iconst 1, 1) := dk_4 (dk_at dksX3_glove_2 0 rfl rfl)
theorem dX3_glove_47 : decode cX3_glove 47 = .ok (.iaload, 1) := dk_46 (dk_at dksX3_glove_2 1 rfl rfl)
theorem dX3_glove_48 : decode cX3_glove 48 = .ok (.bipush 10, 2) := dk_16 10 (dk_at dksX3_glove_2 2 rfl rfl)
theorem dX3_glove_50 : decode cX3_glove 50 = .ok (.if_icmp .ne 8, 3) := dk_160 0 8 (dk_at dksX3_glove_2 4 rfl rfl)
theorem dX3_glove_53 : decode cX3_glove 53 = .ok (.ldc 94, 2) := dk_18 94 (dk_at dksX3_glove_2 7 rfl rfl)
theorem dX3_glove_55 : decode cX3_glove 55 = .ok (.goto 12, 3) := dk_167 0 12 (dk_at dksX3_glove_2 9 rfl rfl)
theorem dX3_glove_58 : decode cX3_glove 58 = .ok (.aload_n 0, 1) := dk_42 (dk_at dksX3_glove_2 12 rfl rfl)
theorem dX3_glove_59 : decode cX3_glove 59 = .ok (.iload_n 1, 1) := dk_27 (dk_at dksX3_glove_2 13 rfl rfl)
theorem dX3_glove_60 : decode cX3_glove 60 = .ok (.iload_n 2, 1) := dk_28 (dk_at dksX3_glove_2 14 rfl rfl)
theorem dX3_glove_61 : decode cX3_glove 61 = .ok (.iload_n 3, 1) := dk_29 (dk_at dksX3_glove_2 15 rfl rfl)
theorem dX3_glove_62 : decode cX3_glove 62 = .ok (.iload 4, 2) := dk_21 4 (dk_at dksX3_glove_2 16 rfl rfl)
theorem dX3_glove_64 : decode cX3_glove 64 = .ok (.invokevirtual 95, 3) := dk_182 0 95 (dk_at dksX3_glove_2 18 rfl rfl)
theorem dX3_glove_67 : decode cX3_glove 67 = .ok (.ireturn, 1) := dk_172 (dk_at dksX3_glove_2 21 rfl rfl)
abbrev cX3_in : ByteArray := prog_22_method_2_code
def yX3_in : MethodName := ⟨RX3, "in", "(III)Z"⟩
def dkwX3_in_0 : List UInt8 := [26, 27, 161, 0, 12, 26, 28, 163, 0, 7, 4, 167, 0, 4, 3, 172]
abbrev dktX3_in_0 : List UInt8 := dkwX3_in_0 ++ []
theorem dksX3_in_0 : cX3_in.data.toList.drop 0 = dktX3_in_0 := by decide +kernel
theorem dX3_in_0 : decode cX3_in 0 = .ok (.iload_n 0, 1) := dk_26 (dk_at dksX3_in_0 0 rfl rfl)
theorem dX3_in_1 : decode cX3_in 1 = .ok (.iload_n 1, 1) := dk_27 (dk_at dksX3_in_0 1 rfl rfl)
theorem dX3_in_2 : decode cX3_in 2 = .ok (.if_icmp .lt 12, 3) := dk_161 0 12 (dk_at dksX3_in_0 2 rfl rfl)
theorem dX3_in_5 : decode cX3_in 5 = .ok (.iload_n 0, 1) := dk_26 (dk_at dksX3_in_0 5 rfl rfl)
theorem dX3_in_6 : decode cX3_in 6 = .ok (.iload_n 2, 1) := dk_28 (dk_at dksX3_in_0 6 rfl rfl)
theorem dX3_in_7 : decode cX3_in 7 = .ok (.if_icmp .gt 7, 3) := dk_163 0 7 (dk_at dksX3_in_0 7 rfl rfl)
theorem dX3_in_10 : decode cX3_in 10 = .ok (.iconst 1, 1) := dk_4 (dk_at dksX3_in_0 10 rfl rfl)
theorem dX3_in_11 : decode cX3_in 11 = .ok (.goto 4, 3) := dk_167 0 4 (dk_at dksX3_in_0 11 rfl rfl)
theorem dX3_in_14 : decode cX3_in 14 = .ok (.iconst 0, 1) := dk_3 (dk_at dksX3_in_0 14 rfl rfl)
theorem dX3_in_15 : decode cX3_in 15 = .ok (.ireturn, 1) := dk_172 (dk_at dksX3_in_0 15 rfl rfl)
abbrev cX3_comes : ByteArray := prog_22_method_10_code
def yX3_comes : MethodName := ⟨RX3, "comes", "(IIII)I"⟩
def dkwX3_comes_2 : List UInt8 := [182, 0, 89, 42, 21, 5, 8, 3, 182, 0, 89, 42, 180, 0, 9, 4, 92, 46, 4, 96, 79, 21, 5, 172]
abbrev dktX3_comes_2 : List UInt8 := dkwX3_comes_2 ++ []
def dkwX3_comes_1 : List UInt8 := [42, 21, 5, 5, 29, 182, 0, 89, 42, 21, 5, 6, 21, 4, 182, 0, 89, 42, 21, 5, 7, 3]
abbrev dktX3_comes_1 : List UInt8 := dkwX3_comes_1 ++ dktX3_comes_2
def dkwX3_comes_0 : List UInt8 := [42, 180, 0, 9, 4, 46, 54, 5, 42, 21, 5, 3, 27, 182, 0, 89, 42, 21, 5, 4, 28, 182, 0, 89]
abbrev dktX3_comes_0 : List UInt8 := dkwX3_comes_0 ++ dktX3_comes_1
theorem dksX3_comes_0 : cX3_comes.data.toList.drop 0 = dktX3_comes_0 := by decide +kernel
theorem dksX3_comes_1 : cX3_comes.data.toList.drop 24 = dktX3_comes_1 := dk_seg dksX3_comes_0 24 rfl rfl
theorem dksX3_comes_2 : cX3_comes.data.toList.drop 46 = dktX3_comes_2 := dk_seg dksX3_comes_1 22 rfl rfl
theorem dX3_comes_0 : decode cX3_comes 0 = .ok (.aload_n 0, 1) := dk_42 (dk_at dksX3_comes_0 0 rfl rfl)
theorem dX3_comes_1 : decode cX3_comes 1 = .ok (.getfield 9, 3) := dk_180 0 9 (dk_at dksX3_comes_0 1 rfl rfl)
theorem dX3_comes_4 : decode cX3_comes 4 = .ok (.iconst 1, 1) := dk_4 (dk_at dksX3_comes_0 4 rfl rfl)
theorem dX3_comes_5 : decode cX3_comes 5 = .ok (.iaload, 1) := dk_46 (dk_at dksX3_comes_0 5 rfl rfl)
theorem dX3_comes_6 : decode cX3_comes 6 = .ok (.istore 5, 2) := dk_54 5 (dk_at dksX3_comes_0 6 rfl rfl)
theorem dX3_comes_8 : decode cX3_comes 8 = .ok (.aload_n 0, 1) := dk_42 (dk_at dksX3_comes_0 8 rfl rfl)
theorem dX3_comes_9 : decode cX3_comes 9 = .ok (.iload 5, 2) := dk_21 5 (dk_at dksX3_comes_0 9 rfl rfl)
theorem dX3_comes_11 : decode cX3_comes 11 = .ok (.iconst 0, 1) := dk_3 (dk_at dksX3_comes_0 11 rfl rfl)
theorem dX3_comes_12 : decode cX3_comes 12 = .ok (.iload_n 1, 1) := dk_27 (dk_at dksX3_comes_0 12 rfl rfl)
theorem dX3_comes_13 : decode cX3_comes 13 = .ok (.invokevirtual 89, 3) := dk_182 0 89 (dk_at dksX3_comes_0 13 rfl rfl)
theorem dX3_comes_16 : decode cX3_comes 16 = .ok (.aload_n 0, 1) := dk_42 (dk_at dksX3_comes_0 16 rfl rfl)
theorem dX3_comes_17 : decode cX3_comes 17 = .ok (.iload 5, 2) := dk_21 5 (dk_at dksX3_comes_0 17 rfl rfl)
theorem dX3_comes_19 : decode cX3_comes 19 = .ok (.iconst 1, 1) := dk_4 (dk_at dksX3_comes_0 19 rfl rfl)
theorem dX3_comes_20 : decode cX3_comes 20 = .ok (.iload_n 2, 1) := dk_28 (dk_at dksX3_comes_0 20 rfl rfl)
theorem dX3_comes_21 : decode cX3_comes 21 = .ok (.invokevirtual 89, 3) := dk_182 0 89 (dk_at dksX3_comes_0 21 rfl rfl)
theorem dX3_comes_24 : decode cX3_comes 24 = .ok (.aload_n 0, 1) := dk_42 (dk_at dksX3_comes_1 0 rfl rfl)
theorem dX3_comes_25 : decode cX3_comes 25 = .ok (.iload 5, 2) := dk_21 5 (dk_at dksX3_comes_1 1 rfl rfl)
theorem dX3_comes_27 : decode cX3_comes 27 = .ok (.iconst 2, 1) := dk_5 (dk_at dksX3_comes_1 3 rfl rfl)
theorem dX3_comes_28 : decode cX3_comes 28 = .ok (.iload_n 3, 1) := dk_29 (dk_at dksX3_comes_1 4 rfl rfl)
theorem dX3_comes_29 : decode cX3_comes 29 = .ok (.invokevirtual 89, 3) := dk_182 0 89 (dk_at dksX3_comes_1 5 rfl rfl)
theorem dX3_comes_32 : decode cX3_comes 32 = .ok (.aload_n 0, 1) := dk_42 (dk_at dksX3_comes_1 8 rfl rfl)
theorem dX3_comes_33 : decode cX3_comes 33 = .ok (.iload 5, 2) := dk_21 5 (dk_at dksX3_comes_1 9 rfl rfl)
theorem dX3_comes_35 : decode cX3_comes 35 = .ok (.iconst 3, 1) := dk_6 (dk_at dksX3_comes_1 11 rfl rfl)
theorem dX3_comes_36 : decode cX3_comes 36 = .ok (.iload 4, 2) := dk_21 4 (dk_at dksX3_comes_1 12 rfl rfl)
theorem dX3_comes_38 : decode cX3_comes 38 = .ok (.invokevirtual 89, 3) := dk_182 0 89 (dk_at dksX3_comes_1 14 rfl rfl)
theorem dX3_comes_41 : decode cX3_comes 41 = .ok (.aload_n 0, 1) := dk_42 (dk_at dksX3_comes_1 17 rfl rfl)
theorem dX3_comes_42 : decode cX3_comes 42 = .ok (.iload 5, 2) := dk_21 5 (dk_at dksX3_comes_1 18 rfl rfl)
theorem dX3_comes_44 : decode cX3_comes 44 = .ok (.iconst 4, 1) := dk_7 (dk_at dksX3_comes_1 20 rfl rfl)
theorem dX3_comes_45 : decode cX3_comes 45 = .ok (.iconst 0, 1) := dk_3 (dk_at dksX3_comes_1 21 rfl rfl)
theorem dX3_comes_46 : decode cX3_comes 46 = .ok (.invokevirtual 89, 3) := dk_182 0 89 (dk_at dksX3_comes_2 0 rfl rfl)
theorem dX3_comes_49 : decode cX3_comes 49 = .ok (.aload_n 0, 1) := dk_42 (dk_at dksX3_comes_2 3 rfl rfl)
theorem dX3_comes_50 : decode cX3_comes 50 = .ok (.iload 5, 2) := dk_21 5 (dk_at dksX3_comes_2 4 rfl rfl)
theorem dX3_comes_52 : decode cX3_comes 52 = .ok (.iconst 5, 1) := dk_8 (dk_at dksX3_comes_2 6 rfl rfl)
theorem dX3_comes_53 : decode cX3_comes 53 = .ok (.iconst 0, 1) := dk_3 (dk_at dksX3_comes_2 7 rfl rfl)
theorem dX3_comes_54 : decode cX3_comes 54 = .ok (.invokevirtual 89, 3) := dk_182 0 89 (dk_at dksX3_comes_2 8 rfl rfl)
theorem dX3_comes_57 : decode cX3_comes 57 = .ok (.aload_n 0, 1) := dk_42 (dk_at dksX3_comes_2 11 rfl rfl)
theorem dX3_comes_58 : decode cX3_comes 58 = .ok (.getfield 9, 3) := dk_180 0 9 (dk_at dksX3_comes_2 12 rfl rfl)
theorem dX3_comes_61 : decode cX3_comes 61 = .ok (.iconst 1, 1) := dk_4 (dk_at dksX3_comes_2 15 rfl rfl)
theorem dX3_comes_62 : decode cX3_comes 62 = .ok (.dup2, 1) := dk_92 (dk_at dksX3_comes_2 16 rfl rfl)
theorem dX3_comes_63 : decode cX3_comes 63 = .ok (.iaload, 1) := dk_46 (dk_at dksX3_comes_2 17 rfl rfl)
theorem dX3_comes_64 : decode cX3_comes 64 = .ok (.iconst 1, 1) := dk_4 (dk_at dksX3_comes_2 18 rfl rfl)
theorem dX3_comes_65 : decode cX3_comes 65 = .ok (.iadd, 1) := dk_96 (dk_at dksX3_comes_2 19 rfl rfl)
theorem dX3_comes_66 : decode cX3_comes 66 = .ok (.iastore, 1) := dk_79 (dk_at dksX3_comes_2 20 rfl rfl)
theorem dX3_comes_67 : decode cX3_comes 67 = .ok (.iload 5, 2) := dk_21 5 (dk_at dksX3_comes_2 21 rfl rfl)
theorem dX3_comes_69 : decode cX3_comes 69 = .ok (.ireturn, 1) := dk_172 (dk_at dksX3_comes_2 23 rfl rfl)
abbrev cX3_put : ByteArray := prog_22_method_8_code
def yX3_put : MethodName := ⟨RX3, "put", "(III)V"⟩
def dkwX3_put_0 : List UInt8 := [42, 180, 0, 9, 16, 16, 16, 6, 27, 104, 96, 28, 96, 29, 79, 177]
abbrev dktX3_put_0 : List UInt8 := dkwX3_put_0 ++ []
theorem dksX3_put_0 : cX3_put.data.toList.drop 0 = dktX3_put_0 := by decide +kernel
theorem dX3_put_0 : decode cX3_put 0 = .ok (.aload_n 0, 1) := dk_42 (dk_at dksX3_put_0 0 rfl rfl)
theorem dX3_put_1 : decode cX3_put 1 = .ok (.getfield 9, 3) := dk_180 0 9 (dk_at dksX3_put_0 1 rfl rfl)
theorem dX3_put_4 : decode cX3_put 4 = .ok (.bipush 16, 2) := dk_16 16 (dk_at dksX3_put_0 4 rfl rfl)
theorem dX3_put_6 : decode cX3_put 6 = .ok (.bipush 6, 2) := dk_16 6 (dk_at dksX3_put_0 6 rfl rfl)
theorem dX3_put_8 : decode cX3_put 8 = .ok (.iload_n 1, 1) := dk_27 (dk_at dksX3_put_0 8 rfl rfl)
theorem dX3_put_9 : decode cX3_put 9 = .ok (.imul, 1) := dk_104 (dk_at dksX3_put_0 9 rfl rfl)
theorem dX3_put_10 : decode cX3_put 10 = .ok (.iadd, 1) := dk_96 (dk_at dksX3_put_0 10 rfl rfl)
theorem dX3_put_11 : decode cX3_put 11 = .ok (.iload_n 2, 1) := dk_28 (dk_at dksX3_put_0 11 rfl rfl)
theorem dX3_put_12 : decode cX3_put 12 = .ok (.iadd, 1) := dk_96 (dk_at dksX3_put_0 12 rfl rfl)
theorem dX3_put_13 : decode cX3_put 13 = .ok (.iload_n 3, 1) := dk_29 (dk_at dksX3_put_0 13 rfl rfl)
theorem dX3_put_14 : decode cX3_put 14 = .ok (.iastore, 1) := dk_79 (dk_at dksX3_put_0 14 rfl rfl)
theorem dX3_put_15 : decode cX3_put 15 = .ok (.return_, 1) := dk_177 (dk_at dksX3_put_0 15 rfl rfl)
abbrev cX3_told : ByteArray := prog_22_method_14_code
def yX3_told : MethodName := ⟨RX3, "told", "(II)I"⟩
def dkwX3_told_1 : List UInt8 := [162, 0, 12, 42, 27, 28, 182, 0, 99, 167, 0, 8, 42, 27, 182, 0, 107, 172]
abbrev dktX3_told_1 : List UInt8 := dkwX3_told_1 ++ []
def dkwX3_told_0 : List UInt8 := [42, 27, 182, 0, 103, 153, 0, 13, 28, 3, 16, 6, 184, 0, 85, 154, 0, 6, 18, 93, 172, 28, 16, 6]
abbrev dktX3_told_0 : List UInt8 := dkwX3_told_0 ++ dktX3_told_1
theorem dksX3_told_0 : cX3_told.data.toList.drop 0 = dktX3_told_0 := by decide +kernel
theorem dksX3_told_1 : cX3_told.data.toList.drop 24 = dktX3_told_1 := dk_seg dksX3_told_0 24 rfl rfl
theorem dX3_told_0 : decode cX3_told 0 = .ok (.aload_n 0, 1) := dk_42 (dk_at dksX3_told_0 0 rfl rfl)
theorem dX3_told_1 : decode cX3_told 1 = .ok (.iload_n 1, 1) := dk_27 (dk_at dksX3_told_0 1 rfl rfl)
theorem dX3_told_2 : decode cX3_told 2 = .ok (.invokevirtual 103, 3) := dk_182 0 103 (dk_at dksX3_told_0 2 rfl rfl)
theorem dX3_told_5 : decode cX3_told 5 = .ok (.ifCond .eq 13, 3) := dk_153 0 13 (dk_at dksX3_told_0 5 rfl rfl)
theorem dX3_told_8 : decode cX3_told 8 = .ok (.iload_n 2, 1) := dk_28 (dk_at dksX3_told_0 8 rfl rfl)
theorem dX3_told_9 : decode cX3_told 9 = .ok (.iconst 0, 1) := dk_3 (dk_at dksX3_told_0 9 rfl rfl)
theorem dX3_told_10 : decode cX3_told 10 = .ok (.bipush 6, 2) := dk_16 6 (dk_at dksX3_told_0 10 rfl rfl)
theorem dX3_told_12 : decode cX3_told 12 = .ok (.invokestatic 85, 3) := dk_184 0 85 (dk_at dksX3_told_0 12 rfl rfl)
theorem dX3_told_15 : decode cX3_told 15 = .ok (.ifCond .ne 6, 3) := dk_154 0 6 (dk_at dksX3_told_0 15 rfl rfl)
theorem dX3_told_18 : decode cX3_told 18 = .ok (.ldc 93, 2) := dk_18 93 (dk_at dksX3_told_0 18 rfl rfl)
theorem dX3_told_20 : decode cX3_told 20 = .ok (.ireturn, 1) := dk_172 (dk_at dksX3_told_0 20 rfl rfl)
theorem dX3_told_21 : decode cX3_told 21 = .ok (.iload_n 2, 1) := dk_28 (dk_at dksX3_told_0 21 rfl rfl)
theorem dX3_told_22 : decode cX3_told 22 = .ok (.bipush 6, 2) := dk_16 6 (dk_at dksX3_told_0 22 rfl rfl)
theorem dX3_told_24 : decode cX3_told 24 = .ok (.if_icmp .ge 12, 3) := dk_162 0 12 (dk_at dksX3_told_1 0 rfl rfl)
theorem dX3_told_27 : decode cX3_told 27 = .ok (.aload_n 0, 1) := dk_42 (dk_at dksX3_told_1 3 rfl rfl)
theorem dX3_told_28 : decode cX3_told 28 = .ok (.iload_n 1, 1) := dk_27 (dk_at dksX3_told_1 4 rfl rfl)
theorem dX3_told_29 : decode cX3_told 29 = .ok (.iload_n 2, 1) := dk_28 (dk_at dksX3_told_1 5 rfl rfl)
theorem dX3_told_30 : decode cX3_told 30 = .ok (.invokevirtual 99, 3) := dk_182 0 99 (dk_at dksX3_told_1 6 rfl rfl)
theorem dX3_told_33 : decode cX3_told 33 = .ok (.goto 8, 3) := dk_167 0 8 (dk_at dksX3_told_1 9 rfl rfl)
theorem dX3_told_36 : decode cX3_told 36 = .ok (.aload_n 0, 1) := dk_42 (dk_at dksX3_told_1 12 rfl rfl)
theorem dX3_told_37 : decode cX3_told 37 = .ok (.iload_n 1, 1) := dk_27 (dk_at dksX3_told_1 13 rfl rfl)
theorem dX3_told_38 : decode cX3_told 38 = .ok (.invokevirtual 107, 3) := dk_182 0 107 (dk_at dksX3_told_1 14 rfl rfl)
theorem dX3_told_41 : decode cX3_told 41 = .ok (.ireturn, 1) := dk_172 (dk_at dksX3_told_1 17 rfl rfl)
abbrev cX3_isGlove : ByteArray := prog_22_method_6_code
def yX3_isGlove : MethodName := ⟨RX3, "isGlove", "(I)Z"⟩
def dkwX3_isGlove_0 : List UInt8 := [27, 3, 42, 180, 0, 9, 4, 46, 4, 100, 184, 0, 85, 172]
abbrev dktX3_isGlove_0 : List UInt8 := dkwX3_isGlove_0 ++ []
theorem dksX3_isGlove_0 : cX3_isGlove.data.toList.drop 0 = dktX3_isGlove_0 := by decide +kernel
theorem dX3_isGlove_0 : decode cX3_isGlove 0 = .ok (.iload_n 1, 1) := dk_27 (dk_at dksX3_isGlove_0 0 rfl rfl)
theorem dX3_isGlove_1 : decode cX3_isGlove 1 = .ok (.iconst 0, 1) := dk_3 (dk_at dksX3_isGlove_0 1 rfl rfl)
theorem dX3_isGlove_2 : decode cX3_isGlove 2 = .ok (.aload_n 0, 1) := dk_42 (dk_at dksX3_isGlove_0 2 rfl rfl)
theorem dX3_isGlove_3 : decode cX3_isGlove 3 = .ok (.getfield 9, 3) := dk_180 0 9 (dk_at dksX3_isGlove_0 3 rfl rfl)
theorem dX3_isGlove_6 : decode cX3_isGlove 6 = .ok (.iconst 1, 1) := dk_4 (dk_at dksX3_isGlove_0 6 rfl rfl)
theorem dX3_isGlove_7 : decode cX3_isGlove 7 = .ok (.iaload, 1) := dk_46 (dk_at dksX3_isGlove_0 7 rfl rfl)
theorem dX3_isGlove_8 : decode cX3_isGlove 8 = .ok (.iconst 1, 1) := dk_4 (dk_at dksX3_isGlove_0 8 rfl rfl)
theorem dX3_isGlove_9 : decode cX3_isGlove 9 = .ok (.isub, 1) := dk_100 (dk_at dksX3_isGlove_0 9 rfl rfl)
theorem dX3_isGlove_10 : decode cX3_isGlove 10 = .ok (.invokestatic 85, 3) := dk_184 0 85 (dk_at dksX3_isGlove_0 10 rfl rfl)
theorem dX3_isGlove_13 : decode cX3_isGlove 13 = .ok (.ireturn, 1) := dk_172 (dk_at dksX3_isGlove_0 13 rfl rfl)
abbrev cX3_of : ByteArray := prog_22_method_7_code
def yX3_of : MethodName := ⟨RX3, "of", "(II)I"⟩
def dkwX3_of_0 : List UInt8 := [42, 180, 0, 9, 16, 16, 16, 6, 27, 104, 96, 28, 96, 46, 172]
abbrev dktX3_of_0 : List UInt8 := dkwX3_of_0 ++ []
theorem dksX3_of_0 : cX3_of.data.toList.drop 0 = dktX3_of_0 := by decide +kernel
theorem dX3_of_0 : decode cX3_of 0 = .ok (.aload_n 0, 1) := dk_42 (dk_at dksX3_of_0 0 rfl rfl)
theorem dX3_of_1 : decode cX3_of 1 = .ok (.getfield 9, 3) := dk_180 0 9 (dk_at dksX3_of_0 1 rfl rfl)
theorem dX3_of_4 : decode cX3_of 4 = .ok (.bipush 16, 2) := dk_16 16 (dk_at dksX3_of_0 4 rfl rfl)
theorem dX3_of_6 : decode cX3_of 6 = .ok (.bipush 6, 2) := dk_16 6 (dk_at dksX3_of_0 6 rfl rfl)
theorem dX3_of_8 : decode cX3_of 8 = .ok (.iload_n 1, 1) := dk_27 (dk_at dksX3_of_0 8 rfl rfl)
theorem dX3_of_9 : decode cX3_of 9 = .ok (.imul, 1) := dk_104 (dk_at dksX3_of_0 9 rfl rfl)
theorem dX3_of_10 : decode cX3_of 10 = .ok (.iadd, 1) := dk_96 (dk_at dksX3_of_0 10 rfl rfl)
theorem dX3_of_11 : decode cX3_of 11 = .ok (.iload_n 2, 1) := dk_28 (dk_at dksX3_of_0 11 rfl rfl)
theorem dX3_of_12 : decode cX3_of 12 = .ok (.iadd, 1) := dk_96 (dk_at dksX3_of_0 12 rfl rfl)
theorem dX3_of_13 : decode cX3_of 13 = .ok (.iaload, 1) := dk_46 (dk_at dksX3_of_0 13 rfl rfl)
theorem dX3_of_14 : decode cX3_of 14 = .ok (.ireturn, 1) := dk_172 (dk_at dksX3_of_0 14 rfl rfl)
abbrev cX3_worthOf : ByteArray := prog_22_method_13_code
def yX3_worthOf : MethodName := ⟨RX3, "worthOf", "(I)I"⟩
def dkwX3_worthOf_3 : List UInt8 := [172]
abbrev dktX3_worthOf_3 : List UInt8 := dkwX3_worthOf_3 ++ []
def dkwX3_worthOf_2 : List UInt8 := [28, 8, 96, 172, 16, 99, 28, 100, 172, 5, 28, 8, 96, 104, 172, 16, 96, 28, 100, 172, 16, 8, 172, 28]
abbrev dktX3_worthOf_2 : List UInt8 := dkwX3_worthOf_2 ++ dktX3_worthOf_3
def dkwX3_worthOf_1 : List UInt8 := [170, 0, 0, 0, 0, 0, 58, 0, 0, 0, 1, 0, 0, 0, 5, 0, 0, 0, 35, 0, 0, 0, 39, 0, 0, 0, 44, 0, 0, 0, 50, 0, 0, 0, 55]
abbrev dktX3_worthOf_1 : List UInt8 := dkwX3_worthOf_1 ++ dktX3_worthOf_2
def dkwX3_worthOf_0 : List UInt8 := [42, 27, 6, 182, 0, 99, 61, 42, 27, 3, 182, 0, 99]
abbrev dktX3_worthOf_0 : List UInt8 := dkwX3_worthOf_0 ++ dktX3_worthOf_1
theorem dksX3_worthOf_0 : cX3_worthOf.data.toList.drop 0 = dktX3_worthOf_0 := by decide +kernel
theorem dksX3_worthOf_1 : cX3_worthOf.data.toList.drop 13 = dktX3_worthOf_1 := dk_seg dksX3_worthOf_0 13 rfl rfl
theorem dksX3_worthOf_2 : cX3_worthOf.data.toList.drop 48 = dktX3_worthOf_2 := dk_seg dksX3_worthOf_1 35 rfl rfl
theorem dksX3_worthOf_3 : cX3_worthOf.data.toList.drop 72 = dktX3_worthOf_3 := dk_seg dksX3_worthOf_2 24 rfl rfl
theorem dX3_worthOf_0 : decode cX3_worthOf 0 = .ok (.aload_n 0, 1) := dk_42 (dk_at dksX3_worthOf_0 0 rfl rfl)
theorem dX3_worthOf_1 : decode cX3_worthOf 1 = .ok (.iload_n 1, 1) := dk_27 (dk_at dksX3_worthOf_0 1 rfl rfl)
theorem dX3_worthOf_2 : decode cX3_worthOf 2 = .ok (.iconst 3, 1) := dk_6 (dk_at dksX3_worthOf_0 2 rfl rfl)
theorem dX3_worthOf_3 : decode cX3_worthOf 3 = .ok (.invokevirtual 99, 3) := dk_182 0 99 (dk_at dksX3_worthOf_0 3 rfl rfl)
theorem dX3_worthOf_6 : decode cX3_worthOf 6 = .ok (.istore_n 2, 1) := dk_61 (dk_at dksX3_worthOf_0 6 rfl rfl)
theorem dX3_worthOf_7 : decode cX3_worthOf 7 = .ok (.aload_n 0, 1) := dk_42 (dk_at dksX3_worthOf_0 7 rfl rfl)
theorem dX3_worthOf_8 : decode cX3_worthOf 8 = .ok (.iload_n 1, 1) := dk_27 (dk_at dksX3_worthOf_0 8 rfl rfl)
theorem dX3_worthOf_9 : decode cX3_worthOf 9 = .ok (.iconst 0, 1) := dk_3 (dk_at dksX3_worthOf_0 9 rfl rfl)
theorem dX3_worthOf_10 : decode cX3_worthOf 10 = .ok (.invokevirtual 99, 3) := dk_182 0 99 (dk_at dksX3_worthOf_0 10 rfl rfl)
theorem dX3_worthOf_13 : decode cX3_worthOf 13 = .ok (.tableswitch 58 1 5 #[35, 39, 44, 50, 55], 35) := by decide +kernel
theorem dX3_worthOf_48 : decode cX3_worthOf 48 = .ok (.iload_n 2, 1) := dk_28 (dk_at dksX3_worthOf_2 0 rfl rfl)
theorem dX3_worthOf_49 : decode cX3_worthOf 49 = .ok (.iconst 5, 1) := dk_8 (dk_at dksX3_worthOf_2 1 rfl rfl)
theorem dX3_worthOf_50 : decode cX3_worthOf 50 = .ok (.iadd, 1) := dk_96 (dk_at dksX3_worthOf_2 2 rfl rfl)
theorem dX3_worthOf_51 : decode cX3_worthOf 51 = .ok (.ireturn, 1) := dk_172 (dk_at dksX3_worthOf_2 3 rfl rfl)
theorem dX3_worthOf_52 : decode cX3_worthOf 52 = .ok (.bipush 99, 2) := dk_16 99 (dk_at dksX3_worthOf_2 4 rfl rfl)
theorem dX3_worthOf_54 : decode cX3_worthOf 54 = .ok (.iload_n 2, 1) := dk_28 (dk_at dksX3_worthOf_2 6 rfl rfl)
theorem dX3_worthOf_55 : decode cX3_worthOf 55 = .ok (.isub, 1) := dk_100 (dk_at dksX3_worthOf_2 7 rfl rfl)
theorem dX3_worthOf_56 : decode cX3_worthOf 56 = .ok (.ireturn, 1) := dk_172 (dk_at dksX3_worthOf_2 8 rfl rfl)
theorem dX3_worthOf_57 : decode cX3_worthOf 57 = .ok (.iconst 2, 1) := dk_5 (dk_at dksX3_worthOf_2 9 rfl rfl)
theorem dX3_worthOf_58 : decode cX3_worthOf 58 = .ok (.iload_n 2, 1) := dk_28 (dk_at dksX3_worthOf_2 10 rfl rfl)
theorem dX3_worthOf_59 : decode cX3_worthOf 59 = .ok (.iconst 5, 1) := dk_8 (dk_at dksX3_worthOf_2 11 rfl rfl)
theorem dX3_worthOf_60 : decode cX3_worthOf 60 = .ok (.iadd, 1) := dk_96 (dk_at dksX3_worthOf_2 12 rfl rfl)
theorem dX3_worthOf_61 : decode cX3_worthOf 61 = .ok (.imul, 1) := dk_104 (dk_at dksX3_worthOf_2 13 rfl rfl)
theorem dX3_worthOf_62 : decode cX3_worthOf 62 = .ok (.ireturn, 1) := dk_172 (dk_at dksX3_worthOf_2 14 rfl rfl)
theorem dX3_worthOf_63 : decode cX3_worthOf 63 = .ok (.bipush 96, 2) := dk_16 96 (dk_at dksX3_worthOf_2 15 rfl rfl)
theorem dX3_worthOf_65 : decode cX3_worthOf 65 = .ok (.iload_n 2, 1) := dk_28 (dk_at dksX3_worthOf_2 17 rfl rfl)
theorem dX3_worthOf_66 : decode cX3_worthOf 66 = .ok (.isub, 1) := dk_100 (dk_at dksX3_worthOf_2 18 rfl rfl)
theorem dX3_worthOf_67 : decode cX3_worthOf 67 = .ok (.ireturn, 1) := dk_172 (dk_at dksX3_worthOf_2 19 rfl rfl)
theorem dX3_worthOf_68 : decode cX3_worthOf 68 = .ok (.bipush 8, 2) := dk_16 8 (dk_at dksX3_worthOf_2 20 rfl rfl)
theorem dX3_worthOf_70 : decode cX3_worthOf 70 = .ok (.ireturn, 1) := dk_172 (dk_at dksX3_worthOf_2 22 rfl rfl)
theorem dX3_worthOf_71 : decode cX3_worthOf 71 = .ok (.iload_n 2, 1) := dk_28 (dk_at dksX3_worthOf_2 23 rfl rfl)
theorem dX3_worthOf_72 : decode cX3_worthOf 72 = .ok (.ireturn, 1) := dk_172 (dk_at dksX3_worthOf_3 0 rfl rfl)
abbrev cX3_as : ByteArray := prog_22_method_16_code
def yX3_as : MethodName := ⟨RX3, "as", "(II)I"⟩
def dkwX3_as_1 : List UInt8 := [182, 0, 99, 28, 184, 0, 111, 153, 0, 12, 42, 27, 6, 182, 0, 99, 167, 0, 5, 18, 115, 172]
abbrev dktX3_as_1 : List UInt8 := dkwX3_as_1 ++ []
def dkwX3_as_0 : List UInt8 := [42, 27, 182, 0, 103, 153, 0, 12, 28, 3, 8, 184, 0, 85, 154, 0, 6, 18, 93, 172, 42, 27, 3]
abbrev dktX3_as_0 : List UInt8 := dkwX3_as_0 ++ dktX3_as_1
theorem dksX3_as_0 : cX3_as.data.toList.drop 0 = dktX3_as_0 := by decide +kernel
theorem dksX3_as_1 : cX3_as.data.toList.drop 23 = dktX3_as_1 := dk_seg dksX3_as_0 23 rfl rfl
theorem dX3_as_0 : decode cX3_as 0 = .ok (.aload_n 0, 1) := dk_42 (dk_at dksX3_as_0 0 rfl rfl)
theorem dX3_as_1 : decode cX3_as 1 = .ok (.iload_n 1, 1) := dk_27 (dk_at dksX3_as_0 1 rfl rfl)
theorem dX3_as_2 : decode cX3_as 2 = .ok (.invokevirtual 103, 3) := dk_182 0 103 (dk_at dksX3_as_0 2 rfl rfl)
theorem dX3_as_5 : decode cX3_as 5 = .ok (.ifCond .eq 12, 3) := dk_153 0 12 (dk_at dksX3_as_0 5 rfl rfl)
theorem dX3_as_8 : decode cX3_as 8 = .ok (.iload_n 2, 1) := dk_28 (dk_at dksX3_as_0 8 rfl rfl)
theorem dX3_as_9 : decode cX3_as 9 = .ok (.iconst 0, 1) := dk_3 (dk_at dksX3_as_0 9 rfl rfl)
theorem dX3_as_10 : decode cX3_as 10 = .ok (.iconst 5, 1) := dk_8 (dk_at dksX3_as_0 10 rfl rfl)
theorem dX3_as_11 : decode cX3_as 11 = .ok (.invokestatic 85, 3) := dk_184 0 85 (dk_at dksX3_as_0 11 rfl rfl)
theorem dX3_as_14 : decode cX3_as 14 = .ok (.ifCond .ne 6, 3) := dk_154 0 6 (dk_at dksX3_as_0 14 rfl rfl)
theorem dX3_as_17 : decode cX3_as 17 = .ok (.ldc 93, 2) := dk_18 93 (dk_at dksX3_as_0 17 rfl rfl)
theorem dX3_as_19 : decode cX3_as 19 = .ok (.ireturn, 1) := dk_172 (dk_at dksX3_as_0 19 rfl rfl)
theorem dX3_as_20 : decode cX3_as 20 = .ok (.aload_n 0, 1) := dk_42 (dk_at dksX3_as_0 20 rfl rfl)
theorem dX3_as_21 : decode cX3_as 21 = .ok (.iload_n 1, 1) := dk_27 (dk_at dksX3_as_0 21 rfl rfl)
theorem dX3_as_22 : decode cX3_as 22 = .ok (.iconst 0, 1) := dk_3 (dk_at dksX3_as_0 22 rfl rfl)
theorem dX3_as_23 : decode cX3_as 23 = .ok (.invokevirtual 99, 3) := dk_182 0 99 (dk_at dksX3_as_1 0 rfl rfl)
theorem dX3_as_26 : decode cX3_as 26 = .ok (.iload_n 2, 1) := dk_28 (dk_at dksX3_as_1 3 rfl rfl)
theorem dX3_as_27 : decode cX3_as 27 = .ok (.invokestatic 111, 3) := dk_184 0 111 (dk_at dksX3_as_1 4 rfl rfl)
theorem dX3_as_30 : decode cX3_as 30 = .ok (.ifCond .eq 12, 3) := dk_153 0 12 (dk_at dksX3_as_1 7 rfl rfl)
theorem dX3_as_33 : decode cX3_as 33 = .ok (.aload_n 0, 1) := dk_42 (dk_at dksX3_as_1 10 rfl rfl)
theorem dX3_as_34 : decode cX3_as 34 = .ok (.iload_n 1, 1) := dk_27 (dk_at dksX3_as_1 11 rfl rfl)
theorem dX3_as_35 : decode cX3_as 35 = .ok (.iconst 3, 1) := dk_6 (dk_at dksX3_as_1 12 rfl rfl)
theorem dX3_as_36 : decode cX3_as 36 = .ok (.invokevirtual 99, 3) := dk_182 0 99 (dk_at dksX3_as_1 13 rfl rfl)
theorem dX3_as_39 : decode cX3_as 39 = .ok (.goto 5, 3) := dk_167 0 5 (dk_at dksX3_as_1 16 rfl rfl)
theorem dX3_as_42 : decode cX3_as 42 = .ok (.ldc 115, 2) := dk_18 115 (dk_at dksX3_as_1 19 rfl rfl)
theorem dX3_as_44 : decode cX3_as 44 = .ok (.ireturn, 1) := dk_172 (dk_at dksX3_as_1 21 rfl rfl)
abbrev cX3_isUnder : ByteArray := prog_22_method_15_code
def yX3_isUnder : MethodName := ⟨RX3, "isUnder", "(II)Z"⟩
def dkwX3_isUnder_1 : List UInt8 := [26, 7, 160, 0, 7, 4, 167, 0, 4, 3, 172]
abbrev dktX3_isUnder_1 : List UInt8 := dkwX3_isUnder_1 ++ []
def dkwX3_isUnder_0 : List UInt8 := [27, 153, 0, 28, 26, 27, 159, 0, 23, 27, 4, 160, 0, 8, 26, 6, 159, 0, 13, 27, 5, 160, 0, 12]
abbrev dktX3_isUnder_0 : List UInt8 := dkwX3_isUnder_0 ++ dktX3_isUnder_1
theorem dksX3_isUnder_0 : cX3_isUnder.data.toList.drop 0 = dktX3_isUnder_0 := by decide +kernel
theorem dksX3_isUnder_1 : cX3_isUnder.data.toList.drop 24 = dktX3_isUnder_1 := dk_seg dksX3_isUnder_0 24 rfl rfl
theorem dX3_isUnder_0 : decode cX3_isUnder 0 = .ok (.iload_n 1, 1) := dk_27 (dk_at dksX3_isUnder_0 0 rfl rfl)
theorem dX3_isUnder_1 : decode cX3_isUnder 1 = .ok (.ifCond .eq 28, 3) := dk_153 0 28 (dk_at dksX3_isUnder_0 1 rfl rfl)
theorem dX3_isUnder_4 : decode cX3_isUnder 4 = .ok (.iload_n 0, 1) := dk_26 (dk_at dksX3_isUnder_0 4 rfl rfl)
theorem dX3_isUnder_5 : decode cX3_isUnder 5 = .ok (.iload_n 1, 1) := dk_27 (dk_at dksX3_isUnder_0 5 rfl rfl)
theorem dX3_isUnder_6 : decode cX3_isUnder 6 = .ok (.if_icmp .eq 23, 3) := dk_159 0 23 (dk_at dksX3_isUnder_0 6 rfl rfl)
theorem dX3_isUnder_9 : decode cX3_isUnder 9 = .ok (.iload_n 1, 1) := dk_27 (dk_at dksX3_isUnder_0 9 rfl rfl)
theorem dX3_isUnder_10 : decode cX3_isUnder 10 = .ok (.iconst 1, 1) := dk_4 (dk_at dksX3_isUnder_0 10 rfl rfl)
theorem dX3_isUnder_11 : decode cX3_isUnder 11 = .ok (.if_icmp .ne 8, 3) := dk_160 0 8 (dk_at dksX3_isUnder_0 11 rfl rfl)
theorem dX3_isUnder_14 : decode cX3_isUnder 14 = .ok (.iload_n 0, 1) := dk_26 (dk_at dksX3_isUnder_0 14 rfl rfl)
theorem dX3_isUnder_15 : decode cX3_isUnder 15 = .ok (.iconst 3, 1) := dk_6 (dk_at dksX3_isUnder_0 15 rfl rfl)
theorem dX3_isUnder_16 : decode cX3_isUnder 16 = .ok (.if_icmp .eq 13, 3) := dk_159 0 13 (dk_at dksX3_isUnder_0 16 rfl rfl)
theorem dX3_isUnder_19 : decode cX3_isUnder 19 = .ok (.iload_n 1, 1) := dk_27 (dk_at dksX3_isUnder_0 19 rfl rfl)
theorem dX3_isUnder_20 : decode cX3_isUnder 20 = .ok (.iconst 2, 1) := dk_5 (dk_at dksX3_isUnder_0 20 rfl rfl)
theorem dX3_isUnder_21 : decode cX3_isUnder 21 = .ok (.if_icmp .ne 12, 3) := dk_160 0 12 (dk_at dksX3_isUnder_0 21 rfl rfl)
theorem dX3_isUnder_24 : decode cX3_isUnder 24 = .ok (.iload_n 0, 1) := dk_26 (dk_at dksX3_isUnder_1 0 rfl rfl)
theorem dX3_isUnder_25 : decode cX3_isUnder 25 = .ok (.iconst 4, 1) := dk_7 (dk_at dksX3_isUnder_1 1 rfl rfl)
theorem dX3_isUnder_26 : decode cX3_isUnder 26 = .ok (.if_icmp .ne 7, 3) := dk_160 0 7 (dk_at dksX3_isUnder_1 2 rfl rfl)
theorem dX3_isUnder_29 : decode cX3_isUnder 29 = .ok (.iconst 1, 1) := dk_4 (dk_at dksX3_isUnder_1 5 rfl rfl)
theorem dX3_isUnder_30 : decode cX3_isUnder 30 = .ok (.goto 4, 3) := dk_167 0 4 (dk_at dksX3_isUnder_1 6 rfl rfl)
theorem dX3_isUnder_33 : decode cX3_isUnder 33 = .ok (.iconst 0, 1) := dk_3 (dk_at dksX3_isUnder_1 9 rfl rfl)
theorem dX3_isUnder_34 : decode cX3_isUnder 34 = .ok (.ireturn, 1) := dk_172 (dk_at dksX3_isUnder_1 10 rfl rfl)
abbrev cX3_turns : ByteArray := prog_22_method_17_code
def yX3_turns : MethodName := ⟨RX3, "turns", "(II)I"⟩
def dkwX3_turns_1 : List UInt8 := [96, 28, 182, 0, 116, 167, 0, 5, 18, 93, 172]
abbrev dktX3_turns_1 : List UInt8 := dkwX3_turns_1 ++ []
def dkwX3_turns_0 : List UInt8 := [42, 27, 182, 0, 103, 153, 0, 27, 28, 3, 8, 184, 0, 85, 153, 0, 18, 42, 16, 16, 16, 6, 27, 104]
abbrev dktX3_turns_0 : List UInt8 := dkwX3_turns_0 ++ dktX3_turns_1
theorem dksX3_turns_0 : cX3_turns.data.toList.drop 0 = dktX3_turns_0 := by decide +kernel
theorem dksX3_turns_1 : cX3_turns.data.toList.drop 24 = dktX3_turns_1 := dk_seg dksX3_turns_0 24 rfl rfl
theorem dX3_turns_0 : decode cX3_turns 0 = .ok (.aload_n 0, 1) := dk_42 (dk_at dksX3_turns_0 0 rfl rfl)
theorem dX3_turns_1 : decode cX3_turns 1 = .ok (.iload_n 1, 1) := dk_27 (dk_at dksX3_turns_0 1 rfl rfl)
theorem dX3_turns_2 : decode cX3_turns 2 = .ok (.invokevirtual 103, 3) := dk_182 0 103 (dk_at dksX3_turns_0 2 rfl rfl)
theorem dX3_turns_5 : decode cX3_turns 5 = .ok (.ifCond .eq 27, 3) := dk_153 0 27 (dk_at dksX3_turns_0 5 rfl rfl)
theorem dX3_turns_8 : decode cX3_turns 8 = .ok (.iload_n 2, 1) := dk_28 (dk_at dksX3_turns_0 8 rfl rfl)
theorem dX3_turns_9 : decode cX3_turns 9 = .ok (.iconst 0, 1) := dk_3 (dk_at dksX3_turns_0 9 rfl rfl)
theorem dX3_turns_10 : decode cX3_turns 10 = .ok (.iconst 5, 1) := dk_8 (dk_at dksX3_turns_0 10 rfl rfl)
theorem dX3_turns_11 : decode cX3_turns 11 = .ok (.invokestatic 85, 3) := dk_184 0 85 (dk_at dksX3_turns_0 11 rfl rfl)
theorem dX3_turns_14 : decode cX3_turns 14 = .ok (.ifCond .eq 18, 3) := dk_153 0 18 (dk_at dksX3_turns_0 14 rfl rfl)
theorem dX3_turns_17 : decode cX3_turns 17 = .ok (.aload_n 0, 1) := dk_42 (dk_at dksX3_turns_0 17 rfl rfl)
theorem dX3_turns_18 : decode cX3_turns 18 = .ok (.bipush 16, 2) := dk_16 16 (dk_at dksX3_turns_0 18 rfl rfl)
theorem dX3_turns_20 : decode cX3_turns 20 = .ok (.bipush 6, 2) := dk_16 6 (dk_at dksX3_turns_0 20 rfl rfl)
theorem dX3_turns_22 : decode cX3_turns 22 = .ok (.iload_n 1, 1) := dk_27 (dk_at dksX3_turns_0 22 rfl rfl)
theorem dX3_turns_23 : decode cX3_turns 23 = .ok (.imul, 1) := dk_104 (dk_at dksX3_turns_0 23 rfl rfl)
theorem dX3_turns_24 : decode cX3_turns 24 = .ok (.iadd, 1) := dk_96 (dk_at dksX3_turns_1 0 rfl rfl)
theorem dX3_turns_25 : decode cX3_turns 25 = .ok (.iload_n 2, 1) := dk_28 (dk_at dksX3_turns_1 1 rfl rfl)
theorem dX3_turns_26 : decode cX3_turns 26 = .ok (.invokevirtual 116, 3) := dk_182 0 116 (dk_at dksX3_turns_1 2 rfl rfl)
theorem dX3_turns_29 : decode cX3_turns 29 = .ok (.goto 5, 3) := dk_167 0 5 (dk_at dksX3_turns_1 5 rfl rfl)
theorem dX3_turns_32 : decode cX3_turns 32 = .ok (.ldc 93, 2) := dk_18 93 (dk_at dksX3_turns_1 8 rfl rfl)
theorem dX3_turns_34 : decode cX3_turns 34 = .ok (.ireturn, 1) := dk_172 (dk_at dksX3_turns_1 10 rfl rfl)
abbrev cX3_becomes : ByteArray := prog_22_method_9_code
def yX3_becomes : MethodName := ⟨RX3, "becomes", "(II)I"⟩
def dkwX3_becomes_0 : List UInt8 := [42, 180, 0, 9, 27, 46, 62, 42, 180, 0, 9, 27, 28, 79, 29, 172]
abbrev dktX3_becomes_0 : List UInt8 := dkwX3_becomes_0 ++ []
theorem dksX3_becomes_0 : cX3_becomes.data.toList.drop 0 = dktX3_becomes_0 := by decide +kernel
theorem dX3_becomes_0 : decode cX3_becomes 0 = .ok (.aload_n 0, 1) := dk_42 (dk_at dksX3_becomes_0 0 rfl rfl)
theorem dX3_becomes_1 : decode cX3_becomes 1 = .ok (.getfield 9, 3) := dk_180 0 9 (dk_at dksX3_becomes_0 1 rfl rfl)
theorem dX3_becomes_4 : decode cX3_becomes 4 = .ok (.iload_n 1, 1) := dk_27 (dk_at dksX3_becomes_0 4 rfl rfl)
theorem dX3_becomes_5 : decode cX3_becomes 5 = .ok (.iaload, 1) := dk_46 (dk_at dksX3_becomes_0 5 rfl rfl)
theorem dX3_becomes_6 : decode cX3_becomes 6 = .ok (.istore_n 3, 1) := dk_62 (dk_at dksX3_becomes_0 6 rfl rfl)
theorem dX3_becomes_7 : decode cX3_becomes 7 = .ok (.aload_n 0, 1) := dk_42 (dk_at dksX3_becomes_0 7 rfl rfl)
theorem dX3_becomes_8 : decode cX3_becomes 8 = .ok (.getfield 9, 3) := dk_180 0 9 (dk_at dksX3_becomes_0 8 rfl rfl)
theorem dX3_becomes_11 : decode cX3_becomes 11 = .ok (.iload_n 1, 1) := dk_27 (dk_at dksX3_becomes_0 11 rfl rfl)
theorem dX3_becomes_12 : decode cX3_becomes 12 = .ok (.iload_n 2, 1) := dk_28 (dk_at dksX3_becomes_0 12 rfl rfl)
theorem dX3_becomes_13 : decode cX3_becomes 13 = .ok (.iastore, 1) := dk_79 (dk_at dksX3_becomes_0 13 rfl rfl)
theorem dX3_becomes_14 : decode cX3_becomes 14 = .ok (.iload_n 3, 1) := dk_29 (dk_at dksX3_becomes_0 14 rfl rfl)
theorem dX3_becomes_15 : decode cX3_becomes 15 = .ok (.ireturn, 1) := dk_172 (dk_at dksX3_becomes_0 15 rfl rfl)
abbrev cX3_set : ByteArray := prog_22_method_18_code
def yX3_set : MethodName := ⟨RX3, "set", "(III)I"⟩
def dkwX3_set_2 : List UInt8 := [18, 93, 172]
abbrev dktX3_set_2 : List UInt8 := dkwX3_set_2 ++ []
def dkwX3_set_1 : List UInt8 := [184, 0, 85, 153, 0, 20, 42, 16, 16, 16, 6, 27, 104, 96, 28, 96, 29, 182, 0, 116, 167, 0, 5]
abbrev dktX3_set_1 : List UInt8 := dkwX3_set_1 ++ dktX3_set_2
def dkwX3_set_0 : List UInt8 := [42, 27, 182, 0, 103, 153, 0, 41, 28, 4, 8, 184, 0, 85, 153, 0, 32, 29, 3, 28, 184, 0, 119]
abbrev dktX3_set_0 : List UInt8 := dkwX3_set_0 ++ dktX3_set_1
theorem dksX3_set_0 : cX3_set.data.toList.drop 0 = dktX3_set_0 := by decide +kernel
theorem dksX3_set_1 : cX3_set.data.toList.drop 23 = dktX3_set_1 := dk_seg dksX3_set_0 23 rfl rfl
theorem dksX3_set_2 : cX3_set.data.toList.drop 46 = dktX3_set_2 := dk_seg dksX3_set_1 23 rfl rfl
theorem dX3_set_0 : decode cX3_set 0 = .ok (.aload_n 0, 1) := dk_42 (dk_at dksX3_set_0 0 rfl rfl)
theorem dX3_set_1 : decode cX3_set 1 = .ok (.iload_n 1, 1) := dk_27 (dk_at dksX3_set_0 1 rfl rfl)
theorem dX3_set_2 : decode cX3_set 2 = .ok (.invokevirtual 103, 3) := dk_182 0 103 (dk_at dksX3_set_0 2 rfl rfl)
theorem dX3_set_5 : decode cX3_set 5 = .ok (.ifCond .eq 41, 3) := dk_153 0 41 (dk_at dksX3_set_0 5 rfl rfl)
theorem dX3_set_8 : decode cX3_set 8 = .ok (.iload_n 2, 1) := dk_28 (dk_at dksX3_set_0 8 rfl rfl)
theorem dX3_set_9 : decode cX3_set 9 = .ok (.iconst 1, 1) := dk_4 (dk_at dksX3_set_0 9 rfl rfl)
theorem dX3_set_10 : decode cX3_set 10 = .ok (.iconst 5, 1) := dk_8 (dk_at dksX3_set_0 10 rfl rfl)
theorem dX3_set_11 : decode cX3_set 11 = .ok (.invokestatic 85, 3) := dk_184 0 85 (dk_at dksX3_set_0 11 rfl rfl)
theorem dX3_set_14 : decode cX3_set 14 = .ok (.ifCond .eq 32, 3) := dk_153 0 32 (dk_at dksX3_set_0 14 rfl rfl)
theorem dX3_set_17 : decode cX3_set 17 = .ok (.iload_n 3, 1) := dk_29 (dk_at dksX3_set_0 17 rfl rfl)
theorem dX3_set_18 : decode cX3_set 18 = .ok (.iconst 0, 1) := dk_3 (dk_at dksX3_set_0 18 rfl rfl)
theorem dX3_set_19 : decode cX3_set 19 = .ok (.iload_n 2, 1) := dk_28 (dk_at dksX3_set_0 19 rfl rfl)
theorem dX3_set_20 : decode cX3_set 20 = .ok (.invokestatic 119, 3) := dk_184 0 119 (dk_at dksX3_set_0 20 rfl rfl)
theorem dX3_set_23 : decode cX3_set 23 = .ok (.invokestatic 85, 3) := dk_184 0 85 (dk_at dksX3_set_1 0 rfl rfl)
theorem dX3_set_26 : decode cX3_set 26 = .ok (.ifCond .eq 20, 3) := dk_153 0 20 (dk_at dksX3_set_1 3 rfl rfl)
theorem dX3_set_29 : decode cX3_set 29 = .ok (.aload_n 0, 1) := dk_42 (dk_at dksX3_set_1 6 rfl rfl)
theorem dX3_set_30 : decode cX3_set 30 = .ok (.bipush 16, 2) := dk_16 16 (dk_at dksX3_set_1 7 rfl rfl)
theorem dX3_set_32 : decode cX3_set 32 = .ok (.bipush 6, 2) := dk_16 6 (dk_at dksX3_set_1 9 rfl rfl)
theorem dX3_set_34 : decode cX3_set 34 = .ok (.iload_n 1, 1) := dk_27 (dk_at dksX3_set_1 11 rfl rfl)
theorem dX3_set_35 : decode cX3_set 35 = .ok (.imul, 1) := dk_104 (dk_at dksX3_set_1 12 rfl rfl)
theorem dX3_set_36 : decode cX3_set 36 = .ok (.iadd, 1) := dk_96 (dk_at dksX3_set_1 13 rfl rfl)
theorem dX3_set_37 : decode cX3_set 37 = .ok (.iload_n 2, 1) := dk_28 (dk_at dksX3_set_1 14 rfl rfl)
theorem dX3_set_38 : decode cX3_set 38 = .ok (.iadd, 1) := dk_96 (dk_at dksX3_set_1 15 rfl rfl)
theorem dX3_set_39 : decode cX3_set 39 = .ok (.iload_n 3, 1) := dk_29 (dk_at dksX3_set_1 16 rfl rfl)
theorem dX3_set_40 : decode cX3_set 40 = .ok (.invokevirtual 116, 3) := dk_182 0 116 (dk_at dksX3_set_1 17 rfl rfl)
theorem dX3_set_43 : decode cX3_set 43 = .ok (.goto 5, 3) := dk_167 0 5 (dk_at dksX3_set_1 20 rfl rfl)
theorem dX3_set_46 : decode cX3_set 46 = .ok (.ldc 93, 2) := dk_18 93 (dk_at dksX3_set_2 0 rfl rfl)
theorem dX3_set_48 : decode cX3_set 48 = .ok (.ireturn, 1) := dk_172 (dk_at dksX3_set_2 2 rfl rfl)
abbrev cX3_mostOf : ByteArray := prog_22_method_11_code
def yX3_mostOf : MethodName := ⟨RX3, "mostOf", "(I)I"⟩
def dkwX3_mostOf_1 : List UInt8 := [16, 99, 172]
abbrev dktX3_mostOf_1 : List UInt8 := dkwX3_mostOf_1 ++ []
def dkwX3_mostOf_0 : List UInt8 := [26, 4, 159, 0, 8, 26, 8, 160, 0, 7, 4, 167, 0, 15, 26, 5, 160, 0, 8, 16, 9, 167, 0, 5]
abbrev dktX3_mostOf_0 : List UInt8 := dkwX3_mostOf_0 ++ dktX3_mostOf_1
theorem dksX3_mostOf_0 : cX3_mostOf.data.toList.drop 0 = dktX3_mostOf_0 := by decide +kernel
theorem dksX3_mostOf_1 : cX3_mostOf.data.toList.drop 24 = dktX3_mostOf_1 := dk_seg dksX3_mostOf_0 24 rfl rfl
theorem dX3_mostOf_0 : decode cX3_mostOf 0 = .ok (.iload_n 0, 1) := dk_26 (dk_at dksX3_mostOf_0 0 rfl rfl)
theorem dX3_mostOf_1 : decode cX3_mostOf 1 = .ok (.iconst 1, 1) := dk_4 (dk_at dksX3_mostOf_0 1 rfl rfl)
theorem dX3_mostOf_2 : decode cX3_mostOf 2 = .ok (.if_icmp .eq 8, 3) := dk_159 0 8 (dk_at dksX3_mostOf_0 2 rfl rfl)
theorem dX3_mostOf_5 : decode cX3_mostOf 5 = .ok (.iload_n 0, 1) := dk_26 (dk_at dksX3_mostOf_0 5 rfl rfl)
theorem dX3_mostOf_6 : decode cX3_mostOf 6 = .ok (.iconst 5, 1) := dk_8 (dk_at dksX3_mostOf_0 6 rfl rfl)
theorem dX3_mostOf_7 : decode cX3_mostOf 7 = .ok (.if_icmp .ne 7, 3) := dk_160 0 7 (dk_at dksX3_mostOf_0 7 rfl rfl)
theorem dX3_mostOf_10 : decode cX3_mostOf 10 = .ok (.iconst 1, 1) := dk_4 (dk_at dksX3_mostOf_0 10 rfl rfl)
theorem dX3_mostOf_11 : decode cX3_mostOf 11 = .ok (.goto 15, 3) := dk_167 0 15 (dk_at dksX3_mostOf_0 11 rfl rfl)
theorem dX3_mostOf_14 : decode cX3_mostOf 14 = .ok (.iload_n 0, 1) := dk_26 (dk_at dksX3_mostOf_0 14 rfl rfl)
theorem dX3_mostOf_15 : decode cX3_mostOf 15 = .ok (.iconst 2, 1) := dk_5 (dk_at dksX3_mostOf_0 15 rfl rfl)
theorem dX3_mostOf_16 : decode cX3_mostOf 16 = .ok (.if_icmp .ne 8, 3) := dk_160 0 8 (dk_at dksX3_mostOf_0 16 rfl rfl)
theorem dX3_mostOf_19 : decode cX3_mostOf 19 = .ok (.bipush 9, 2) := dk_16 9 (dk_at dksX3_mostOf_0 19 rfl rfl)
theorem dX3_mostOf_21 : decode cX3_mostOf 21 = .ok (.goto 5, 3) := dk_167 0 5 (dk_at dksX3_mostOf_0 21 rfl rfl)
theorem dX3_mostOf_24 : decode cX3_mostOf 24 = .ok (.bipush 99, 2) := dk_16 99 (dk_at dksX3_mostOf_1 0 rfl rfl)
theorem dX3_mostOf_26 : decode cX3_mostOf 26 = .ok (.ireturn, 1) := dk_172 (dk_at dksX3_mostOf_1 2 rfl rfl)
abbrev cX3_fits : ByteArray := prog_22_method_20_code
def yX3_fits : MethodName := ⟨RX3, "fits", "(II)I"⟩
def dkwX3_fits_1 : List UInt8 := [42, 27, 28, 182, 0, 122, 153, 0, 7, 4, 167, 0, 4, 3, 172]
abbrev dktX3_fits_1 : List UInt8 := dkwX3_fits_1 ++ []
def dkwX3_fits_0 : List UInt8 := [42, 27, 182, 0, 103, 153, 0, 16, 42, 28, 182, 0, 103, 153, 0, 8, 27, 28, 160, 0, 6, 18, 93, 172]
abbrev dktX3_fits_0 : List UInt8 := dkwX3_fits_0 ++ dktX3_fits_1
theorem dksX3_fits_0 : cX3_fits.data.toList.drop 0 = dktX3_fits_0 := by decide +kernel
theorem dksX3_fits_1 : cX3_fits.data.toList.drop 24 = dktX3_fits_1 := dk_seg dksX3_fits_0 24 rfl rfl
theorem dX3_fits_0 : decode cX3_fits 0 = .ok (.aload_n 0, 1) := dk_42 (dk_at dksX3_fits_0 0 rfl rfl)
theorem dX3_fits_1 : decode cX3_fits 1 = .ok (.iload_n 1, 1) := dk_27 (dk_at dksX3_fits_0 1 rfl rfl)
theorem dX3_fits_2 : decode cX3_fits 2 = .ok (.invokevirtual 103, 3) := dk_182 0 103 (dk_at dksX3_fits_0 2 rfl rfl)
theorem dX3_fits_5 : decode cX3_fits 5 = .ok (.ifCond .eq 16, 3) := dk_153 0 16 (dk_at dksX3_fits_0 5 rfl rfl)
theorem dX3_fits_8 : decode cX3_fits 8 = .ok (.aload_n 0, 1) := dk_42 (dk_at dksX3_fits_0 8 rfl rfl)
theorem dX3_fits_9 : decode cX3_fits 9 = .ok (.iload_n 2, 1) := dk_28 (dk_at dksX3_fits_0 9 rfl rfl)
theorem dX3_fits_10 : decode cX3_fits 10 = .ok (.invokevirtual 103, 3) := dk_182 0 103 (dk_at dksX3_fits_0 10 rfl rfl)
theorem dX3_fits_13 : decode cX3_fits 13 = .ok (.ifCond .eq 8, 3) := dk_153 0 8 (dk_at dksX3_fits_0 13 rfl rfl)
theorem dX3_fits_16 : decode cX3_fits 16 = .ok (.iload_n 1, 1) := dk_27 (dk_at dksX3_fits_0 16 rfl rfl)
theorem dX3_fits_17 : decode cX3_fits 17 = .ok (.iload_n 2, 1) := dk_28 (dk_at dksX3_fits_0 17 rfl rfl)
theorem dX3_fits_18 : decode cX3_fits 18 = .ok (.if_icmp .ne 6, 3) := dk_160 0 6 (dk_at dksX3_fits_0 18 rfl rfl)
theorem dX3_fits_21 : decode cX3_fits 21 = .ok (.ldc 93, 2) := dk_18 93 (dk_at dksX3_fits_0 21 rfl rfl)
theorem dX3_fits_23 : decode cX3_fits 23 = .ok (.ireturn, 1) := dk_172 (dk_at dksX3_fits_0 23 rfl rfl)
theorem dX3_fits_24 : decode cX3_fits 24 = .ok (.aload_n 0, 1) := dk_42 (dk_at dksX3_fits_1 0 rfl rfl)
theorem dX3_fits_25 : decode cX3_fits 25 = .ok (.iload_n 1, 1) := dk_27 (dk_at dksX3_fits_1 1 rfl rfl)
theorem dX3_fits_26 : decode cX3_fits 26 = .ok (.iload_n 2, 1) := dk_28 (dk_at dksX3_fits_1 2 rfl rfl)
theorem dX3_fits_27 : decode cX3_fits 27 = .ok (.invokevirtual 122, 3) := dk_182 0 122 (dk_at dksX3_fits_1 3 rfl rfl)
theorem dX3_fits_30 : decode cX3_fits 30 = .ok (.ifCond .eq 7, 3) := dk_153 0 7 (dk_at dksX3_fits_1 6 rfl rfl)
theorem dX3_fits_33 : decode cX3_fits 33 = .ok (.iconst 1, 1) := dk_4 (dk_at dksX3_fits_1 9 rfl rfl)
theorem dX3_fits_34 : decode cX3_fits 34 = .ok (.goto 4, 3) := dk_167 0 4 (dk_at dksX3_fits_1 10 rfl rfl)
theorem dX3_fits_37 : decode cX3_fits 37 = .ok (.iconst 0, 1) := dk_3 (dk_at dksX3_fits_1 13 rfl rfl)
theorem dX3_fits_38 : decode cX3_fits 38 = .ok (.ireturn, 1) := dk_172 (dk_at dksX3_fits_1 14 rfl rfl)
abbrev cX3_doesFit : ByteArray := prog_22_method_19_code
def yX3_doesFit : MethodName := ⟨RX3, "doesFit", "(II)Z"⟩
def dkwX3_doesFit_7 : List UInt8 := [3, 172, 4, 172, 21, 4, 172]
abbrev dktX3_doesFit_7 : List UInt8 := dkwX3_doesFit_7 ++ []
def dkwX3_doesFit_6 : List UInt8 := [167, 0, 4, 3, 172, 21, 5, 153, 0, 17, 42, 28, 3, 182, 0, 99, 7, 159, 0, 7, 4, 167, 0, 4]
abbrev dktX3_doesFit_6 : List UInt8 := dkwX3_doesFit_6 ++ dktX3_doesFit_7
def dkwX3_doesFit_5 : List UInt8 := [21, 6, 153, 0, 24, 42, 28, 6, 182, 0, 99, 42, 27, 6, 182, 0, 99, 5, 108, 161, 0, 7, 4]
abbrev dktX3_doesFit_5 : List UInt8 := dkwX3_doesFit_5 ++ dktX3_doesFit_6
def dkwX3_doesFit_4 : List UInt8 := [21, 4, 153, 0, 12, 21, 6, 153, 0, 7, 4, 167, 0, 4, 3, 172, 21, 5, 172, 21, 4, 153, 0, 29]
abbrev dktX3_doesFit_4 : List UInt8 := dkwX3_doesFit_4 ++ dktX3_doesFit_5
def dkwX3_doesFit_3 : List UInt8 := [170, 0, 0, 0, 0, 0, 0, 111, 0, 0, 0, 1, 0, 0, 0, 5, 0, 0, 0, 36, 0, 0, 0, 52, 0, 0, 0, 55, 0, 0, 0, 88, 0, 0, 0, 109]
abbrev dktX3_doesFit_3 : List UInt8 := dkwX3_doesFit_3 ++ dktX3_doesFit_4
def dkwX3_doesFit_2 : List UInt8 := [182, 0, 99, 16, 50, 162, 0, 7, 4, 167, 0, 4, 3, 54, 6, 42, 27, 3, 182, 0, 99]
abbrev dktX3_doesFit_2 : List UInt8 := dkwX3_doesFit_2 ++ dktX3_doesFit_3
def dkwX3_doesFit_1 : List UInt8 := [54, 4, 29, 2, 4, 184, 0, 85, 54, 5, 42, 27, 7, 182, 0, 99, 16, 50, 162, 0, 18, 42, 28, 7]
abbrev dktX3_doesFit_1 : List UInt8 := dkwX3_doesFit_1 ++ dktX3_doesFit_2
def dkwX3_doesFit_0 : List UInt8 := [42, 27, 5, 182, 0, 99, 42, 28, 5, 182, 0, 99, 100, 62, 29, 154, 0, 7, 4, 167, 0, 4, 3]
abbrev dktX3_doesFit_0 : List UInt8 := dkwX3_doesFit_0 ++ dktX3_doesFit_1
theorem dksX3_doesFit_0 : cX3_doesFit.data.toList.drop 0 = dktX3_doesFit_0 := by decide +kernel
theorem dksX3_doesFit_1 : cX3_doesFit.data.toList.drop 23 = dktX3_doesFit_1 := dk_seg dksX3_doesFit_0 23 rfl rfl
theorem dksX3_doesFit_2 : cX3_doesFit.data.toList.drop 47 = dktX3_doesFit_2 := dk_seg dksX3_doesFit_1 24 rfl rfl
theorem dksX3_doesFit_3 : cX3_doesFit.data.toList.drop 68 = dktX3_doesFit_3 := dk_seg dksX3_doesFit_2 21 rfl rfl
theorem dksX3_doesFit_4 : cX3_doesFit.data.toList.drop 104 = dktX3_doesFit_4 := dk_seg dksX3_doesFit_3 36 rfl rfl
theorem dksX3_doesFit_5 : cX3_doesFit.data.toList.drop 128 = dktX3_doesFit_5 := dk_seg dksX3_doesFit_4 24 rfl rfl
theorem dksX3_doesFit_6 : cX3_doesFit.data.toList.drop 151 = dktX3_doesFit_6 := dk_seg dksX3_doesFit_5 23 rfl rfl
theorem dksX3_doesFit_7 : cX3_doesFit.data.toList.drop 175 = dktX3_doesFit_7 := dk_seg dksX3_doesFit_6 24 rfl rfl
theorem dX3_doesFit_0 : decode cX3_doesFit 0 = .ok (.aload_n 0, 1) := dk_42 (dk_at dksX3_doesFit_0 0 rfl rfl)
theorem dX3_doesFit_1 : decode cX3_doesFit 1 = .ok (.iload_n 1, 1) := dk_27 (dk_at dksX3_doesFit_0 1 rfl rfl)
theorem dX3_doesFit_2 : decode cX3_doesFit 2 = .ok (.iconst 2, 1) := dk_5 (dk_at dksX3_doesFit_0 2 rfl rfl)
theorem dX3_doesFit_3 : decode cX3_doesFit 3 = .ok (.invokevirtual 99, 3) := dk_182 0 99 (dk_at dksX3_doesFit_0 3 rfl rfl)
theorem dX3_doesFit_6 : decode cX3_doesFit 6 = .ok (.aload_n 0, 1) := dk_42 (dk_at dksX3_doesFit_0 6 rfl rfl)
theorem dX3_doesFit_7 : decode cX3_doesFit 7 = .ok (.iload_n 2, 1) := dk_28 (dk_at dksX3_doesFit_0 7 rfl rfl)
theorem dX3_doesFit_8 : decode cX3_doesFit 8 = .ok (.iconst 2, 1) := dk_5 (dk_at dksX3_doesFit_0 8 rfl rfl)
theorem dX3_doesFit_9 : decode cX3_doesFit 9 = .ok (.invokevirtual 99, 3) := dk_182 0 99 (dk_at dksX3_doesFit_0 9 rfl rfl)
theorem dX3_doesFit_12 : decode cX3_doesFit 12 = .ok (.isub, 1) := dk_100 (dk_at dksX3_doesFit_0 12 rfl rfl)
theorem dX3_doesFit_13 : decode cX3_doesFit 13 = .ok (.istore_n 3, 1) := dk_62 (dk_at dksX3_doesFit_0 13 rfl rfl)
theorem dX3_doesFit_14 : decode cX3_doesFit 14 = .ok (.iload_n 3, 1) := dk_29 (dk_at dksX3_doesFit_0 14 rfl rfl)
theorem dX3_doesFit_15 : decode cX3_doesFit 15 = .ok (.ifCond .ne 7, 3) := dk_154 0 7 (dk_at dksX3_doesFit_0 15 rfl rfl)
theorem dX3_doesFit_18 : decode cX3_doesFit 18 = .ok (.iconst 1, 1) := dk_4 (dk_at dksX3_doesFit_0 18 rfl rfl)
theorem dX3_doesFit_19 : decode cX3_doesFit 19 = .ok (.goto 4, 3) := dk_167 0 4 (dk_at dksX3_doesFit_0 19 rfl rfl)
theorem dX3_doesFit_22 : decode cX3_doesFit 22 = .ok (.iconst 0, 1) := dk_3 (dk_at dksX3_doesFit_0 22 rfl rfl)
theorem dX3_doesFit_23 : decode cX3_doesFit 23 = .ok (.istore 4, 2) := dk_54 4 (dk_at dksX3_doesFit_1 0 rfl rfl)
theorem dX3_doesFit_25 : decode cX3_doesFit 25 = .ok (.iload_n 3, 1) := dk_29 (dk_at dksX3_doesFit_1 2 rfl rfl)
theorem dX3_doesFit_26 : decode cX3_doesFit 26 = .ok (.iconst (-1), 1) := dk_2 (dk_at dksX3_doesFit_1 3 rfl rfl)
theorem dX3_doesFit_27 : decode cX3_doesFit 27 = .ok (.iconst 1, 1) := dk_4 (dk_at dksX3_doesFit_1 4 rfl rfl)
theorem dX3_doesFit_28 : decode cX3_doesFit 28 = .ok (.invokestatic 85, 3) := dk_184 0 85 (dk_at dksX3_doesFit_1 5 rfl rfl)
theorem dX3_doesFit_31 : decode cX3_doesFit 31 = .ok (.istore 5, 2) := dk_54 5 (dk_at dksX3_doesFit_1 8 rfl rfl)
theorem dX3_doesFit_33 : decode cX3_doesFit 33 = .ok (.aload_n 0, 1) := dk_42 (dk_at dksX3_doesFit_1 10 rfl rfl)
theorem dX3_doesFit_34 : decode cX3_doesFit 34 = .ok (.iload_n 1, 1) := dk_27 (dk_at dksX3_doesFit_1 11 rfl rfl)
theorem dX3_doesFit_35 : decode cX3_doesFit 35 = .ok (.iconst 4, 1) := dk_7 (dk_at dksX3_doesFit_1 12 rfl rfl)
theorem dX3_doesFit_36 : decode cX3_doesFit 36 = .ok (.invokevirtual 99, 3) := dk_182 0 99 (dk_at dksX3_doesFit_1 13 rfl rfl)
theorem dX3_doesFit_39 : decode cX3_doesFit 39 = .ok (.bipush 50, 2) := dk_16 50 (dk_at dksX3_doesFit_1 16 rfl rfl)
theorem dX3_doesFit_41 : decode cX3_doesFit 41 = .ok (.if_icmp .ge 18, 3) := dk_162 0 18 (dk_at dksX3_doesFit_1 18 rfl rfl)
theorem dX3_doesFit_44 : decode cX3_doesFit 44 = .ok (.aload_n 0, 1) := dk_42 (dk_at dksX3_doesFit_1 21 rfl rfl)
theorem dX3_doesFit_45 : decode cX3_doesFit 45 = .ok (.iload_n 2, 1) := dk_28 (dk_at dksX3_doesFit_1 22 rfl rfl)
theorem dX3_doesFit_46 : decode cX3_doesFit 46 = .ok (.iconst 4, 1) := dk_7 (dk_at dksX3_doesFit_1 23 rfl rfl)
theorem dX3_doesFit_47 : decode cX3_doesFit 47 = .ok (.invokevirtual 99, 3) := dk_182 0 99 (dk_at dksX3_doesFit_2 0 rfl rfl)
theorem dX3_doesFit_50 : decode cX3_doesFit 50 = .ok (.bipush 50, 2) := dk_16 50 (dk_at dksX3_doesFit_2 3 rfl rfl)
theorem dX3_doesFit_52 : decode cX3_doesFit 52 = .ok (.if_icmp .ge 7, 3) := dk_162 0 7 (dk_at dksX3_doesFit_2 5 rfl rfl)
theorem dX3_doesFit_55 : decode cX3_doesFit 55 = .ok (.iconst 1, 1) := dk_4 (dk_at dksX3_doesFit_2 8 rfl rfl)
theorem dX3_doesFit_56 : decode cX3_doesFit 56 = .ok (.goto 4, 3) := dk_167 0 4 (dk_at dksX3_doesFit_2 9 rfl rfl)
theorem dX3_doesFit_59 : decode cX3_doesFit 59 = .ok (.iconst 0, 1) := dk_3 (dk_at dksX3_doesFit_2 12 rfl rfl)
theorem dX3_doesFit_60 : decode cX3_doesFit 60 = .ok (.istore 6, 2) := dk_54 6 (dk_at dksX3_doesFit_2 13 rfl rfl)
theorem dX3_doesFit_62 : decode cX3_doesFit 62 = .ok (.aload_n 0, 1) := dk_42 (dk_at dksX3_doesFit_2 15 rfl rfl)
theorem dX3_doesFit_63 : decode cX3_doesFit 63 = .ok (.iload_n 1, 1) := dk_27 (dk_at dksX3_doesFit_2 16 rfl rfl)
theorem dX3_doesFit_64 : decode cX3_doesFit 64 = .ok (.iconst 0, 1) := dk_3 (dk_at dksX3_doesFit_2 17 rfl rfl)
theorem dX3_doesFit_65 : decode cX3_doesFit 65 = .ok (.invokevirtual 99, 3) := dk_182 0 99 (dk_at dksX3_doesFit_2 18 rfl rfl)
theorem dX3_doesFit_68 : decode cX3_doesFit 68 = .ok (.tableswitch 111 1 5 #[36, 52, 55, 88, 109], 36) := by decide +kernel
theorem dX3_doesFit_104 : decode cX3_doesFit 104 = .ok (.iload 4, 2) := dk_21 4 (dk_at dksX3_doesFit_4 0 rfl rfl)
theorem dX3_doesFit_106 : decode cX3_doesFit 106 = .ok (.ifCond .eq 12, 3) := dk_153 0 12 (dk_at dksX3_doesFit_4 2 rfl rfl)
theorem dX3_doesFit_109 : decode cX3_doesFit 109 = .ok (.iload 6, 2) := dk_21 6 (dk_at dksX3_doesFit_4 5 rfl rfl)
theorem dX3_doesFit_111 : decode cX3_doesFit 111 = .ok (.ifCond .eq 7, 3) := dk_153 0 7 (dk_at dksX3_doesFit_4 7 rfl rfl)
theorem dX3_doesFit_114 : decode cX3_doesFit 114 = .ok (.iconst 1, 1) := dk_4 (dk_at dksX3_doesFit_4 10 rfl rfl)
theorem dX3_doesFit_115 : decode cX3_doesFit 115 = .ok (.goto 4, 3) := dk_167 0 4 (dk_at dksX3_doesFit_4 11 rfl rfl)
theorem dX3_doesFit_118 : decode cX3_doesFit 118 = .ok (.iconst 0, 1) := dk_3 (dk_at dksX3_doesFit_4 14 rfl rfl)
theorem dX3_doesFit_119 : decode cX3_doesFit 119 = .ok (.ireturn, 1) := dk_172 (dk_at dksX3_doesFit_4 15 rfl rfl)
theorem dX3_doesFit_120 : decode cX3_doesFit 120 = .ok (.iload 5, 2) := dk_21 5 (dk_at dksX3_doesFit_4 16 rfl rfl)
theorem dX3_doesFit_122 : decode cX3_doesFit 122 = .ok (.ireturn, 1) := dk_172 (dk_at dksX3_doesFit_4 18 rfl rfl)
theorem dX3_doesFit_123 : decode cX3_doesFit 123 = .ok (.iload 4, 2) := dk_21 4 (dk_at dksX3_doesFit_4 19 rfl rfl)
theorem dX3_doesFit_125 : decode cX3_doesFit 125 = .ok (.ifCond .eq 29, 3) := dk_153 0 29 (dk_at dksX3_doesFit_4 21 rfl rfl)
theorem dX3_doesFit_128 : decode cX3_doesFit 128 = .ok (.iload 6, 2) := dk_21 6 (dk_at dksX3_doesFit_5 0 rfl rfl)
theorem dX3_doesFit_130 : decode cX3_doesFit 130 = .ok (.ifCond .eq 24, 3) := dk_153 0 24 (dk_at dksX3_doesFit_5 2 rfl rfl)
theorem dX3_doesFit_133 : decode cX3_doesFit 133 = .ok (.aload_n 0, 1) := dk_42 (dk_at dksX3_doesFit_5 5 rfl rfl)
theorem dX3_doesFit_134 : decode cX3_doesFit 134 = .ok (.iload_n 2, 1) := dk_28 (dk_at dksX3_doesFit_5 6 rfl rfl)
theorem dX3_doesFit_135 : decode cX3_doesFit 135 = .ok (.iconst 3, 1) := dk_6 (dk_at dksX3_doesFit_5 7 rfl rfl)
theorem dX3_doesFit_136 : decode cX3_doesFit 136 = .ok (.invokevirtual 99, 3) := dk_182 0 99 (dk_at dksX3_doesFit_5 8 rfl rfl)
theorem dX3_doesFit_139 : decode cX3_doesFit 139 = .ok (.aload_n 0, 1) := dk_42 (dk_at dksX3_doesFit_5 11 rfl rfl)
theorem dX3_doesFit_140 : decode cX3_doesFit 140 = .ok (.iload_n 1, 1) := dk_27 (dk_at dksX3_doesFit_5 12 rfl rfl)
theorem dX3_doesFit_141 : decode cX3_doesFit 141 = .ok (.iconst 3, 1) := dk_6 (dk_at dksX3_doesFit_5 13 rfl rfl)
theorem dX3_doesFit_142 : decode cX3_doesFit 142 = .ok (.invokevirtual 99, 3) := dk_182 0 99 (dk_at dksX3_doesFit_5 14 rfl rfl)
theorem dX3_doesFit_145 : decode cX3_doesFit 145 = .ok (.iconst 2, 1) := dk_5 (dk_at dksX3_doesFit_5 17 rfl rfl)
theorem dX3_doesFit_146 : decode cX3_doesFit 146 = .ok (.idiv, 1) := dk_108 (dk_at dksX3_doesFit_5 18 rfl rfl)
theorem dX3_doesFit_147 : decode cX3_doesFit 147 = .ok (.if_icmp .lt 7, 3) := dk_161 0 7 (dk_at dksX3_doesFit_5 19 rfl rfl)
theorem dX3_doesFit_150 : decode cX3_doesFit 150 = .ok (.iconst 1, 1) := dk_4 (dk_at dksX3_doesFit_5 22 rfl rfl)
theorem dX3_doesFit_151 : decode cX3_doesFit 151 = .ok (.goto 4, 3) := dk_167 0 4 (dk_at dksX3_doesFit_6 0 rfl rfl)
theorem dX3_doesFit_154 : decode cX3_doesFit 154 = .ok (.iconst 0, 1) := dk_3 (dk_at dksX3_doesFit_6 3 rfl rfl)
theorem dX3_doesFit_155 : decode cX3_doesFit 155 = .ok (.ireturn, 1) := dk_172 (dk_at dksX3_doesFit_6 4 rfl rfl)
theorem dX3_doesFit_156 : decode cX3_doesFit 156 = .ok (.iload 5, 2) := dk_21 5 (dk_at dksX3_doesFit_6 5 rfl rfl)
theorem dX3_doesFit_158 : decode cX3_doesFit 158 = .ok (.ifCond .eq 17, 3) := dk_153 0 17 (dk_at dksX3_doesFit_6 7 rfl rfl)
theorem dX3_doesFit_161 : decode cX3_doesFit 161 = .ok (.aload_n 0, 1) := dk_42 (dk_at dksX3_doesFit_6 10 rfl rfl)
theorem dX3_doesFit_162 : decode cX3_doesFit 162 = .ok (.iload_n 2, 1) := dk_28 (dk_at dksX3_doesFit_6 11 rfl rfl)
theorem dX3_doesFit_163 : decode cX3_doesFit 163 = .ok (.iconst 0, 1) := dk_3 (dk_at dksX3_doesFit_6 12 rfl rfl)
theorem dX3_doesFit_164 : decode cX3_doesFit 164 = .ok (.invokevirtual 99, 3) := dk_182 0 99 (dk_at dksX3_doesFit_6 13 rfl rfl)
theorem dX3_doesFit_167 : decode cX3_doesFit 167 = .ok (.iconst 4, 1) := dk_7 (dk_at dksX3_doesFit_6 16 rfl rfl)
theorem dX3_doesFit_168 : decode cX3_doesFit 168 = .ok (.if_icmp .eq 7, 3) := dk_159 0 7 (dk_at dksX3_doesFit_6 17 rfl rfl)
theorem dX3_doesFit_171 : decode cX3_doesFit 171 = .ok (.iconst 1, 1) := dk_4 (dk_at dksX3_doesFit_6 20 rfl rfl)
theorem dX3_doesFit_172 : decode cX3_doesFit 172 = .ok (.goto 4, 3) := dk_167 0 4 (dk_at dksX3_doesFit_6 21 rfl rfl)
theorem dX3_doesFit_175 : decode cX3_doesFit 175 = .ok (.iconst 0, 1) := dk_3 (dk_at dksX3_doesFit_7 0 rfl rfl)
theorem dX3_doesFit_176 : decode cX3_doesFit 176 = .ok (.ireturn, 1) := dk_172 (dk_at dksX3_doesFit_7 1 rfl rfl)
theorem dX3_doesFit_177 : decode cX3_doesFit 177 = .ok (.iconst 1, 1) := dk_4 (dk_at dksX3_doesFit_7 2 rfl rfl)
theorem dX3_doesFit_178 : decode cX3_doesFit 178 = .ok (.ireturn, 1) := dk_172 (dk_at dksX3_doesFit_7 3 rfl rfl)
theorem dX3_doesFit_179 : decode cX3_doesFit 179 = .ok (.iload 4, 2) := dk_21 4 (dk_at dksX3_doesFit_7 4 rfl rfl)
theorem dX3_doesFit_181 : decode cX3_doesFit 181 = .ok (.ireturn, 1) := dk_172 (dk_at dksX3_doesFit_7 6 rfl rfl)
abbrev cX3_value : ByteArray := prog_22_method_23_code
def yX3_value : MethodName := ⟨RX3, "value", "(II)I"⟩
def dkwX3_value_1 : List UInt8 := [42, 27, 28, 182, 0, 135, 153, 0, 12, 42, 27, 28, 182, 0, 138, 167, 0, 5, 18, 84, 172]
abbrev dktX3_value_1 : List UInt8 := dkwX3_value_1 ++ []
def dkwX3_value_0 : List UInt8 := [42, 27, 182, 0, 103, 153, 0, 16, 42, 28, 182, 0, 103, 153, 0, 8, 27, 28, 160, 0, 6, 18, 93, 172]
abbrev dktX3_value_0 : List UInt8 := dkwX3_value_0 ++ dktX3_value_1
theorem dksX3_value_0 : cX3_value.data.toList.drop 0 = dktX3_value_0 := by decide +kernel
theorem dksX3_value_1 : cX3_value.data.toList.drop 24 = dktX3_value_1 := dk_seg dksX3_value_0 24 rfl rfl
theorem dX3_value_0 : decode cX3_value 0 = .ok (.aload_n 0, 1) := dk_42 (dk_at dksX3_value_0 0 rfl rfl)
theorem dX3_value_1 : decode cX3_value 1 = .ok (.iload_n 1, 1) := dk_27 (dk_at dksX3_value_0 1 rfl rfl)
theorem dX3_value_2 : decode cX3_value 2 = .ok (.invokevirtual 103, 3) := dk_182 0 103 (dk_at dksX3_value_0 2 rfl rfl)
theorem dX3_value_5 : decode cX3_value 5 = .ok (.ifCond .eq 16, 3) := dk_153 0 16 (dk_at dksX3_value_0 5 rfl rfl)
theorem dX3_value_8 : decode cX3_value 8 = .ok (.aload_n 0, 1) := dk_42 (dk_at dksX3_value_0 8 rfl rfl)
theorem dX3_value_9 : decode cX3_value 9 = .ok (.iload_n 2, 1) := dk_28 (dk_at dksX3_value_0 9 rfl rfl)
theorem dX3_value_10 : decode cX3_value 10 = .ok (.invokevirtual 103, 3) := dk_182 0 103 (dk_at dksX3_value_0 10 rfl rfl)
theorem dX3_value_13 : decode cX3_value 13 = .ok (.ifCond .eq 8, 3) := dk_153 0 8 (dk_at dksX3_value_0 13 rfl rfl)
theorem dX3_value_16 : decode cX3_value 16 = .ok (.iload_n 1, 1) := dk_27 (dk_at dksX3_value_0 16 rfl rfl)
theorem dX3_value_17 : decode cX3_value 17 = .ok (.iload_n 2, 1) := dk_28 (dk_at dksX3_value_0 17 rfl rfl)
theorem dX3_value_18 : decode cX3_value 18 = .ok (.if_icmp .ne 6, 3) := dk_160 0 6 (dk_at dksX3_value_0 18 rfl rfl)
theorem dX3_value_21 : decode cX3_value 21 = .ok (.ldc 93, 2) := dk_18 93 (dk_at dksX3_value_0 21 rfl rfl)
theorem dX3_value_23 : decode cX3_value 23 = .ok (.ireturn, 1) := dk_172 (dk_at dksX3_value_0 23 rfl rfl)
theorem dX3_value_24 : decode cX3_value 24 = .ok (.aload_n 0, 1) := dk_42 (dk_at dksX3_value_1 0 rfl rfl)
theorem dX3_value_25 : decode cX3_value 25 = .ok (.iload_n 1, 1) := dk_27 (dk_at dksX3_value_1 1 rfl rfl)
theorem dX3_value_26 : decode cX3_value 26 = .ok (.iload_n 2, 1) := dk_28 (dk_at dksX3_value_1 2 rfl rfl)
theorem dX3_value_27 : decode cX3_value 27 = .ok (.invokevirtual 135, 3) := dk_182 0 135 (dk_at dksX3_value_1 3 rfl rfl)
theorem dX3_value_30 : decode cX3_value 30 = .ok (.ifCond .eq 12, 3) := dk_153 0 12 (dk_at dksX3_value_1 6 rfl rfl)
theorem dX3_value_33 : decode cX3_value 33 = .ok (.aload_n 0, 1) := dk_42 (dk_at dksX3_value_1 9 rfl rfl)
theorem dX3_value_34 : decode cX3_value 34 = .ok (.iload_n 1, 1) := dk_27 (dk_at dksX3_value_1 10 rfl rfl)
theorem dX3_value_35 : decode cX3_value 35 = .ok (.iload_n 2, 1) := dk_28 (dk_at dksX3_value_1 11 rfl rfl)
theorem dX3_value_36 : decode cX3_value 36 = .ok (.invokevirtual 138, 3) := dk_182 0 138 (dk_at dksX3_value_1 12 rfl rfl)
theorem dX3_value_39 : decode cX3_value 39 = .ok (.goto 5, 3) := dk_167 0 5 (dk_at dksX3_value_1 15 rfl rfl)
theorem dX3_value_42 : decode cX3_value 42 = .ok (.ldc 84, 2) := dk_18 84 (dk_at dksX3_value_1 18 rfl rfl)
theorem dX3_value_44 : decode cX3_value 44 = .ok (.ireturn, 1) := dk_172 (dk_at dksX3_value_1 20 rfl rfl)
abbrev cX3_isPair : ByteArray := prog_22_method_21_code
def yX3_isPair : MethodName := ⟨RX3, "isPair", "(II)Z"⟩
def dkwX3_isPair_3 : List UInt8 := [28, 182, 0, 122, 153, 0, 16, 42, 28, 27, 182, 0, 122, 153, 0, 7, 4, 167, 0, 4, 3, 172]
abbrev dktX3_isPair_3 : List UInt8 := dkwX3_isPair_3 ++ []
def dkwX3_isPair_2 : List UInt8 := [29, 153, 0, 43, 42, 27, 8, 182, 0, 99, 154, 0, 34, 42, 28, 8, 182, 0, 99, 154, 0, 25, 42, 27]
abbrev dktX3_isPair_2 : List UInt8 := dkwX3_isPair_2 ++ dktX3_isPair_3
def dkwX3_isPair_1 : List UInt8 := [159, 0, 13, 42, 28, 3, 182, 0, 99, 7, 160, 0, 7, 4, 167, 0, 4, 3, 62, 27, 28, 159, 0, 47]
abbrev dktX3_isPair_1 : List UInt8 := dkwX3_isPair_1 ++ dktX3_isPair_2
def dkwX3_isPair_0 : List UInt8 := [42, 27, 4, 182, 0, 99, 42, 28, 4, 182, 0, 99, 160, 0, 23, 42, 27, 3, 182, 0, 99, 7]
abbrev dktX3_isPair_0 : List UInt8 := dkwX3_isPair_0 ++ dktX3_isPair_1
theorem dksX3_isPair_0 : cX3_isPair.data.toList.drop 0 = dktX3_isPair_0 := by decide +kernel
theorem dksX3_isPair_1 : cX3_isPair.data.toList.drop 22 = dktX3_isPair_1 := dk_seg dksX3_isPair_0 22 rfl rfl
theorem dksX3_isPair_2 : cX3_isPair.data.toList.drop 46 = dktX3_isPair_2 := dk_seg dksX3_isPair_1 24 rfl rfl
theorem dksX3_isPair_3 : cX3_isPair.data.toList.drop 70 = dktX3_isPair_3 := dk_seg dksX3_isPair_2 24 rfl rfl
theorem dX3_isPair_0 : decode cX3_isPair 0 = .ok (.aload_n 0, 1) := dk_42 (dk_at dksX3_isPair_0 0 rfl rfl)
theorem dX3_isPair_1 : decode cX3_isPair 1 = .ok (.iload_n 1, 1) := dk_27 (dk_at dksX3_isPair_0 1 rfl rfl)
theorem dX3_isPair_2 : decode cX3_isPair 2 = .ok (.iconst 1, 1) := dk_4 (dk_at dksX3_isPair_0 2 rfl rfl)
theorem dX3_isPair_3 : decode cX3_isPair 3 = .ok (.invokevirtual 99, 3) := dk_182 0 99 (dk_at dksX3_isPair_0 3 rfl rfl)
theorem dX3_isPair_6 : decode cX3_isPair 6 = .ok (.aload_n 0, 1) := dk_42 (dk_at dksX3_isPair_0 6 rfl rfl)
theorem dX3_isPair_7 : decode cX3_isPair 7 = .ok (.iload_n 2, 1) := dk_28 (dk_at dksX3_isPair_0 7 rfl rfl)
theorem dX3_isPair_8 : decode cX3_isPair 8 = .ok (.iconst 1, 1) := dk_4 (dk_at dksX3_isPair_0 8 rfl rfl)
theorem dX3_isPair_9 : decode cX3_isPair 9 = .ok (.invokevirtual 99, 3) := dk_182 0 99 (dk_at dksX3_isPair_0 9 rfl rfl)
theorem dX3_isPair_12 : decode cX3_isPair 12 = .ok (.if_icmp .ne 23, 3) := dk_160 0 23 (dk_at dksX3_isPair_0 12 rfl rfl)
theorem dX3_isPair_15 : decode cX3_isPair 15 = .ok (.aload_n 0, 1) := dk_42 (dk_at dksX3_isPair_0 15 rfl rfl)
theorem dX3_isPair_16 : decode cX3_isPair 16 = .ok (.iload_n 1, 1) := dk_27 (dk_at dksX3_isPair_0 16 rfl rfl)
theorem dX3_isPair_17 : decode cX3_isPair 17 = .ok (.iconst 0, 1) := dk_3 (dk_at dksX3_isPair_0 17 rfl rfl)
theorem dX3_isPair_18 : decode cX3_isPair 18 = .ok (.invokevirtual 99, 3) := dk_182 0 99 (dk_at dksX3_isPair_0 18 rfl rfl)
theorem dX3_isPair_21 : decode cX3_isPair 21 = .ok (.iconst 4, 1) := dk_7 (dk_at dksX3_isPair_0 21 rfl rfl)
theorem dX3_isPair_22 : decode cX3_isPair 22 = .ok (.if_icmp .eq 13, 3) := dk_159 0 13 (dk_at dksX3_isPair_1 0 rfl rfl)
theorem dX3_isPair_25 : decode cX3_isPair 25 = .ok (.aload_n 0, 1) := dk_42 (dk_at dksX3_isPair_1 3 rfl rfl)
theorem dX3_isPair_26 : decode cX3_isPair 26 = .ok (.iload_n 2, 1) := dk_28 (dk_at dksX3_isPair_1 4 rfl rfl)
theorem dX3_isPair_27 : decode cX3_isPair 27 = .ok (.iconst 0, 1) := dk_3 (dk_at dksX3_isPair_1 5 rfl rfl)
theorem dX3_isPair_28 : decode cX3_isPair 28 = .ok (.invokevirtual 99, 3) := dk_182 0 99 (dk_at dksX3_isPair_1 6 rfl rfl)
theorem dX3_isPair_31 : decode cX3_isPair 31 = .ok (.iconst 4, 1) := dk_7 (dk_at dksX3_isPair_1 9 rfl rfl)
theorem dX3_isPair_32 : decode cX3_isPair 32 = .ok (.if_icmp .ne 7, 3) := dk_160 0 7 (dk_at dksX3_isPair_1 10 rfl rfl)
theorem dX3_isPair_35 : decode cX3_isPair 35 = .ok (.iconst 1, 1) := dk_4 (dk_at dksX3_isPair_1 13 rfl rfl)
theorem dX3_isPair_36 : decode cX3_isPair 36 = .ok (.goto 4, 3) := dk_167 0 4 (dk_at dksX3_isPair_1 14 rfl rfl)
theorem dX3_isPair_39 : decode cX3_isPair 39 = .ok (.iconst 0, 1) := dk_3 (dk_at dksX3_isPair_1 17 rfl rfl)
theorem dX3_isPair_40 : decode cX3_isPair 40 = .ok (.istore_n 3, 1) := dk_62 (dk_at dksX3_isPair_1 18 rfl rfl)
theorem dX3_isPair_41 : decode cX3_isPair 41 = .ok (.iload_n 1, 1) := dk_27 (dk_at dksX3_isPair_1 19 rfl rfl)
theorem dX3_isPair_42 : decode cX3_isPair 42 = .ok (.iload_n 2, 1) := dk_28 (dk_at dksX3_isPair_1 20 rfl rfl)
theorem dX3_isPair_43 : decode cX3_isPair 43 = .ok (.if_icmp .eq 47, 3) := dk_159 0 47 (dk_at dksX3_isPair_1 21 rfl rfl)
theorem dX3_isPair_46 : decode cX3_isPair 46 = .ok (.iload_n 3, 1) := dk_29 (dk_at dksX3_isPair_2 0 rfl rfl)
theorem dX3_isPair_47 : decode cX3_isPair 47 = .ok (.ifCond .eq 43, 3) := dk_153 0 43 (dk_at dksX3_isPair_2 1 rfl rfl)
theorem dX3_isPair_50 : decode cX3_isPair 50 = .ok (.aload_n 0, 1) := dk_42 (dk_at dksX3_isPair_2 4 rfl rfl)
theorem dX3_isPair_51 : decode cX3_isPair 51 = .ok (.iload_n 1, 1) := dk_27 (dk_at dksX3_isPair_2 5 rfl rfl)
theorem dX3_isPair_52 : decode cX3_isPair 52 = .ok (.iconst 5, 1) := dk_8 (dk_at dksX3_isPair_2 6 rfl rfl)
theorem dX3_isPair_53 : decode cX3_isPair 53 = .ok (.invokevirtual 99, 3) := dk_182 0 99 (dk_at dksX3_isPair_2 7 rfl rfl)
theorem dX3_isPair_56 : decode cX3_isPair 56 = .ok (.ifCond .ne 34, 3) := dk_154 0 34 (dk_at dksX3_isPair_2 10 rfl rfl)
theorem dX3_isPair_59 : decode cX3_isPair 59 = .ok (.aload_n 0, 1) := dk_42 (dk_at dksX3_isPair_2 13 rfl rfl)
theorem dX3_isPair_60 : decode cX3_isPair 60 = .ok (.iload_n 2, 1) := dk_28 (dk_at dksX3_isPair_2 14 rfl rfl)
theorem dX3_isPair_61 : decode cX3_isPair 61 = .ok (.iconst 5, 1) := dk_8 (dk_at dksX3_isPair_2 15 rfl rfl)
theorem dX3_isPair_62 : decode cX3_isPair 62 = .ok (.invokevirtual 99, 3) := dk_182 0 99 (dk_at dksX3_isPair_2 16 rfl rfl)
theorem dX3_isPair_65 : decode cX3_isPair 65 = .ok (.ifCond .ne 25, 3) := dk_154 0 25 (dk_at dksX3_isPair_2 19 rfl rfl)
theorem dX3_isPair_68 : decode cX3_isPair 68 = .ok (.aload_n 0, 1) := dk_42 (dk_at dksX3_isPair_2 22 rfl rfl)
theorem dX3_isPair_69 : decode cX3_isPair 69 = .ok (.iload_n 1, 1) := dk_27 (dk_at dksX3_isPair_2 23 rfl rfl)
theorem dX3_isPair_70 : decode cX3_isPair 70 = .ok (.iload_n 2, 1) := dk_28 (dk_at dksX3_isPair_3 0 rfl rfl)
theorem dX3_isPair_71 : decode cX3_isPair 71 = .ok (.invokevirtual 122, 3) := dk_182 0 122 (dk_at dksX3_isPair_3 1 rfl rfl)
theorem dX3_isPair_74 : decode cX3_isPair 74 = .ok (.ifCond .eq 16, 3) := dk_153 0 16 (dk_at dksX3_isPair_3 4 rfl rfl)
theorem dX3_isPair_77 : decode cX3_isPair 77 = .ok (.aload_n 0, 1) := dk_42 (dk_at dksX3_isPair_3 7 rfl rfl)
theorem dX3_isPair_78 : decode cX3_isPair 78 = .ok (.iload_n 2, 1) := dk_28 (dk_at dksX3_isPair_3 8 rfl rfl)
theorem dX3_isPair_79 : decode cX3_isPair 79 = .ok (.iload_n 1, 1) := dk_27 (dk_at dksX3_isPair_3 9 rfl rfl)
theorem dX3_isPair_80 : decode cX3_isPair 80 = .ok (.invokevirtual 122, 3) := dk_182 0 122 (dk_at dksX3_isPair_3 10 rfl rfl)
theorem dX3_isPair_83 : decode cX3_isPair 83 = .ok (.ifCond .eq 7, 3) := dk_153 0 7 (dk_at dksX3_isPair_3 13 rfl rfl)
theorem dX3_isPair_86 : decode cX3_isPair 86 = .ok (.iconst 1, 1) := dk_4 (dk_at dksX3_isPair_3 16 rfl rfl)
theorem dX3_isPair_87 : decode cX3_isPair 87 = .ok (.goto 4, 3) := dk_167 0 4 (dk_at dksX3_isPair_3 17 rfl rfl)
theorem dX3_isPair_90 : decode cX3_isPair 90 = .ok (.iconst 0, 1) := dk_3 (dk_at dksX3_isPair_3 20 rfl rfl)
theorem dX3_isPair_91 : decode cX3_isPair 91 = .ok (.ireturn, 1) := dk_172 (dk_at dksX3_isPair_3 21 rfl rfl)
abbrev cX3_valueOf : ByteArray := prog_22_method_22_code
def yX3_valueOf : MethodName := ⟨RX3, "valueOf", "(II)I"⟩
def dkwX3_valueOf_4 : List UInt8 := [3, 17, 3, 231, 184, 0, 128, 167, 0, 16, 42, 21, 6, 182, 0, 132, 3, 17, 3, 231, 184, 0, 128, 172]
abbrev dktX3_valueOf_4 : List UInt8 := dkwX3_valueOf_4 ++ []
def dkwX3_valueOf_3 : List UInt8 := [79, 42, 180, 0, 54, 5, 21, 5, 79, 21, 6, 156, 0, 23, 29, 21, 4, 96, 21, 5, 16, 10, 108, 100]
abbrev dktX3_valueOf_3 : List UInt8 := dkwX3_valueOf_3 ++ dktX3_valueOf_4
def dkwX3_valueOf_2 : List UInt8 := [29, 167, 0, 5, 21, 4, 79, 42, 180, 0, 54, 4, 29, 21, 4, 162, 0, 8, 21, 4, 167, 0, 4, 29]
abbrev dktX3_valueOf_2 : List UInt8 := dkwX3_valueOf_2 ++ dktX3_valueOf_3
def dkwX3_valueOf_1 : List UInt8 := [182, 0, 99, 96, 54, 5, 42, 3, 182, 0, 125, 54, 6, 42, 180, 0, 54, 3, 29, 21, 4, 162, 0, 7]
abbrev dktX3_valueOf_1 : List UInt8 := dkwX3_valueOf_1 ++ dktX3_valueOf_2
def dkwX3_valueOf_0 : List UInt8 := [42, 27, 6, 182, 0, 99, 62, 42, 28, 6, 182, 0, 99, 54, 4, 42, 27, 7, 182, 0, 99, 42, 28, 7]
abbrev dktX3_valueOf_0 : List UInt8 := dkwX3_valueOf_0 ++ dktX3_valueOf_1
theorem dksX3_valueOf_0 : cX3_valueOf.data.toList.drop 0 = dktX3_valueOf_0 := by decide +kernel
theorem dksX3_valueOf_1 : cX3_valueOf.data.toList.drop 24 = dktX3_valueOf_1 := dk_seg dksX3_valueOf_0 24 rfl rfl
theorem dksX3_valueOf_2 : cX3_valueOf.data.toList.drop 48 = dktX3_valueOf_2 := dk_seg dksX3_valueOf_1 24 rfl rfl
theorem dksX3_valueOf_3 : cX3_valueOf.data.toList.drop 72 = dktX3_valueOf_3 := dk_seg dksX3_valueOf_2 24 rfl rfl
theorem dksX3_valueOf_4 : cX3_valueOf.data.toList.drop 96 = dktX3_valueOf_4 := dk_seg dksX3_valueOf_3 24 rfl rfl
theorem dX3_valueOf_0 : decode cX3_valueOf 0 = .ok (.aload_n 0, 1) := dk_42 (dk_at dksX3_valueOf_0 0 rfl rfl)
theorem dX3_valueOf_1 : decode cX3_valueOf 1 = .ok (.iload_n 1, 1) := dk_27 (dk_at dksX3_valueOf_0 1 rfl rfl)
theorem dX3_valueOf_2 : decode cX3_valueOf 2 = .ok (.iconst 3, 1) := dk_6 (dk_at dksX3_valueOf_0 2 rfl rfl)
theorem dX3_valueOf_3 : decode cX3_valueOf 3 = .ok (.invokevirtual 99, 3) := dk_182 0 99 (dk_at dksX3_valueOf_0 3 rfl rfl)
theorem dX3_valueOf_6 : decode cX3_valueOf 6 = .ok (.istore_n 3, 1) := dk_62 (dk_at dksX3_valueOf_0 6 rfl rfl)
theorem dX3_valueOf_7 : decode cX3_valueOf 7 = .ok (.aload_n 0, 1) := dk_42 (dk_at dksX3_valueOf_0 7 rfl rfl)
theorem dX3_valueOf_8 : decode cX3_valueOf 8 = .ok (.iload_n 2, 1) := dk_28 (dk_at dksX3_valueOf_0 8 rfl rfl)
theorem dX3_valueOf_9 : decode cX3_valueOf 9 = .ok (.iconst 3, 1) := dk_6 (dk_at dksX3_valueOf_0 9 rfl rfl)
theorem dX3_valueOf_10 : decode cX3_valueOf 10 = .ok (.invokevirtual 99, 3) := dk_182 0 99 (dk_at dksX3_valueOf_0 10 rfl rfl)
theorem dX3_valueOf_13 : decode cX3_valueOf 13 = .ok (.istore 4, 2) := dk_54 4 (dk_at dksX3_valueOf_0 13 rfl rfl)
theorem dX3_valueOf_15 : decode cX3_valueOf 15 = .ok (.aload_n 0, 1) := dk_42 (dk_at dksX3_valueOf_0 15 rfl rfl)
theorem dX3_valueOf_16 : decode cX3_valueOf 16 = .ok (.iload_n 1, 1) := dk_27 (dk_at dksX3_valueOf_0 16 rfl rfl)
theorem dX3_valueOf_17 : decode cX3_valueOf 17 = .ok (.iconst 4, 1) := dk_7 (dk_at dksX3_valueOf_0 17 rfl rfl)
theorem dX3_valueOf_18 : decode cX3_valueOf 18 = .ok (.invokevirtual 99, 3) := dk_182 0 99 (dk_at dksX3_valueOf_0 18 rfl rfl)
theorem dX3_valueOf_21 : decode cX3_valueOf 21 = .ok (.aload_n 0, 1) := dk_42 (dk_at dksX3_valueOf_0 21 rfl rfl)
theorem dX3_valueOf_22 : decode cX3_valueOf 22 = .ok (.iload_n 2, 1) := dk_28 (dk_at dksX3_valueOf_0 22 rfl rfl)
theorem dX3_valueOf_23 : decode cX3_valueOf 23 = .ok (.iconst 4, 1) := dk_7 (dk_at dksX3_valueOf_0 23 rfl rfl)
theorem dX3_valueOf_24 : decode cX3_valueOf 24 = .ok (.invokevirtual 99, 3) := dk_182 0 99 (dk_at dksX3_valueOf_1 0 rfl rfl)
theorem dX3_valueOf_27 : decode cX3_valueOf 27 = .ok (.iadd, 1) := dk_96 (dk_at dksX3_valueOf_1 3 rfl rfl)
theorem dX3_valueOf_28 : decode cX3_valueOf 28 = .ok (.istore 5, 2) := dk_54 5 (dk_at dksX3_valueOf_1 4 rfl rfl)
theorem dX3_valueOf_30 : decode cX3_valueOf 30 = .ok (.aload_n 0, 1) := dk_42 (dk_at dksX3_valueOf_1 6 rfl rfl)
theorem dX3_valueOf_31 : decode cX3_valueOf 31 = .ok (.iconst 0, 1) := dk_3 (dk_at dksX3_valueOf_1 7 rfl rfl)
theorem dX3_valueOf_32 : decode cX3_valueOf 32 = .ok (.invokevirtual 125, 3) := dk_182 0 125 (dk_at dksX3_valueOf_1 8 rfl rfl)
theorem dX3_valueOf_35 : decode cX3_valueOf 35 = .ok (.istore 6, 2) := dk_54 6 (dk_at dksX3_valueOf_1 11 rfl rfl)
theorem dX3_valueOf_37 : decode cX3_valueOf 37 = .ok (.aload_n 0, 1) := dk_42 (dk_at dksX3_valueOf_1 13 rfl rfl)
theorem dX3_valueOf_38 : decode cX3_valueOf 38 = .ok (.getfield 54, 3) := dk_180 0 54 (dk_at dksX3_valueOf_1 14 rfl rfl)
theorem dX3_valueOf_41 : decode cX3_valueOf 41 = .ok (.iconst 0, 1) := dk_3 (dk_at dksX3_valueOf_1 17 rfl rfl)
theorem dX3_valueOf_42 : decode cX3_valueOf 42 = .ok (.iload_n 3, 1) := dk_29 (dk_at dksX3_valueOf_1 18 rfl rfl)
theorem dX3_valueOf_43 : decode cX3_valueOf 43 = .ok (.iload 4, 2) := dk_21 4 (dk_at dksX3_valueOf_1 19 rfl rfl)
theorem dX3_valueOf_45 : decode cX3_valueOf 45 = .ok (.if_icmp .ge 7, 3) := dk_162 0 7 (dk_at dksX3_valueOf_1 21 rfl rfl)
theorem dX3_valueOf_48 : decode cX3_valueOf 48 = .ok (.iload_n 3, 1) := dk_29 (dk_at dksX3_valueOf_2 0 rfl rfl)
theorem dX3_valueOf_49 : decode cX3_valueOf 49 = .ok (.goto 5, 3) := dk_167 0 5 (dk_at dksX3_valueOf_2 1 rfl rfl)
theorem dX3_valueOf_52 : decode cX3_valueOf 52 = .ok (.iload 4, 2) := dk_21 4 (dk_at dksX3_valueOf_2 4 rfl rfl)
theorem dX3_valueOf_54 : decode cX3_valueOf 54 = .ok (.iastore, 1) := dk_79 (dk_at dksX3_valueOf_2 6 rfl rfl)
theorem dX3_valueOf_55 : decode cX3_valueOf 55 = .ok (.aload_n 0, 1) := dk_42 (dk_at dksX3_valueOf_2 7 rfl rfl)
theorem dX3_valueOf_56 : decode cX3_valueOf 56 = .ok (.getfield 54, 3) := dk_180 0 54 (dk_at dksX3_valueOf_2 8 rfl rfl)
theorem dX3_valueOf_59 : decode cX3_valueOf 59 = .ok (.iconst 1, 1) := dk_4 (dk_at dksX3_valueOf_2 11 rfl rfl)
theorem dX3_valueOf_60 : decode cX3_valueOf 60 = .ok (.iload_n 3, 1) := dk_29 (dk_at dksX3_valueOf_2 12 rfl rfl)
theorem dX3_valueOf_61 : decode cX3_valueOf 61 = .ok (.iload 4, 2) := dk_21 4 (dk_at dksX3_valueOf_2 13 rfl rfl)
theorem dX3_valueOf_63 : decode cX3_valueOf 63 = .ok (.if_icmp .ge 8, 3) := dk_162 0 8 (dk_at dksX3_valueOf_2 15 rfl rfl)
theorem dX3_valueOf_66 : decode cX3_valueOf 66 = .ok (.iload 4, 2) := dk_21 4 (dk_at dksX3_valueOf_2 18 rfl rfl)
theorem dX3_valueOf_68 : decode cX3_valueOf 68 = .ok (.goto 4, 3) := dk_167 0 4 (dk_at dksX3_valueOf_2 20 rfl rfl)
theorem dX3_valueOf_71 : decode cX3_valueOf 71 = .ok (.iload_n 3, 1) := dk_29 (dk_at dksX3_valueOf_2 23 rfl rfl)
theorem dX3_valueOf_72 : decode cX3_valueOf 72 = .ok (.iastore, 1) := dk_79 (dk_at dksX3_valueOf_3 0 rfl rfl)
theorem dX3_valueOf_73 : decode cX3_valueOf 73 = .ok (.aload_n 0, 1) := dk_42 (dk_at dksX3_valueOf_3 1 rfl rfl)
theorem dX3_valueOf_74 : decode cX3_valueOf 74 = .ok (.getfield 54, 3) := dk_180 0 54 (dk_at dksX3_valueOf_3 2 rfl rfl)
theorem dX3_valueOf_77 : decode cX3_valueOf 77 = .ok (.iconst 2, 1) := dk_5 (dk_at dksX3_valueOf_3 5 rfl rfl)
theorem dX3_valueOf_78 : decode cX3_valueOf 78 = .ok (.iload 5, 2) := dk_21 5 (dk_at dksX3_valueOf_3 6 rfl rfl)
theorem dX3_valueOf_80 : decode cX3_valueOf 80 = .ok (.iastore, 1) := dk_79 (dk_at dksX3_valueOf_3 8 rfl rfl)
theorem dX3_valueOf_81 : decode cX3_valueOf 81 = .ok (.iload 6, 2) := dk_21 6 (dk_at dksX3_valueOf_3 9 rfl rfl)
theorem dX3_valueOf_83 : decode cX3_valueOf 83 = .ok (.ifCond .ge 23, 3) := dk_156 0 23 (dk_at dksX3_valueOf_3 11 rfl rfl)
theorem dX3_valueOf_86 : decode cX3_valueOf 86 = .ok (.iload_n 3, 1) := dk_29 (dk_at dksX3_valueOf_3 14 rfl rfl)
theorem dX3_valueOf_87 : decode cX3_valueOf 87 = .ok (.iload 4, 2) := dk_21 4 (dk_at dksX3_valueOf_3 15 rfl rfl)
theorem dX3_valueOf_89 : decode cX3_valueOf 89 = .ok (.iadd, 1) := dk_96 (dk_at dksX3_valueOf_3 17 rfl rfl)
theorem dX3_valueOf_90 : decode cX3_valueOf 90 = .ok (.iload 5, 2) := dk_21 5 (dk_at dksX3_valueOf_3 18 rfl rfl)
theorem dX3_valueOf_92 : decode cX3_valueOf 92 = .ok (.bipush 10, 2) := dk_16 10 (dk_at dksX3_valueOf_3 20 rfl rfl)
theorem dX3_valueOf_94 : decode cX3_valueOf 94 = .ok (.idiv, 1) := dk_108 (dk_at dksX3_valueOf_3 22 rfl rfl)
theorem dX3_valueOf_95 : decode cX3_valueOf 95 = .ok (.isub, 1) := dk_100 (dk_at dksX3_valueOf_3 23 rfl rfl)
theorem dX3_valueOf_96 : decode cX3_valueOf 96 = .ok (.iconst 0, 1) := dk_3 (dk_at dksX3_valueOf_4 0 rfl rfl)
theorem dX3_valueOf_97 : decode cX3_valueOf 97 = .ok (.sipush 999, 3) := dk_17 3 231 (dk_at dksX3_valueOf_4 1 rfl rfl)
theorem dX3_valueOf_100 : decode cX3_valueOf 100 = .ok (.invokestatic 128, 3) := dk_184 0 128 (dk_at dksX3_valueOf_4 4 rfl rfl)
theorem dX3_valueOf_103 : decode cX3_valueOf 103 = .ok (.goto 16, 3) := dk_167 0 16 (dk_at dksX3_valueOf_4 7 rfl rfl)
theorem dX3_valueOf_106 : decode cX3_valueOf 106 = .ok (.aload_n 0, 1) := dk_42 (dk_at dksX3_valueOf_4 10 rfl rfl)
theorem dX3_valueOf_107 : decode cX3_valueOf 107 = .ok (.iload 6, 2) := dk_21 6 (dk_at dksX3_valueOf_4 11 rfl rfl)
theorem dX3_valueOf_109 : decode cX3_valueOf 109 = .ok (.invokevirtual 132, 3) := dk_182 0 132 (dk_at dksX3_valueOf_4 13 rfl rfl)
theorem dX3_valueOf_112 : decode cX3_valueOf 112 = .ok (.iconst 0, 1) := dk_3 (dk_at dksX3_valueOf_4 16 rfl rfl)
theorem dX3_valueOf_113 : decode cX3_valueOf 113 = .ok (.sipush 999, 3) := dk_17 3 231 (dk_at dksX3_valueOf_4 17 rfl rfl)
theorem dX3_valueOf_116 : decode cX3_valueOf 116 = .ok (.invokestatic 128, 3) := dk_184 0 128 (dk_at dksX3_valueOf_4 20 rfl rfl)
theorem dX3_valueOf_119 : decode cX3_valueOf 119 = .ok (.ireturn, 1) := dk_172 (dk_at dksX3_valueOf_4 23 rfl rfl)
abbrev cX3_counts : ByteArray := prog_22_method_75_code
def yX3_counts : MethodName := ⟨RX3, "counts", "(I)I"⟩
def dkwX3_counts_1 : List UInt8 := [17, 3, 232, 108, 27, 160, 0, 5, 28, 172, 132, 2, 255, 167, 255, 228, 2, 172]
abbrev dktX3_counts_1 : List UInt8 := dkwX3_counts_1 ++ []
def dkwX3_counts_0 : List UInt8 := [42, 180, 0, 9, 8, 46, 4, 100, 61, 28, 155, 0, 30, 42, 180, 0, 9, 16, 76, 5, 28, 104, 96, 46]
abbrev dktX3_counts_0 : List UInt8 := dkwX3_counts_0 ++ dktX3_counts_1
theorem dksX3_counts_0 : cX3_counts.data.toList.drop 0 = dktX3_counts_0 := by decide +kernel
theorem dksX3_counts_1 : cX3_counts.data.toList.drop 24 = dktX3_counts_1 := dk_seg dksX3_counts_0 24 rfl rfl
theorem dX3_counts_0 : decode cX3_counts 0 = .ok (.aload_n 0, 1) := dk_42 (dk_at dksX3_counts_0 0 rfl rfl)
theorem dX3_counts_1 : decode cX3_counts 1 = .ok (.getfield 9, 3) := dk_180 0 9 (dk_at dksX3_counts_0 1 rfl rfl)
theorem dX3_counts_4 : decode cX3_counts 4 = .ok (.iconst 5, 1) := dk_8 (dk_at dksX3_counts_0 4 rfl rfl)
theorem dX3_counts_5 : decode cX3_counts 5 = .ok (.iaload, 1) := dk_46 (dk_at dksX3_counts_0 5 rfl rfl)
theorem dX3_counts_6 : decode cX3_counts 6 = .ok (.iconst 1, 1) := dk_4 (dk_at dksX3_counts_0 6 rfl rfl)
theorem dX3_counts_7 : decode cX3_counts 7 = .ok (.isub, 1) := dk_100 (dk_at dksX3_counts_0 7 rfl rfl)
theorem dX3_counts_8 : decode cX3_counts 8 = .ok (.istore_n 2, 1) := dk_61 (dk_at dksX3_counts_0 8 rfl rfl)
theorem dX3_counts_9 : decode cX3_counts 9 = .ok (.iload_n 2, 1) := dk_28 (dk_at dksX3_counts_0 9 rfl rfl)
theorem dX3_counts_10 : decode cX3_counts 10 = .ok (.ifCond .lt 30, 3) := dk_155 0 30 (dk_at dksX3_counts_0 10 rfl rfl)
theorem dX3_counts_13 : decode cX3_counts 13 = .ok (.aload_n 0, 1) := dk_42 (dk_at dksX3_counts_0 13 rfl rfl)
theorem dX3_counts_14 : decode cX3_counts 14 = .ok (.getfield 9, 3) := dk_180 0 9 (dk_at dksX3_counts_0 14 rfl rfl)
theorem dX3_counts_17 : decode cX3_counts 17 = .ok (.bipush 76, 2) := dk_16 76 (dk_at dksX3_counts_0 17 rfl rfl)
theorem dX3_counts_19 : decode cX3_counts 19 = .ok (.iconst 2, 1) := dk_5 (dk_at dksX3_counts_0 19 rfl rfl)
theorem dX3_counts_20 : decode cX3_counts 20 = .ok (.iload_n 2, 1) := dk_28 (dk_at dksX3_counts_0 20 rfl rfl)
theorem dX3_counts_21 : decode cX3_counts 21 = .ok (.imul, 1) := dk_104 (dk_at dksX3_counts_0 21 rfl rfl)
theorem dX3_counts_22 : decode cX3_counts 22 = .ok (.iadd, 1) := dk_96 (dk_at dksX3_counts_0 22 rfl rfl)
theorem dX3_counts_23 : decode cX3_counts 23 = .ok (.iaload, 1) := dk_46 (dk_at dksX3_counts_0 23 rfl rfl)
theorem dX3_counts_24 : decode cX3_counts 24 = .ok (.sipush 1000, 3) := dk_17 3 232 (dk_at dksX3_counts_1 0 rfl rfl)
theorem dX3_counts_27 : decode cX3_counts 27 = .ok (.idiv, 1) := dk_108 (dk_at dksX3_counts_1 3 rfl rfl)
theorem dX3_counts_28 : decode cX3_counts 28 = .ok (.iload_n 1, 1) := dk_27 (dk_at dksX3_counts_1 4 rfl rfl)
theorem dX3_counts_29 : decode cX3_counts 29 = .ok (.if_icmp .ne 5, 3) := dk_160 0 5 (dk_at dksX3_counts_1 5 rfl rfl)
theorem dX3_counts_32 : decode cX3_counts 32 = .ok (.iload_n 2, 1) := dk_28 (dk_at dksX3_counts_1 8 rfl rfl)
theorem dX3_counts_33 : decode cX3_counts 33 = .ok (.ireturn, 1) := dk_172 (dk_at dksX3_counts_1 9 rfl rfl)
theorem dX3_counts_34 : decode cX3_counts 34 = .ok (.iinc 2 (-1), 3) := dk_132 2 255 (dk_at dksX3_counts_1 10 rfl rfl)
theorem dX3_counts_37 : decode cX3_counts 37 = .ok (.goto (-28), 3) := dk_167 255 228 (dk_at dksX3_counts_1 13 rfl rfl)
theorem dX3_counts_40 : decode cX3_counts 40 = .ok (.iconst (-1), 1) := dk_2 (dk_at dksX3_counts_1 16 rfl rfl)
theorem dX3_counts_41 : decode cX3_counts 41 = .ok (.ireturn, 1) := dk_172 (dk_at dksX3_counts_1 17 rfl rfl)
abbrev cX3_within : ByteArray := prog_22_method_3_code
def yX3_within : MethodName := ⟨RX3, "within", "(III)I"⟩
def dkwX3_within_0 : List UInt8 := [26, 27, 162, 0, 7, 27, 167, 0, 13, 26, 28, 164, 0, 7, 28, 167, 0, 4, 26, 172]
abbrev dktX3_within_0 : List UInt8 := dkwX3_within_0 ++ []
theorem dksX3_within_0 : cX3_within.data.toList.drop 0 = dktX3_within_0 := by decide +kernel
theorem dX3_within_0 : decode cX3_within 0 = .ok (.iload_n 0, 1) := dk_26 (dk_at dksX3_within_0 0 rfl rfl)
theorem dX3_within_1 : decode cX3_within 1 = .ok (.iload_n 1, 1) := dk_27 (dk_at dksX3_within_0 1 rfl rfl)
theorem dX3_within_2 : decode cX3_within 2 = .ok (.if_icmp .ge 7, 3) := dk_162 0 7 (dk_at dksX3_within_0 2 rfl rfl)
theorem dX3_within_5 : decode cX3_within 5 = .ok (.iload_n 1, 1) := dk_27 (dk_at dksX3_within_0 5 rfl rfl)
theorem dX3_within_6 : decode cX3_within 6 = .ok (.goto 13, 3) := dk_167 0 13 (dk_at dksX3_within_0 6 rfl rfl)
theorem dX3_within_9 : decode cX3_within 9 = .ok (.iload_n 0, 1) := dk_26 (dk_at dksX3_within_0 9 rfl rfl)
theorem dX3_within_10 : decode cX3_within 10 = .ok (.iload_n 2, 1) := dk_28 (dk_at dksX3_within_0 10 rfl rfl)
theorem dX3_within_11 : decode cX3_within 11 = .ok (.if_icmp .le 7, 3) := dk_164 0 7 (dk_at dksX3_within_0 11 rfl rfl)
theorem dX3_within_14 : decode cX3_within 14 = .ok (.iload_n 2, 1) := dk_28 (dk_at dksX3_within_0 14 rfl rfl)
theorem dX3_within_15 : decode cX3_within 15 = .ok (.goto 4, 3) := dk_167 0 4 (dk_at dksX3_within_0 15 rfl rfl)
theorem dX3_within_18 : decode cX3_within 18 = .ok (.iload_n 0, 1) := dk_26 (dk_at dksX3_within_0 18 rfl rfl)
theorem dX3_within_19 : decode cX3_within 19 = .ok (.ireturn, 1) := dk_172 (dk_at dksX3_within_0 19 rfl rfl)
abbrev cX3_worksOut : ByteArray := prog_22_method_78_code
def yX3_worksOut : MethodName := ⟨RX3, "worksOut", "(I)I"⟩
def dkwX3_worksOut_6 : List UInt8 := [180, 0, 51, 28, 46, 184, 1, 23, 79, 132, 4, 1, 167, 255, 125, 42, 180, 0, 51, 3, 46, 172]
abbrev dktX3_worksOut_6 : List UInt8 := dkwX3_worksOut_6 ++ []
def dkwX3_worksOut_5 : List UInt8 := [167, 0, 33, 132, 2, 255, 42, 180, 0, 51, 28, 4, 100, 21, 5, 42, 180, 0, 51, 28, 4, 100, 46, 42]
abbrev dktX3_worksOut_5 : List UInt8 := dkwX3_worksOut_5 ++ dktX3_worksOut_6
def dkwX3_worksOut_4 : List UInt8 := [42, 180, 0, 51, 28, 4, 100, 42, 180, 0, 51, 28, 4, 100, 46, 154, 0, 7, 4, 167, 0, 4, 3, 79]
abbrev dktX3_worksOut_4 : List UInt8 := dkwX3_worksOut_4 ++ dktX3_worksOut_5
def dkwX3_worksOut_3 : List UInt8 := [180, 0, 54, 21, 5, 17, 39, 16, 100, 46, 79, 132, 2, 1, 167, 0, 67, 21, 5, 16, 246, 160, 0, 30]
abbrev dktX3_worksOut_3 : List UInt8 := dkwX3_worksOut_3 ++ dktX3_worksOut_4
def dkwX3_worksOut_2 : List UInt8 := [155, 0, 39, 42, 180, 0, 51, 28, 21, 5, 17, 39, 16, 162, 0, 8, 21, 5, 167, 0, 14, 42]
abbrev dktX3_worksOut_2 : List UInt8 := dkwX3_worksOut_2 ++ dktX3_worksOut_3
def dkwX3_worksOut_1 : List UInt8 := [162, 0, 131, 42, 180, 0, 9, 16, 104, 16, 96, 27, 104, 96, 21, 4, 96, 46, 54, 5, 21, 5]
abbrev dktX3_worksOut_1 : List UInt8 := dkwX3_worksOut_1 ++ dktX3_worksOut_2
def dkwX3_worksOut_0 : List UInt8 := [3, 61, 42, 180, 0, 9, 16, 76, 5, 27, 104, 96, 46, 17, 3, 232, 112, 62, 3, 54, 4, 21, 4, 29]
abbrev dktX3_worksOut_0 : List UInt8 := dkwX3_worksOut_0 ++ dktX3_worksOut_1
theorem dksX3_worksOut_0 : cX3_worksOut.data.toList.drop 0 = dktX3_worksOut_0 := by decide +kernel
theorem dksX3_worksOut_1 : cX3_worksOut.data.toList.drop 24 = dktX3_worksOut_1 := dk_seg dksX3_worksOut_0 24 rfl rfl
theorem dksX3_worksOut_2 : cX3_worksOut.data.toList.drop 46 = dktX3_worksOut_2 := dk_seg dksX3_worksOut_1 22 rfl rfl
theorem dksX3_worksOut_3 : cX3_worksOut.data.toList.drop 68 = dktX3_worksOut_3 := dk_seg dksX3_worksOut_2 22 rfl rfl
theorem dksX3_worksOut_4 : cX3_worksOut.data.toList.drop 92 = dktX3_worksOut_4 := dk_seg dksX3_worksOut_3 24 rfl rfl
theorem dksX3_worksOut_5 : cX3_worksOut.data.toList.drop 116 = dktX3_worksOut_5 := dk_seg dksX3_worksOut_4 24 rfl rfl
theorem dksX3_worksOut_6 : cX3_worksOut.data.toList.drop 140 = dktX3_worksOut_6 := dk_seg dksX3_worksOut_5 24 rfl rfl
theorem dX3_worksOut_0 : decode cX3_worksOut 0 = .ok (.iconst 0, 1) := dk_3 (dk_at dksX3_worksOut_0 0 rfl rfl)
theorem dX3_worksOut_1 : decode cX3_worksOut 1 = .ok (.istore_n 2, 1) := dk_61 (dk_at dksX3_worksOut_0 1 rfl rfl)
theorem dX3_worksOut_2 : decode cX3_worksOut 2 = .ok (.aload_n 0, 1) := dk_42 (dk_at dksX3_worksOut_0 2 rfl rfl)
theorem dX3_worksOut_3 : decode cX3_worksOut 3 = .ok (.getfield 9, 3) := dk_180 0 9 (dk_at dksX3_worksOut_0 3 rfl rfl)
theorem dX3_worksOut_6 : decode cX3_worksOut 6 = .ok (.bipush 76, 2) := dk_16 76 (dk_at dksX3_worksOut_0 6 rfl rfl)
theorem dX3_worksOut_8 : decode cX3_worksOut 8 = .ok (.iconst 2, 1) := dk_5 (dk_at dksX3_worksOut_0 8 rfl rfl)
theorem dX3_worksOut_9 : decode cX3_worksOut 9 = .ok (.iload_n 1, 1) := dk_27 (dk_at dksX3_worksOut_0 9 rfl rfl)
theorem dX3_worksOut_10 : decode cX3_worksOut 10 = .ok (.imul, 1) := dk_104 (dk_at dksX3_worksOut_0 10 rfl rfl)
theorem dX3_worksOut_11 : decode cX3_worksOut 11 = .ok (.iadd, 1) := dk_96 (dk_at dksX3_worksOut_0 11 rfl rfl)
theorem dX3_worksOut_12 : decode cX3_worksOut 12 = .ok (.iaload, 1) := dk_46 (dk_at dksX3_worksOut_0 12 rfl rfl)
theorem dX3_worksOut_13 : decode cX3_worksOut 13 = .ok (.sipush 1000, 3) := dk_17 3 232 (dk_at dksX3_worksOut_0 13 rfl rfl)
theorem dX3_worksOut_16 : decode cX3_worksOut 16 = .ok (.irem, 1) := dk_112 (dk_at dksX3_worksOut_0 16 rfl rfl)
theorem dX3_worksOut_17 : decode cX3_worksOut 17 = .ok (.istore_n 3, 1) := dk_62 (dk_at dksX3_worksOut_0 17 rfl rfl)
theorem dX3_worksOut_18 : decode cX3_worksOut 18 = .ok (.iconst 0, 1) := dk_3 (dk_at dksX3_worksOut_0 18 rfl rfl)
theorem dX3_worksOut_19 : decode cX3_worksOut 19 = .ok (.istore 4, 2) := dk_54 4 (dk_at dksX3_worksOut_0 19 rfl rfl)
theorem dX3_worksOut_21 : decode cX3_worksOut 21 = .ok (.iload 4, 2) := dk_21 4 (dk_at dksX3_worksOut_0 21 rfl rfl)
theorem dX3_worksOut_23 : decode cX3_worksOut 23 = .ok (.iload_n 3, 1) := dk_29 (dk_at dksX3_worksOut_0 23 rfl rfl)
theorem dX3_worksOut_24 : decode cX3_worksOut 24 = .ok (.if_icmp .ge 131, 3) := dk_162 0 131 (dk_at dksX3_worksOut_1 0 rfl rfl)
theorem dX3_worksOut_27 : decode cX3_worksOut 27 = .ok (.aload_n 0, 1) := dk_42 (dk_at dksX3_worksOut_1 3 rfl rfl)
theorem dX3_worksOut_28 : decode cX3_worksOut 28 = .ok (.getfield 9, 3) := dk_180 0 9 (dk_at dksX3_worksOut_1 4 rfl rfl)
theorem dX3_worksOut_31 : decode cX3_worksOut 31 = .ok (.bipush 104, 2) := dk_16 104 (dk_at dksX3_worksOut_1 7 rfl rfl)
theorem dX3_worksOut_33 : decode cX3_worksOut 33 = .ok (.bipush 96, 2) := dk_16 96 (dk_at dksX3_worksOut_1 9 rfl rfl)
theorem dX3_worksOut_35 : decode cX3_worksOut 35 = .ok (.iload_n 1, 1) := dk_27 (dk_at dksX3_worksOut_1 11 rfl rfl)
theorem dX3_worksOut_36 : decode cX3_worksOut 36 = .ok (.imul, 1) := dk_104 (dk_at dksX3_worksOut_1 12 rfl rfl)
theorem dX3_worksOut_37 : decode cX3_worksOut 37 = .ok (.iadd, 1) := dk_96 (dk_at dksX3_worksOut_1 13 rfl rfl)
theorem dX3_worksOut_38 : decode cX3_worksOut 38 = .ok (.iload 4, 2) := dk_21 4 (dk_at dksX3_worksOut_1 14 rfl rfl)
theorem dX3_worksOut_40 : decode cX3_worksOut 40 = .ok (.iadd, 1) := dk_96 (dk_at dksX3_worksOut_1 16 rfl rfl)
theorem dX3_worksOut_41 : decode cX3_worksOut 41 = .ok (.iaload, 1) := dk_46 (dk_at dksX3_worksOut_1 17 rfl rfl)
theorem dX3_worksOut_42 : decode cX3_worksOut 42 = .ok (.istore 5, 2) := dk_54 5 (dk_at dksX3_worksOut_1 18 rfl rfl)
theorem dX3_worksOut_44 : decode cX3_worksOut 44 = .ok (.iload 5, 2) := dk_21 5 (dk_at dksX3_worksOut_1 20 rfl rfl)
theorem dX3_worksOut_46 : decode cX3_worksOut 46 = .ok (.ifCond .lt 39, 3) := dk_155 0 39 (dk_at dksX3_worksOut_2 0 rfl rfl)
theorem dX3_worksOut_49 : decode cX3_worksOut 49 = .ok (.aload_n 0, 1) := dk_42 (dk_at dksX3_worksOut_2 3 rfl rfl)
theorem dX3_worksOut_50 : decode cX3_worksOut 50 = .ok (.getfield 51, 3) := dk_180 0 51 (dk_at dksX3_worksOut_2 4 rfl rfl)
theorem dX3_worksOut_53 : decode cX3_worksOut 53 = .ok (.iload_n 2, 1) := dk_28 (dk_at dksX3_worksOut_2 7 rfl rfl)
theorem dX3_worksOut_54 : decode cX3_worksOut 54 = .ok (.iload 5, 2) := dk_21 5 (dk_at dksX3_worksOut_2 8 rfl rfl)
theorem dX3_worksOut_56 : decode cX3_worksOut 56 = .ok (.sipush 10000, 3) := dk_17 39 16 (dk_at dksX3_worksOut_2 10 rfl rfl)
theorem dX3_worksOut_59 : decode cX3_worksOut 59 = .ok (.if_icmp .ge 8, 3) := dk_162 0 8 (dk_at dksX3_worksOut_2 13 rfl rfl)
theorem dX3_worksOut_62 : decode cX3_worksOut 62 = .ok (.iload 5, 2) := dk_21 5 (dk_at dksX3_worksOut_2 16 rfl rfl)
theorem dX3_worksOut_64 : decode cX3_worksOut 64 = .ok (.goto 14, 3) := dk_167 0 14 (dk_at dksX3_worksOut_2 18 rfl rfl)
theorem dX3_worksOut_67 : decode cX3_worksOut 67 = .ok (.aload_n 0, 1) := dk_42 (dk_at dksX3_worksOut_2 21 rfl rfl)
theorem dX3_worksOut_68 : decode cX3_worksOut 68 = .ok (.getfield 54, 3) := dk_180 0 54 (dk_at dksX3_worksOut_3 0 rfl rfl)
theorem dX3_worksOut_71 : decode cX3_worksOut 71 = .ok (.iload 5, 2) := dk_21 5 (dk_at dksX3_worksOut_3 3 rfl rfl)
theorem dX3_worksOut_73 : decode cX3_worksOut 73 = .ok (.sipush 10000, 3) := dk_17 39 16 (dk_at dksX3_worksOut_3 5 rfl rfl)
theorem dX3_worksOut_76 : decode cX3_worksOut 76 = .ok (.isub, 1) := dk_100 (dk_at dksX3_worksOut_3 8 rfl rfl)
theorem dX3_worksOut_77 : decode cX3_worksOut 77 = .ok (.iaload, 1) := dk_46 (dk_at dksX3_worksOut_3 9 rfl rfl)
theorem dX3_worksOut_78 : decode cX3_worksOut 78 = .ok (.iastore, 1) := dk_79 (dk_at dksX3_worksOut_3 10 rfl rfl)
theorem dX3_worksOut_79 : decode cX3_worksOut 79 = .ok (.iinc 2 1, 3) := dk_132 2 1 (dk_at dksX3_worksOut_3 11 rfl rfl)
theorem dX3_worksOut_82 : decode cX3_worksOut 82 = .ok (.goto 67, 3) := dk_167 0 67 (dk_at dksX3_worksOut_3 14 rfl rfl)
theorem dX3_worksOut_85 : decode cX3_worksOut 85 = .ok (.iload 5, 2) := dk_21 5 (dk_at dksX3_worksOut_3 17 rfl rfl)
theorem dX3_worksOut_87 : decode cX3_worksOut 87 = .ok (.bipush (-10), 2) := dk_16 246 (dk_at dksX3_worksOut_3 19 rfl rfl)
theorem dX3_worksOut_89 : decode cX3_worksOut 89 = .ok (.if_icmp .ne 30, 3) := dk_160 0 30 (dk_at dksX3_worksOut_3 21 rfl rfl)
theorem dX3_worksOut_92 : decode cX3_worksOut 92 = .ok (.aload_n 0, 1) := dk_42 (dk_at dksX3_worksOut_4 0 rfl rfl)
theorem dX3_worksOut_93 : decode cX3_worksOut 93 = .ok (.getfield 51, 3) := dk_180 0 51 (dk_at dksX3_worksOut_4 1 rfl rfl)
theorem dX3_worksOut_96 : decode cX3_worksOut 96 = .ok (.iload_n 2, 1) := dk_28 (dk_at dksX3_worksOut_4 4 rfl rfl)
theorem dX3_worksOut_97 : decode cX3_worksOut 97 = .ok (.iconst 1, 1) := dk_4 (dk_at dksX3_worksOut_4 5 rfl rfl)
theorem dX3_worksOut_98 : decode cX3_worksOut 98 = .ok (.isub, 1) := dk_100 (dk_at dksX3_worksOut_4 6 rfl rfl)
theorem dX3_worksOut_99 : decode cX3_worksOut 99 = .ok (.aload_n 0, 1) := dk_42 (dk_at dksX3_worksOut_4 7 rfl rfl)
theorem dX3_worksOut_100 : decode cX3_worksOut 100 = .ok (.getfield 51, 3) := dk_180 0 51 (dk_at dksX3_worksOut_4 8 rfl rfl)
theorem dX3_worksOut_103 : decode cX3_worksOut 103 = .ok (.iload_n 2, 1) := dk_28 (dk_at dksX3_worksOut_4 11 rfl rfl)
theorem dX3_worksOut_104 : decode cX3_worksOut 104 = .ok (.iconst 1, 1) := dk_4 (dk_at dksX3_worksOut_4 12 rfl rfl)
theorem dX3_worksOut_105 : decode cX3_worksOut 105 = .ok (.isub, 1) := dk_100 (dk_at dksX3_worksOut_4 13 rfl rfl)
theorem dX3_worksOut_106 : decode cX3_worksOut 106 = .ok (.iaload, 1) := dk_46 (dk_at dksX3_worksOut_4 14 rfl rfl)
theorem dX3_worksOut_107 : decode cX3_worksOut 107 = .ok (.ifCond .ne 7, 3) := dk_154 0 7 (dk_at dksX3_worksOut_4 15 rfl rfl)
theorem dX3_worksOut_110 : decode cX3_worksOut 110 = .ok (.iconst 1, 1) := dk_4 (dk_at dksX3_worksOut_4 18 rfl rfl)
theorem dX3_worksOut_111 : decode cX3_worksOut 111 = .ok (.goto 4, 3) := dk_167 0 4 (dk_at dksX3_worksOut_4 19 rfl rfl)
theorem dX3_worksOut_114 : decode cX3_worksOut 114 = .ok (.iconst 0, 1) := dk_3 (dk_at dksX3_worksOut_4 22 rfl rfl)
theorem dX3_worksOut_115 : decode cX3_worksOut 115 = .ok (.iastore, 1) := dk_79 (dk_at dksX3_worksOut_4 23 rfl rfl)
theorem dX3_worksOut_116 : decode cX3_worksOut 116 = .ok (.goto 33, 3) := dk_167 0 33 (dk_at dksX3_worksOut_5 0 rfl rfl)
theorem dX3_worksOut_119 : decode cX3_worksOut 119 = .ok (.iinc 2 (-1), 3) := dk_132 2 255 (dk_at dksX3_worksOut_5 3 rfl rfl)
theorem dX3_worksOut_122 : decode cX3_worksOut 122 = .ok (.aload_n 0, 1) := dk_42 (dk_at dksX3_worksOut_5 6 rfl rfl)
theorem dX3_worksOut_123 : decode cX3_worksOut 123 = .ok (.getfield 51, 3) := dk_180 0 51 (dk_at dksX3_worksOut_5 7 rfl rfl)
theorem dX3_worksOut_126 : decode cX3_worksOut 126 = .ok (.iload_n 2, 1) := dk_28 (dk_at dksX3_worksOut_5 10 rfl rfl)
theorem dX3_worksOut_127 : decode cX3_worksOut 127 = .ok (.iconst 1, 1) := dk_4 (dk_at dksX3_worksOut_5 11 rfl rfl)
theorem dX3_worksOut_128 : decode cX3_worksOut 128 = .ok (.isub, 1) := dk_100 (dk_at dksX3_worksOut_5 12 rfl rfl)
theorem dX3_worksOut_129 : decode cX3_worksOut 129 = .ok (.iload 5, 2) := dk_21 5 (dk_at dksX3_worksOut_5 13 rfl rfl)
theorem dX3_worksOut_131 : decode cX3_worksOut 131 = .ok (.aload_n 0, 1) := dk_42 (dk_at dksX3_worksOut_5 15 rfl rfl)
theorem dX3_worksOut_132 : decode cX3_worksOut 132 = .ok (.getfield 51, 3) := dk_180 0 51 (dk_at dksX3_worksOut_5 16 rfl rfl)
theorem dX3_worksOut_135 : decode cX3_worksOut 135 = .ok (.iload_n 2, 1) := dk_28 (dk_at dksX3_worksOut_5 19 rfl rfl)
theorem dX3_worksOut_136 : decode cX3_worksOut 136 = .ok (.iconst 1, 1) := dk_4 (dk_at dksX3_worksOut_5 20 rfl rfl)
theorem dX3_worksOut_137 : decode cX3_worksOut 137 = .ok (.isub, 1) := dk_100 (dk_at dksX3_worksOut_5 21 rfl rfl)
theorem dX3_worksOut_138 : decode cX3_worksOut 138 = .ok (.iaload, 1) := dk_46 (dk_at dksX3_worksOut_5 22 rfl rfl)
theorem dX3_worksOut_139 : decode cX3_worksOut 139 = .ok (.aload_n 0, 1) := dk_42 (dk_at dksX3_worksOut_5 23 rfl rfl)
theorem dX3_worksOut_140 : decode cX3_worksOut 140 = .ok (.getfield 51, 3) := dk_180 0 51 (dk_at dksX3_worksOut_6 0 rfl rfl)
theorem dX3_worksOut_143 : decode cX3_worksOut 143 = .ok (.iload_n 2, 1) := dk_28 (dk_at dksX3_worksOut_6 3 rfl rfl)
theorem dX3_worksOut_144 : decode cX3_worksOut 144 = .ok (.iaload, 1) := dk_46 (dk_at dksX3_worksOut_6 4 rfl rfl)
theorem dX3_worksOut_145 : decode cX3_worksOut 145 = .ok (.invokestatic 279, 3) := dk_184 1 23 (dk_at dksX3_worksOut_6 5 rfl rfl)
theorem dX3_worksOut_148 : decode cX3_worksOut 148 = .ok (.iastore, 1) := dk_79 (dk_at dksX3_worksOut_6 8 rfl rfl)
theorem dX3_worksOut_149 : decode cX3_worksOut 149 = .ok (.iinc 4 1, 3) := dk_132 4 1 (dk_at dksX3_worksOut_6 9 rfl rfl)
theorem dX3_worksOut_152 : decode cX3_worksOut 152 = .ok (.goto (-131), 3) := dk_167 255 125 (dk_at dksX3_worksOut_6 12 rfl rfl)
theorem dX3_worksOut_155 : decode cX3_worksOut 155 = .ok (.aload_n 0, 1) := dk_42 (dk_at dksX3_worksOut_6 15 rfl rfl)
theorem dX3_worksOut_156 : decode cX3_worksOut 156 = .ok (.getfield 51, 3) := dk_180 0 51 (dk_at dksX3_worksOut_6 16 rfl rfl)
theorem dX3_worksOut_159 : decode cX3_worksOut 159 = .ok (.iconst 0, 1) := dk_3 (dk_at dksX3_worksOut_6 19 rfl rfl)
theorem dX3_worksOut_160 : decode cX3_worksOut 160 = .ok (.iaload, 1) := dk_46 (dk_at dksX3_worksOut_6 20 rfl rfl)
theorem dX3_worksOut_161 : decode cX3_worksOut 161 = .ok (.ireturn, 1) := dk_172 (dk_at dksX3_worksOut_6 21 rfl rfl)
abbrev cX3_two : ByteArray := prog_22_method_77_code
def yX3_two : MethodName := ⟨RX3, "two", "(III)I"⟩
def dkwX3_two_5 : List UInt8 := [27, 28, 104, 172, 28, 154, 0, 7, 3, 167, 0, 6, 27, 28, 108, 172]
abbrev dktX3_two_5 : List UInt8 := dkwX3_two_5 ++ []
def dkwX3_two_4 : List UInt8 := [167, 0, 4, 3, 172, 27, 28, 164, 0, 7, 4, 167, 0, 4, 3, 172, 27, 28, 96, 172, 27, 28, 100, 172]
abbrev dktX3_two_4 : List UInt8 := dkwX3_two_4 ++ dktX3_two_5
def dkwX3_two_3 : List UInt8 := [167, 0, 4, 3, 172, 27, 28, 162, 0, 7, 4, 167, 0, 4, 3, 172, 27, 28, 160, 0, 7, 4]
abbrev dktX3_two_3 : List UInt8 := dkwX3_two_3 ++ dktX3_two_4
def dkwX3_two_2 : List UInt8 := [27, 154, 0, 7, 28, 153, 0, 7, 4, 167, 0, 4, 3, 172, 27, 153, 0, 11, 28, 153, 0, 7, 4]
abbrev dktX3_two_2 : List UInt8 := dkwX3_two_2 ++ dktX3_two_3
def dkwX3_two_1 : List UInt8 := [170, 0, 0, 0, 0, 0, 120, 255, 255, 255, 248, 255, 255, 255, 255, 0, 0, 0, 116, 0, 0, 0, 112, 0, 0, 0, 108, 0, 0, 0, 97, 0, 0, 0, 86, 0, 0, 0, 75, 0, 0, 0, 61, 0, 0, 0, 47]
abbrev dktX3_two_1 : List UInt8 := dkwX3_two_1 ++ dktX3_two_2
def dkwX3_two_0 : List UInt8 := [26]
abbrev dktX3_two_0 : List UInt8 := dkwX3_two_0 ++ dktX3_two_1
theorem dksX3_two_0 : cX3_two.data.toList.drop 0 = dktX3_two_0 := by decide +kernel
theorem dksX3_two_1 : cX3_two.data.toList.drop 1 = dktX3_two_1 := dk_seg dksX3_two_0 1 rfl rfl
theorem dksX3_two_2 : cX3_two.data.toList.drop 48 = dktX3_two_2 := dk_seg dksX3_two_1 47 rfl rfl
theorem dksX3_two_3 : cX3_two.data.toList.drop 71 = dktX3_two_3 := dk_seg dksX3_two_2 23 rfl rfl
theorem dksX3_two_4 : cX3_two.data.toList.drop 93 = dktX3_two_4 := dk_seg dksX3_two_3 22 rfl rfl
theorem dksX3_two_5 : cX3_two.data.toList.drop 117 = dktX3_two_5 := dk_seg dksX3_two_4 24 rfl rfl
theorem dX3_two_0 : decode cX3_two 0 = .ok (.iload_n 0, 1) := dk_26 (dk_at dksX3_two_0 0 rfl rfl)
theorem dX3_two_1 : decode cX3_two 1 = .ok (.tableswitch 120 (-8) (-1) #[116, 112, 108, 97, 86, 75, 61, 47], 47) := by decide +kernel
theorem dX3_two_48 : decode cX3_two 48 = .ok (.iload_n 1, 1) := dk_27 (dk_at dksX3_two_2 0 rfl rfl)
theorem dX3_two_49 : decode cX3_two 49 = .ok (.ifCond .ne 7, 3) := dk_154 0 7 (dk_at dksX3_two_2 1 rfl rfl)
theorem dX3_two_52 : decode cX3_two 52 = .ok (.iload_n 2, 1) := dk_28 (dk_at dksX3_two_2 4 rfl rfl)
theorem dX3_two_53 : decode cX3_two 53 = .ok (.ifCond .eq 7, 3) := dk_153 0 7 (dk_at dksX3_two_2 5 rfl rfl)
theorem dX3_two_56 : decode cX3_two 56 = .ok (.iconst 1, 1) := dk_4 (dk_at dksX3_two_2 8 rfl rfl)
theorem dX3_two_57 : decode cX3_two 57 = .ok (.goto 4, 3) := dk_167 0 4 (dk_at dksX3_two_2 9 rfl rfl)
theorem dX3_two_60 : decode cX3_two 60 = .ok (.iconst 0, 1) := dk_3 (dk_at dksX3_two_2 12 rfl rfl)
theorem dX3_two_61 : decode cX3_two 61 = .ok (.ireturn, 1) := dk_172 (dk_at dksX3_two_2 13 rfl rfl)
theorem dX3_two_62 : decode cX3_two 62 = .ok (.iload_n 1, 1) := dk_27 (dk_at dksX3_two_2 14 rfl rfl)
theorem dX3_two_63 : decode cX3_two 63 = .ok (.ifCond .eq 11, 3) := dk_153 0 11 (dk_at dksX3_two_2 15 rfl rfl)
theorem dX3_two_66 : decode cX3_two 66 = .ok (.iload_n 2, 1) := dk_28 (dk_at dksX3_two_2 18 rfl rfl)
theorem dX3_two_67 : decode cX3_two 67 = .ok (.ifCond .eq 7, 3) := dk_153 0 7 (dk_at dksX3_two_2 19 rfl rfl)
theorem dX3_two_70 : decode cX3_two 70 = .ok (.iconst 1, 1) := dk_4 (dk_at dksX3_two_2 22 rfl rfl)
theorem dX3_two_71 : decode cX3_two 71 = .ok (.goto 4, 3) := dk_167 0 4 (dk_at dksX3_two_3 0 rfl rfl)
theorem dX3_two_74 : decode cX3_two 74 = .ok (.iconst 0, 1) := dk_3 (dk_at dksX3_two_3 3 rfl rfl)
theorem dX3_two_75 : decode cX3_two 75 = .ok (.ireturn, 1) := dk_172 (dk_at dksX3_two_3 4 rfl rfl)
theorem dX3_two_76 : decode cX3_two 76 = .ok (.iload_n 1, 1) := dk_27 (dk_at dksX3_two_3 5 rfl rfl)
theorem dX3_two_77 : decode cX3_two 77 = .ok (.iload_n 2, 1) := dk_28 (dk_at dksX3_two_3 6 rfl rfl)
theorem dX3_two_78 : decode cX3_two 78 = .ok (.if_icmp .ge 7, 3) := dk_162 0 7 (dk_at dksX3_two_3 7 rfl rfl)
theorem dX3_two_81 : decode cX3_two 81 = .ok (.iconst 1, 1) := dk_4 (dk_at dksX3_two_3 10 rfl rfl)
theorem dX3_two_82 : decode cX3_two 82 = .ok (.goto 4, 3) := dk_167 0 4 (dk_at dksX3_two_3 11 rfl rfl)
theorem dX3_two_85 : decode cX3_two 85 = .ok (.iconst 0, 1) := dk_3 (dk_at dksX3_two_3 14 rfl rfl)
theorem dX3_two_86 : decode cX3_two 86 = .ok (.ireturn, 1) := dk_172 (dk_at dksX3_two_3 15 rfl rfl)
theorem dX3_two_87 : decode cX3_two 87 = .ok (.iload_n 1, 1) := dk_27 (dk_at dksX3_two_3 16 rfl rfl)
theorem dX3_two_88 : decode cX3_two 88 = .ok (.iload_n 2, 1) := dk_28 (dk_at dksX3_two_3 17 rfl rfl)
theorem dX3_two_89 : decode cX3_two 89 = .ok (.if_icmp .ne 7, 3) := dk_160 0 7 (dk_at dksX3_two_3 18 rfl rfl)
theorem dX3_two_92 : decode cX3_two 92 = .ok (.iconst 1, 1) := dk_4 (dk_at dksX3_two_3 21 rfl rfl)
theorem dX3_two_93 : decode cX3_two 93 = .ok (.goto 4, 3) := dk_167 0 4 (dk_at dksX3_two_4 0 rfl rfl)
theorem dX3_two_96 : decode cX3_two 96 = .ok (.iconst 0, 1) := dk_3 (dk_at dksX3_two_4 3 rfl rfl)
theorem dX3_two_97 : decode cX3_two 97 = .ok (.ireturn, 1) := dk_172 (dk_at dksX3_two_4 4 rfl rfl)
theorem dX3_two_98 : decode cX3_two 98 = .ok (.iload_n 1, 1) := dk_27 (dk_at dksX3_two_4 5 rfl rfl)
theorem dX3_two_99 : decode cX3_two 99 = .ok (.iload_n 2, 1) := dk_28 (dk_at dksX3_two_4 6 rfl rfl)
theorem dX3_two_100 : decode cX3_two 100 = .ok (.if_icmp .le 7, 3) := dk_164 0 7 (dk_at dksX3_two_4 7 rfl rfl)
theorem dX3_two_103 : decode cX3_two 103 = .ok (.iconst 1, 1) := dk_4 (dk_at dksX3_two_4 10 rfl rfl)
theorem dX3_two_104 : decode cX3_two 104 = .ok (.goto 4, 3) := dk_167 0 4 (dk_at dksX3_two_4 11 rfl rfl)
theorem dX3_two_107 : decode cX3_two 107 = .ok (.iconst 0, 1) := dk_3 (dk_at dksX3_two_4 14 rfl rfl)
theorem dX3_two_108 : decode cX3_two 108 = .ok (.ireturn, 1) := dk_172 (dk_at dksX3_two_4 15 rfl rfl)
theorem dX3_two_109 : decode cX3_two 109 = .ok (.iload_n 1, 1) := dk_27 (dk_at dksX3_two_4 16 rfl rfl)
theorem dX3_two_110 : decode cX3_two 110 = .ok (.iload_n 2, 1) := dk_28 (dk_at dksX3_two_4 17 rfl rfl)
theorem dX3_two_111 : decode cX3_two 111 = .ok (.iadd, 1) := dk_96 (dk_at dksX3_two_4 18 rfl rfl)
theorem dX3_two_112 : decode cX3_two 112 = .ok (.ireturn, 1) := dk_172 (dk_at dksX3_two_4 19 rfl rfl)
theorem dX3_two_113 : decode cX3_two 113 = .ok (.iload_n 1, 1) := dk_27 (dk_at dksX3_two_4 20 rfl rfl)
theorem dX3_two_114 : decode cX3_two 114 = .ok (.iload_n 2, 1) := dk_28 (dk_at dksX3_two_4 21 rfl rfl)
theorem dX3_two_115 : decode cX3_two 115 = .ok (.isub, 1) := dk_100 (dk_at dksX3_two_4 22 rfl rfl)
theorem dX3_two_116 : decode cX3_two 116 = .ok (.ireturn, 1) := dk_172 (dk_at dksX3_two_4 23 rfl rfl)
theorem dX3_two_117 : decode cX3_two 117 = .ok (.iload_n 1, 1) := dk_27 (dk_at dksX3_two_5 0 rfl rfl)
theorem dX3_two_118 : decode cX3_two 118 = .ok (.iload_n 2, 1) := dk_28 (dk_at dksX3_two_5 1 rfl rfl)
theorem dX3_two_119 : decode cX3_two 119 = .ok (.imul, 1) := dk_104 (dk_at dksX3_two_5 2 rfl rfl)
theorem dX3_two_120 : decode cX3_two 120 = .ok (.ireturn, 1) := dk_172 (dk_at dksX3_two_5 3 rfl rfl)
theorem dX3_two_121 : decode cX3_two 121 = .ok (.iload_n 2, 1) := dk_28 (dk_at dksX3_two_5 4 rfl rfl)
theorem dX3_two_122 : decode cX3_two 122 = .ok (.ifCond .ne 7, 3) := dk_154 0 7 (dk_at dksX3_two_5 5 rfl rfl)
theorem dX3_two_125 : decode cX3_two 125 = .ok (.iconst 0, 1) := dk_3 (dk_at dksX3_two_5 8 rfl rfl)
theorem dX3_two_126 : decode cX3_two 126 = .ok (.goto 6, 3) := dk_167 0 6 (dk_at dksX3_two_5 9 rfl rfl)
theorem dX3_two_129 : decode cX3_two 129 = .ok (.iload_n 1, 1) := dk_27 (dk_at dksX3_two_5 12 rfl rfl)
theorem dX3_two_130 : decode cX3_two 130 = .ok (.iload_n 2, 1) := dk_28 (dk_at dksX3_two_5 13 rfl rfl)
theorem dX3_two_131 : decode cX3_two 131 = .ok (.idiv, 1) := dk_108 (dk_at dksX3_two_5 14 rfl rfl)
theorem dX3_two_132 : decode cX3_two 132 = .ok (.ireturn, 1) := dk_172 (dk_at dksX3_two_5 15 rfl rfl)
abbrev cX3_deal : ByteArray := prog_22_method_25_code
def yX3_deal : MethodName := ⟨RX3, "deal", "(I)I"⟩
def dkwX3_deal_3 : List UInt8 := [54, 6, 132, 2, 1, 167, 255, 194, 28, 172]
abbrev dktX3_deal_3 : List UInt8 := dkwX3_deal_3 ++ []
def dkwX3_deal_2 : List UInt8 := [182, 0, 142, 16, 10, 112, 54, 5, 42, 29, 21, 4, 21, 5, 42, 182, 0, 142, 16, 100, 112, 182, 0, 95]
abbrev dktX3_deal_2 : List UInt8 := dkwX3_deal_2 ++ dktX3_deal_3
def dkwX3_deal_1 : List UInt8 := [4, 46, 16, 10, 162, 0, 52, 42, 182, 0, 142, 16, 6, 112, 62, 42, 182, 0, 142, 5, 112, 54, 4, 42]
abbrev dktX3_deal_1 : List UInt8 := dkwX3_deal_1 ++ dktX3_deal_2
def dkwX3_deal_0 : List UInt8 := [27, 4, 16, 10, 184, 0, 85, 154, 0, 6, 18, 93, 172, 3, 61, 28, 27, 162, 0, 63, 42, 180, 0, 9]
abbrev dktX3_deal_0 : List UInt8 := dkwX3_deal_0 ++ dktX3_deal_1
theorem dksX3_deal_0 : cX3_deal.data.toList.drop 0 = dktX3_deal_0 := by decide +kernel
theorem dksX3_deal_1 : cX3_deal.data.toList.drop 24 = dktX3_deal_1 := dk_seg dksX3_deal_0 24 rfl rfl
theorem dksX3_deal_2 : cX3_deal.data.toList.drop 48 = dktX3_deal_2 := dk_seg dksX3_deal_1 24 rfl rfl
theorem dksX3_deal_3 : cX3_deal.data.toList.drop 72 = dktX3_deal_3 := dk_seg dksX3_deal_2 24 rfl rfl
theorem dX3_deal_0 : decode cX3_deal 0 = .ok (.iload_n 1, 1) := dk_27 (dk_at dksX3_deal_0 0 rfl rfl)
theorem dX3_deal_1 : decode cX3_deal 1 = .ok (.iconst 1, 1) := dk_4 (dk_at dksX3_deal_0 1 rfl rfl)
theorem dX3_deal_2 : decode cX3_deal 2 = .ok (.bipush 10, 2) := dk_16 10 (dk_at dksX3_deal_0 2 rfl rfl)
theorem dX3_deal_4 : decode cX3_deal 4 = .ok (.invokestatic 85, 3) := dk_184 0 85 (dk_at dksX3_deal_0 4 rfl rfl)
theorem dX3_deal_7 : decode cX3_deal 7 = .ok (.ifCond .ne 6, 3) := dk_154 0 6 (dk_at dksX3_deal_0 7 rfl rfl)
theorem dX3_deal_10 : decode cX3_deal 10 = .ok (.ldc 93, 2) := dk_18 93 (dk_at dksX3_deal_0 10 rfl rfl)
theorem dX3_deal_12 : decode cX3_deal 12 = .ok (.ireturn, 1) := dk_172 (dk_at dksX3_deal_0 12 rfl rfl)
theorem dX3_deal_13 : decode cX3_deal 13 = .ok (.iconst 0, 1) := dk_3 (dk_at dksX3_deal_0 13 rfl rfl)
theorem dX3_deal_14 : decode cX3_deal 14 = .ok (.istore_n 2, 1) := dk_61 (dk_at dksX3_deal_0 14 rfl rfl)
theorem dX3_deal_15 : decode cX3_deal 15 = .ok (.iload_n 2, 1) := dk_28 (dk_at dksX3_deal_0 15 rfl rfl)
theorem dX3_deal_16 : decode cX3_deal 16 = .ok (.iload_n 1, 1) := dk_27 (dk_at dksX3_deal_0 16 rfl rfl)
theorem dX3_deal_17 : decode cX3_deal 17 = .ok (.if_icmp .ge 63, 3) := dk_162 0 63 (dk_at dksX3_deal_0 17 rfl rfl)
theorem dX3_deal_20 : decode cX3_deal 20 = .ok (.aload_n 0, 1) := dk_42 (dk_at dksX3_deal_0 20 rfl rfl)
theorem dX3_deal_21 : decode cX3_deal 21 = .ok (.getfield 9, 3) := dk_180 0 9 (dk_at dksX3_deal_0 21 rfl rfl)
theorem dX3_deal_24 : decode cX3_deal 24 = .ok (.iconst 1, 1) := dk_4 (dk_at dksX3_deal_1 0 rfl rfl)
theorem dX3_deal_25 : decode cX3_deal 25 = .ok (.iaload, 1) := dk_46 (dk_at dksX3_deal_1 1 rfl rfl)
theorem dX3_deal_26 : decode cX3_deal 26 = .ok (.bipush 10, 2) := dk_16 10 (dk_at dksX3_deal_1 2 rfl rfl)
theorem dX3_deal_28 : decode cX3_deal 28 = .ok (.if_icmp .ge 52, 3) := dk_162 0 52 (dk_at dksX3_deal_1 4 rfl rfl)
theorem dX3_deal_31 : decode cX3_deal 31 = .ok (.aload_n 0, 1) := dk_42 (dk_at dksX3_deal_1 7 rfl rfl)
theorem dX3_deal_32 : decode cX3_deal 32 = .ok (.invokevirtual 142, 3) := dk_182 0 142 (dk_at dksX3_deal_1 8 rfl rfl)
theorem dX3_deal_35 : decode cX3_deal 35 = .ok (.bipush 6, 2) := dk_16 6 (dk_at dksX3_deal_1 11 rfl rfl)
theorem dX3_deal_37 : decode cX3_deal 37 = .ok (.irem, 1) := dk_112 (dk_at dksX3_deal_1 13 rfl rfl)
theorem dX3_deal_38 : decode cX3_deal 38 = .ok (.istore_n 3, 1) := dk_62 (dk_at dksX3_deal_1 14 rfl rfl)
theorem dX3_deal_39 : decode cX3_deal 39 = .ok (.aload_n 0, 1) := dk_42 (dk_at dksX3_deal_1 15 rfl rfl)
theorem dX3_deal_40 : decode cX3_deal 40 = .ok (.invokevirtual 142, 3) := dk_182 0 142 (dk_at dksX3_deal_1 16 rfl rfl)
theorem dX3_deal_43 : decode cX3_deal 43 = .ok (.iconst 2, 1) := dk_5 (dk_at dksX3_deal_1 19 rfl rfl)
theorem dX3_deal_44 : decode cX3_deal 44 = .ok (.irem, 1) := dk_112 (dk_at dksX3_deal_1 20 rfl rfl)
theorem dX3_deal_45 : decode cX3_deal 45 = .ok (.istore 4, 2) := dk_54 4 (dk_at dksX3_deal_1 21 rfl rfl)
theorem dX3_deal_47 : decode cX3_deal 47 = .ok (.aload_n 0, 1) := dk_42 (dk_at dksX3_deal_1 23 rfl rfl)
theorem dX3_deal_48 : decode cX3_deal 48 = .ok (.invokevirtual 142, 3) := dk_182 0 142 (dk_at dksX3_deal_2 0 rfl rfl)
theorem dX3_deal_51 : decode cX3_deal 51 = .ok (.bipush 10, 2) := dk_16 10 (dk_at dksX3_deal_2 3 rfl rfl)
theorem dX3_deal_53 : decode cX3_deal 53 = .ok (.irem, 1) := dk_112 (dk_at dksX3_deal_2 5 rfl rfl)
theorem dX3_deal_54 : decode cX3_deal 54 = .ok (.istore 5, 2) := dk_54 5 (dk_at dksX3_deal_2 6 rfl rfl)
theorem dX3_deal_56 : decode cX3_deal 56 = .ok (.aload_n 0, 1) := dk_42 (dk_at dksX3_deal_2 8 rfl rfl)
theorem dX3_deal_57 : decode cX3_deal 57 = .ok (.iload_n 3, 1) := dk_29 (dk_at dksX3_deal_2 9 rfl rfl)
theorem dX3_deal_58 : decode cX3_deal 58 = .ok (.iload 4, 2) := dk_21 4 (dk_at dksX3_deal_2 10 rfl rfl)
theorem dX3_deal_60 : decode cX3_deal 60 = .ok (.iload 5, 2) := dk_21 5 (dk_at dksX3_deal_2 12 rfl rfl)
theorem dX3_deal_62 : decode cX3_deal 62 = .ok (.aload_n 0, 1) := dk_42 (dk_at dksX3_deal_2 14 rfl rfl)
theorem dX3_deal_63 : decode cX3_deal 63 = .ok (.invokevirtual 142, 3) := dk_182 0 142 (dk_at dksX3_deal_2 15 rfl rfl)
theorem dX3_deal_66 : decode cX3_deal 66 = .ok (.bipush 100, 2) := dk_16 100 (dk_at dksX3_deal_2 18 rfl rfl)
theorem dX3_deal_68 : decode cX3_deal 68 = .ok (.irem, 1) := dk_112 (dk_at dksX3_deal_2 20 rfl rfl)
theorem dX3_deal_69 : decode cX3_deal 69 = .ok (.invokevirtual 95, 3) := dk_182 0 95 (dk_at dksX3_deal_2 21 rfl rfl)
theorem dX3_deal_72 : decode cX3_deal 72 = .ok (.istore 6, 2) := dk_54 6 (dk_at dksX3_deal_3 0 rfl rfl)
theorem dX3_deal_74 : decode cX3_deal 74 = .ok (.iinc 2 1, 3) := dk_132 2 1 (dk_at dksX3_deal_3 2 rfl rfl)
theorem dX3_deal_77 : decode cX3_deal 77 = .ok (.goto (-62), 3) := dk_167 255 194 (dk_at dksX3_deal_3 5 rfl rfl)
theorem dX3_deal_80 : decode cX3_deal 80 = .ok (.iload_n 2, 1) := dk_28 (dk_at dksX3_deal_3 8 rfl rfl)
theorem dX3_deal_81 : decode cX3_deal 81 = .ok (.ireturn, 1) := dk_172 (dk_at dksX3_deal_3 9 rfl rfl)
abbrev cX3_draw : ByteArray := prog_22_method_24_code
def yX3_draw : MethodName := ⟨RX3, "draw", "()I"⟩
def dkwX3_draw_1 : List UInt8 := [46, 16, 8, 124, 172]
abbrev dktX3_draw_1 : List UInt8 := dkwX3_draw_1 ++ []
def dkwX3_draw_0 : List UInt8 := [42, 180, 0, 9, 3, 42, 180, 0, 9, 3, 46, 18, 141, 104, 17, 48, 57, 96, 79, 42, 180, 0, 9, 3]
abbrev dktX3_draw_0 : List UInt8 := dkwX3_draw_0 ++ dktX3_draw_1
theorem dksX3_draw_0 : cX3_draw.data.toList.drop 0 = dktX3_draw_0 := by decide +kernel
theorem dksX3_draw_1 : cX3_draw.data.toList.drop 24 = dktX3_draw_1 := dk_seg dksX3_draw_0 24 rfl rfl
theorem dX3_draw_0 : decode cX3_draw 0 = .ok (.aload_n 0, 1) := dk_42 (dk_at dksX3_draw_0 0 rfl rfl)
theorem dX3_draw_1 : decode cX3_draw 1 = .ok (.getfield 9, 3) := dk_180 0 9 (dk_at dksX3_draw_0 1 rfl rfl)
theorem dX3_draw_4 : decode cX3_draw 4 = .ok (.iconst 0, 1) := dk_3 (dk_at dksX3_draw_0 4 rfl rfl)
theorem dX3_draw_5 : decode cX3_draw 5 = .ok (.aload_n 0, 1) := dk_42 (dk_at dksX3_draw_0 5 rfl rfl)
theorem dX3_draw_6 : decode cX3_draw 6 = .ok (.getfield 9, 3) := dk_180 0 9 (dk_at dksX3_draw_0 6 rfl rfl)
theorem dX3_draw_9 : decode cX3_draw 9 = .ok (.iconst 0, 1) := dk_3 (dk_at dksX3_draw_0 9 rfl rfl)
theorem dX3_draw_10 : decode cX3_draw 10 = .ok (.iaload, 1) := dk_46 (dk_at dksX3_draw_0 10 rfl rfl)
theorem dX3_draw_11 : decode cX3_draw 11 = .ok (.ldc 141, 2) := dk_18 141 (dk_at dksX3_draw_0 11 rfl rfl)
theorem dX3_draw_13 : decode cX3_draw 13 = .ok (.imul, 1) := dk_104 (dk_at dksX3_draw_0 13 rfl rfl)
theorem dX3_draw_14 : decode cX3_draw 14 = .ok (.sipush 12345, 3) := dk_17 48 57 (dk_at dksX3_draw_0 14 rfl rfl)
theorem dX3_draw_17 : decode cX3_draw 17 = .ok (.iadd, 1) := dk_96 (dk_at dksX3_draw_0 17 rfl rfl)
theorem dX3_draw_18 : decode cX3_draw 18 = .ok (.iastore, 1) := dk_79 (dk_at dksX3_draw_0 18 rfl rfl)
theorem dX3_draw_19 : decode cX3_draw 19 = .ok (.aload_n 0, 1) := dk_42 (dk_at dksX3_draw_0 19 rfl rfl)
theorem dX3_draw_20 : decode cX3_draw 20 = .ok (.getfield 9, 3) := dk_180 0 9 (dk_at dksX3_draw_0 20 rfl rfl)
theorem dX3_draw_23 : decode cX3_draw 23 = .ok (.iconst 0, 1) := dk_3 (dk_at dksX3_draw_0 23 rfl rfl)
theorem dX3_draw_24 : decode cX3_draw 24 = .ok (.iaload, 1) := dk_46 (dk_at dksX3_draw_1 0 rfl rfl)
theorem dX3_draw_25 : decode cX3_draw 25 = .ok (.bipush 8, 2) := dk_16 8 (dk_at dksX3_draw_1 1 rfl rfl)
theorem dX3_draw_27 : decode cX3_draw 27 = .ok (.iushr, 1) := dk_124 (dk_at dksX3_draw_1 3 rfl rfl)
theorem dX3_draw_28 : decode cX3_draw 28 = .ok (.ireturn, 1) := dk_172 (dk_at dksX3_draw_1 4 rfl rfl)
abbrev cX3_seed : ByteArray := prog_22_method_26_code
def yX3_seed : MethodName := ⟨RX3, "seed", "(I)I"⟩
def dkwX3_seed_0 : List UInt8 := [42, 3, 27, 182, 0, 116, 172]
abbrev dktX3_seed_0 : List UInt8 := dkwX3_seed_0 ++ []
theorem dksX3_seed_0 : cX3_seed.data.toList.drop 0 = dktX3_seed_0 := by decide +kernel
theorem dX3_seed_0 : decode cX3_seed 0 = .ok (.aload_n 0, 1) := dk_42 (dk_at dksX3_seed_0 0 rfl rfl)
theorem dX3_seed_1 : decode cX3_seed 1 = .ok (.iconst 0, 1) := dk_3 (dk_at dksX3_seed_0 1 rfl rfl)
theorem dX3_seed_2 : decode cX3_seed 2 = .ok (.iload_n 1, 1) := dk_27 (dk_at dksX3_seed_0 2 rfl rfl)
theorem dX3_seed_3 : decode cX3_seed 3 = .ok (.invokevirtual 116, 3) := dk_182 0 116 (dk_at dksX3_seed_0 3 rfl rfl)
theorem dX3_seed_6 : decode cX3_seed 6 = .ok (.ireturn, 1) := dk_172 (dk_at dksX3_seed_0 6 rfl rfl)
abbrev cX3_best : ByteArray := prog_22_method_31_code
def yX3_best : MethodName := ⟨RX3, "best", "(I)I"⟩
def dkwX3_best_1 : List UInt8 := [46, 172]
abbrev dktX3_best_1 : List UInt8 := dkwX3_best_1 ++ []
def dkwX3_best_0 : List UInt8 := [27, 3, 42, 182, 0, 152, 184, 0, 85, 154, 0, 6, 18, 93, 172, 42, 182, 0, 155, 42, 180, 0, 22, 27]
abbrev dktX3_best_0 : List UInt8 := dkwX3_best_0 ++ dktX3_best_1
theorem dksX3_best_0 : cX3_best.data.toList.drop 0 = dktX3_best_0 := by decide +kernel
theorem dksX3_best_1 : cX3_best.data.toList.drop 24 = dktX3_best_1 := dk_seg dksX3_best_0 24 rfl rfl
theorem dX3_best_0 : decode cX3_best 0 = .ok (.iload_n 1, 1) := dk_27 (dk_at dksX3_best_0 0 rfl rfl)
theorem dX3_best_1 : decode cX3_best 1 = .ok (.iconst 0, 1) := dk_3 (dk_at dksX3_best_0 1 rfl rfl)
theorem dX3_best_2 : decode cX3_best 2 = .ok (.aload_n 0, 1) := dk_42 (dk_at dksX3_best_0 2 rfl rfl)
theorem dX3_best_3 : decode cX3_best 3 = .ok (.invokevirtual 152, 3) := dk_182 0 152 (dk_at dksX3_best_0 3 rfl rfl)
theorem dX3_best_6 : decode cX3_best 6 = .ok (.invokestatic 85, 3) := dk_184 0 85 (dk_at dksX3_best_0 6 rfl rfl)
theorem dX3_best_9 : decode cX3_best 9 = .ok (.ifCond .ne 6, 3) := dk_154 0 6 (dk_at dksX3_best_0 9 rfl rfl)
theorem dX3_best_12 : decode cX3_best 12 = .ok (.ldc 93, 2) := dk_18 93 (dk_at dksX3_best_0 12 rfl rfl)
theorem dX3_best_14 : decode cX3_best 14 = .ok (.ireturn, 1) := dk_172 (dk_at dksX3_best_0 14 rfl rfl)
theorem dX3_best_15 : decode cX3_best 15 = .ok (.aload_n 0, 1) := dk_42 (dk_at dksX3_best_0 15 rfl rfl)
theorem dX3_best_16 : decode cX3_best 16 = .ok (.invokevirtual 155, 3) := dk_182 0 155 (dk_at dksX3_best_0 16 rfl rfl)
theorem dX3_best_19 : decode cX3_best 19 = .ok (.aload_n 0, 1) := dk_42 (dk_at dksX3_best_0 19 rfl rfl)
theorem dX3_best_20 : decode cX3_best 20 = .ok (.getfield 22, 3) := dk_180 0 22 (dk_at dksX3_best_0 20 rfl rfl)
theorem dX3_best_23 : decode cX3_best 23 = .ok (.iload_n 1, 1) := dk_27 (dk_at dksX3_best_0 23 rfl rfl)
theorem dX3_best_24 : decode cX3_best 24 = .ok (.iaload, 1) := dk_46 (dk_at dksX3_best_1 0 rfl rfl)
theorem dX3_best_25 : decode cX3_best 25 = .ok (.ireturn, 1) := dk_172 (dk_at dksX3_best_1 1 rfl rfl)
abbrev cX3_all : ByteArray := prog_22_method_30_code
def yX3_all : MethodName := ⟨RX3, "all", "()I"⟩
def dkwX3_all_0 : List UInt8 := [4, 42, 180, 0, 9, 4, 46, 120, 4, 100, 172]
abbrev dktX3_all_0 : List UInt8 := dkwX3_all_0 ++ []
theorem dksX3_all_0 : cX3_all.data.toList.drop 0 = dktX3_all_0 := by decide +kernel
theorem dX3_all_0 : decode cX3_all 0 = .ok (.iconst 1, 1) := dk_4 (dk_at dksX3_all_0 0 rfl rfl)
theorem dX3_all_1 : decode cX3_all 1 = .ok (.aload_n 0, 1) := dk_42 (dk_at dksX3_all_0 1 rfl rfl)
theorem dX3_all_2 : decode cX3_all 2 = .ok (.getfield 9, 3) := dk_180 0 9 (dk_at dksX3_all_0 2 rfl rfl)
theorem dX3_all_5 : decode cX3_all 5 = .ok (.iconst 1, 1) := dk_4 (dk_at dksX3_all_0 5 rfl rfl)
theorem dX3_all_6 : decode cX3_all 6 = .ok (.iaload, 1) := dk_46 (dk_at dksX3_all_0 6 rfl rfl)
theorem dX3_all_7 : decode cX3_all 7 = .ok (.ishl, 1) := dk_120 (dk_at dksX3_all_0 7 rfl rfl)
theorem dX3_all_8 : decode cX3_all 8 = .ok (.iconst 1, 1) := dk_4 (dk_at dksX3_all_0 8 rfl rfl)
theorem dX3_all_9 : decode cX3_all 9 = .ok (.isub, 1) := dk_100 (dk_at dksX3_all_0 9 rfl rfl)
theorem dX3_all_10 : decode cX3_all 10 = .ok (.ireturn, 1) := dk_172 (dk_at dksX3_all_0 10 rfl rfl)
abbrev cX3_findBests : ByteArray := prog_22_method_27_code
def yX3_findBests : MethodName := ⟨RX3, "findBests", "()V"⟩
def dkwX3_findBests_4 : List UInt8 := [27, 42, 27, 182, 0, 146, 79, 132, 1, 1, 167, 255, 230, 177]
abbrev dktX3_findBests_4 : List UInt8 := dkwX3_findBests_4 ++ []
def dkwX3_findBests_3 : List UInt8 := [132, 1, 1, 167, 255, 186, 3, 60, 27, 4, 42, 180, 0, 9, 4, 46, 120, 162, 0, 20, 42, 180, 0, 22]
abbrev dktX3_findBests_3 : List UInt8 := dkwX3_findBests_3 ++ dktX3_findBests_4
def dkwX3_findBests_2 : List UInt8 := [104, 28, 96, 29, 79, 42, 180, 0, 19, 16, 10, 28, 104, 27, 96, 29, 79, 132, 2, 1, 167, 255, 204]
abbrev dktX3_findBests_2 : List UInt8 := dkwX3_findBests_2 ++ dktX3_findBests_3
def dkwX3_findBests_1 : List UInt8 := [182, 0, 135, 153, 0, 12, 42, 27, 28, 182, 0, 138, 167, 0, 4, 2, 62, 42, 180, 0, 19, 16, 10, 27]
abbrev dktX3_findBests_1 : List UInt8 := dkwX3_findBests_1 ++ dktX3_findBests_2
def dkwX3_findBests_0 : List UInt8 := [3, 60, 27, 42, 180, 0, 9, 4, 46, 162, 0, 66, 3, 61, 28, 27, 162, 0, 53, 42, 27, 28]
abbrev dktX3_findBests_0 : List UInt8 := dkwX3_findBests_0 ++ dktX3_findBests_1
theorem dksX3_findBests_0 : cX3_findBests.data.toList.drop 0 = dktX3_findBests_0 := by decide +kernel
theorem dksX3_findBests_1 : cX3_findBests.data.toList.drop 22 = dktX3_findBests_1 := dk_seg dksX3_findBests_0 22 rfl rfl
theorem dksX3_findBests_2 : cX3_findBests.data.toList.drop 46 = dktX3_findBests_2 := dk_seg dksX3_findBests_1 24 rfl rfl
theorem dksX3_findBests_3 : cX3_findBests.data.toList.drop 69 = dktX3_findBests_3 := dk_seg dksX3_findBests_2 23 rfl rfl
theorem dksX3_findBests_4 : cX3_findBests.data.toList.drop 93 = dktX3_findBests_4 := dk_seg dksX3_findBests_3 24 rfl rfl
theorem dX3_findBests_0 : decode cX3_findBests 0 = .ok (.iconst 0, 1) := dk_3 (dk_at dksX3_findBests_0 0 rfl rfl)
theorem dX3_findBests_1 : decode cX3_findBests 1 = .ok (.istore_n 1, 1) := dk_60 (dk_at dksX3_findBests_0 1 rfl rfl)
theorem dX3_findBests_2 : decode cX3_findBests 2 = .ok (.iload_n 1, 1) := dk_27 (dk_at dksX3_findBests_0 2 rfl rfl)
theorem dX3_findBests_3 : decode cX3_findBests 3 = .ok (.aload_n 0, 1) := dk_42 (dk_at dksX3_findBests_0 3 rfl rfl)
theorem dX3_findBests_4 : decode cX3_findBests 4 = .ok (.getfield 9, 3) := dk_180 0 9 (dk_at dksX3_findBests_0 4 rfl rfl)
theorem dX3_findBests_7 : decode cX3_findBests 7 = .ok (.iconst 1, 1) := dk_4 (dk_at dksX3_findBests_0 7 rfl rfl)
theorem dX3_findBests_8 : decode cX3_findBests 8 = .ok (.iaload, 1) := dk_46 (dk_at dksX3_findBests_0 8 rfl rfl)
theorem dX3_findBests_9 : decode cX3_findBests 9 = .ok (.if_icmp .ge 66, 3) := dk_162 0 66 (dk_at dksX3_findBests_0 9 rfl rfl)
theorem dX3_findBests_12 : decode cX3_findBests 12 = .ok (.iconst 0, 1) := dk_3 (dk_at dksX3_findBests_0 12 rfl rfl)
theorem dX3_findBests_13 : decode cX3_findBests 13 = .ok (.istore_n 2, 1) := dk_61 (dk_at dksX3_findBests_0 13 rfl rfl)
theorem dX3_findBests_14 : decode cX3_findBests 14 = .ok (.iload_n 2, 1) := dk_28 (dk_at dksX3_findBests_0 14 rfl rfl)
theorem dX3_findBests_15 : decode cX3_findBests 15 = .ok (.iload_n 1, 1) := dk_27 (dk_at dksX3_findBests_0 15 rfl rfl)
theorem dX3_findBests_16 : decode cX3_findBests 16 = .ok (.if_icmp .ge 53, 3) := dk_162 0 53 (dk_at dksX3_findBests_0 16 rfl rfl)
theorem dX3_findBests_19 : decode cX3_findBests 19 = .ok (.aload_n 0, 1) := dk_42 (dk_at dksX3_findBests_0 19 rfl rfl)
theorem dX3_findBests_20 : decode cX3_findBests 20 = .ok (.iload_n 1, 1) := dk_27 (dk_at dksX3_findBests_0 20 rfl rfl)
theorem dX3_findBests_21 : decode cX3_findBests 21 = .ok (.iload_n 2, 1) := dk_28 (dk_at dksX3_findBests_0 21 rfl rfl)
theorem dX3_findBests_22 : decode cX3_findBests 22 = .ok (.invokevirtual 135, 3) := dk_182 0 135 (dk_at dksX3_findBests_1 0 rfl rfl)
theorem dX3_findBests_25 : decode cX3_findBests 25 = .ok (.ifCond .eq 12, 3) := dk_153 0 12 (dk_at dksX3_findBests_1 3 rfl rfl)
theorem dX3_findBests_28 : decode cX3_findBests 28 = .ok (.aload_n 0, 1) := dk_42 (dk_at dksX3_findBests_1 6 rfl rfl)
theorem dX3_findBests_29 : decode cX3_findBests 29 = .ok (.iload_n 1, 1) := dk_27 (dk_at dksX3_findBests_1 7 rfl rfl)
theorem dX3_findBests_30 : decode cX3_findBests 30 = .ok (.iload_n 2, 1) := dk_28 (dk_at dksX3_findBests_1 8 rfl rfl)
theorem dX3_findBests_31 : decode cX3_findBests 31 = .ok (.invokevirtual 138, 3) := dk_182 0 138 (dk_at dksX3_findBests_1 9 rfl rfl)
theorem dX3_findBests_34 : decode cX3_findBests 34 = .ok (.goto 4, 3) := dk_167 0 4 (dk_at dksX3_findBests_1 12 rfl rfl)
theorem dX3_findBests_37 : decode cX3_findBests 37 = .ok (.iconst (-1), 1) := dk_2 (dk_at dksX3_findBests_1 15 rfl rfl)
theorem dX3_findBests_38 : decode cX3_findBests 38 = .ok (.istore_n 3, 1) := dk_62 (dk_at dksX3_findBests_1 16 rfl rfl)
theorem dX3_findBests_39 : decode cX3_findBests 39 = .ok (.aload_n 0, 1) := dk_42 (dk_at dksX3_findBests_1 17 rfl rfl)
theorem dX3_findBests_40 : decode cX3_findBests 40 = .ok (.getfield 19, 3) := dk_180 0 19 (dk_at dksX3_findBests_1 18 rfl rfl)
theorem dX3_findBests_43 : decode cX3_findBests 43 = .ok (.bipush 10, 2) := dk_16 10 (dk_at dksX3_findBests_1 21 rfl rfl)
theorem dX3_findBests_45 : decode cX3_findBests 45 = .ok (.iload_n 1, 1) := dk_27 (dk_at dksX3_findBests_1 23 rfl rfl)
theorem dX3_findBests_46 : decode cX3_findBests 46 = .ok (.imul, 1) := dk_104 (dk_at dksX3_findBests_2 0 rfl rfl)
theorem dX3_findBests_47 : decode cX3_findBests 47 = .ok (.iload_n 2, 1) := dk_28 (dk_at dksX3_findBests_2 1 rfl rfl)
theorem dX3_findBests_48 : decode cX3_findBests 48 = .ok (.iadd, 1) := dk_96 (dk_at dksX3_findBests_2 2 rfl rfl)
theorem dX3_findBests_49 : decode cX3_findBests 49 = .ok (.iload_n 3, 1) := dk_29 (dk_at dksX3_findBests_2 3 rfl rfl)
theorem dX3_findBests_50 : decode cX3_findBests 50 = .ok (.iastore, 1) := dk_79 (dk_at dksX3_findBests_2 4 rfl rfl)
theorem dX3_findBests_51 : decode cX3_findBests 51 = .ok (.aload_n 0, 1) := dk_42 (dk_at dksX3_findBests_2 5 rfl rfl)
theorem dX3_findBests_52 : decode cX3_findBests 52 = .ok (.getfield 19, 3) := dk_180 0 19 (dk_at dksX3_findBests_2 6 rfl rfl)
theorem dX3_findBests_55 : decode cX3_findBests 55 = .ok (.bipush 10, 2) := dk_16 10 (dk_at dksX3_findBests_2 9 rfl rfl)
theorem dX3_findBests_57 : decode cX3_findBests 57 = .ok (.iload_n 2, 1) := dk_28 (dk_at dksX3_findBests_2 11 rfl rfl)
theorem dX3_findBests_58 : decode cX3_findBests 58 = .ok (.imul, 1) := dk_104 (dk_at dksX3_findBests_2 12 rfl rfl)
theorem dX3_findBests_59 : decode cX3_findBests 59 = .ok (.iload_n 1, 1) := dk_27 (dk_at dksX3_findBests_2 13 rfl rfl)
theorem dX3_findBests_60 : decode cX3_findBests 60 = .ok (.iadd, 1) := dk_96 (dk_at dksX3_findBests_2 14 rfl rfl)
theorem dX3_findBests_61 : decode cX3_findBests 61 = .ok (.iload_n 3, 1) := dk_29 (dk_at dksX3_findBests_2 15 rfl rfl)
theorem dX3_findBests_62 : decode cX3_findBests 62 = .ok (.iastore, 1) := dk_79 (dk_at dksX3_findBests_2 16 rfl rfl)
theorem dX3_findBests_63 : decode cX3_findBests 63 = .ok (.iinc 2 1, 3) := dk_132 2 1 (dk_at dksX3_findBests_2 17 rfl rfl)
theorem dX3_findBests_66 : decode cX3_findBests 66 = .ok (.goto (-52), 3) := dk_167 255 204 (dk_at dksX3_findBests_2 20 rfl rfl)
theorem dX3_findBests_69 : decode cX3_findBests 69 = .ok (.iinc 1 1, 3) := dk_132 1 1 (dk_at dksX3_findBests_3 0 rfl rfl)
theorem dX3_findBests_72 : decode cX3_findBests 72 = .ok (.goto (-70), 3) := dk_167 255 186 (dk_at dksX3_findBests_3 3 rfl rfl)
theorem dX3_findBests_75 : decode cX3_findBests 75 = .ok (.iconst 0, 1) := dk_3 (dk_at dksX3_findBests_3 6 rfl rfl)
theorem dX3_findBests_76 : decode cX3_findBests 76 = .ok (.istore_n 1, 1) := dk_60 (dk_at dksX3_findBests_3 7 rfl rfl)
theorem dX3_findBests_77 : decode cX3_findBests 77 = .ok (.iload_n 1, 1) := dk_27 (dk_at dksX3_findBests_3 8 rfl rfl)
theorem dX3_findBests_78 : decode cX3_findBests 78 = .ok (.iconst 1, 1) := dk_4 (dk_at dksX3_findBests_3 9 rfl rfl)
theorem dX3_findBests_79 : decode cX3_findBests 79 = .ok (.aload_n 0, 1) := dk_42 (dk_at dksX3_findBests_3 10 rfl rfl)
theorem dX3_findBests_80 : decode cX3_findBests 80 = .ok (.getfield 9, 3) := dk_180 0 9 (dk_at dksX3_findBests_3 11 rfl rfl)
theorem dX3_findBests_83 : decode cX3_findBests 83 = .ok (.iconst 1, 1) := dk_4 (dk_at dksX3_findBests_3 14 rfl rfl)
theorem dX3_findBests_84 : decode cX3_findBests 84 = .ok (.iaload, 1) := dk_46 (dk_at dksX3_findBests_3 15 rfl rfl)
theorem dX3_findBests_85 : decode cX3_findBests 85 = .ok (.ishl, 1) := dk_120 (dk_at dksX3_findBests_3 16 rfl rfl)
theorem dX3_findBests_86 : decode cX3_findBests 86 = .ok (.if_icmp .ge 20, 3) := dk_162 0 20 (dk_at dksX3_findBests_3 17 rfl rfl)
theorem dX3_findBests_89 : decode cX3_findBests 89 = .ok (.aload_n 0, 1) := dk_42 (dk_at dksX3_findBests_3 20 rfl rfl)
theorem dX3_findBests_90 : decode cX3_findBests 90 = .ok (.getfield 22, 3) := dk_180 0 22 (dk_at dksX3_findBests_3 21 rfl rfl)
theorem dX3_findBests_93 : decode cX3_findBests 93 = .ok (.iload_n 1, 1) := dk_27 (dk_at dksX3_findBests_4 0 rfl rfl)
theorem dX3_findBests_94 : decode cX3_findBests 94 = .ok (.aload_n 0, 1) := dk_42 (dk_at dksX3_findBests_4 1 rfl rfl)
theorem dX3_findBests_95 : decode cX3_findBests 95 = .ok (.iload_n 1, 1) := dk_27 (dk_at dksX3_findBests_4 2 rfl rfl)
theorem dX3_findBests_96 : decode cX3_findBests 96 = .ok (.invokevirtual 146, 3) := dk_182 0 146 (dk_at dksX3_findBests_4 3 rfl rfl)
theorem dX3_findBests_99 : decode cX3_findBests 99 = .ok (.iastore, 1) := dk_79 (dk_at dksX3_findBests_4 6 rfl rfl)
theorem dX3_findBests_100 : decode cX3_findBests 100 = .ok (.iinc 1 1, 3) := dk_132 1 1 (dk_at dksX3_findBests_4 7 rfl rfl)
theorem dX3_findBests_103 : decode cX3_findBests 103 = .ok (.goto (-26), 3) := dk_167 255 230 (dk_at dksX3_findBests_4 10 rfl rfl)
theorem dX3_findBests_106 : decode cX3_findBests 106 = .ok (.return_, 1) := dk_177 (dk_at dksX3_findBests_4 13 rfl rfl)
abbrev cX3_bestFrom : ByteArray := prog_22_method_29_code
def yX3_bestFrom : MethodName := ⟨RX3, "bestFrom", "(I)I"⟩
def dkwX3_bestFrom_5 : List UInt8 := [172]
abbrev dktX3_bestFrom_5 : List UInt8 := dkwX3_bestFrom_5 ++ []
def dkwX3_bestFrom_4 : List UInt8 := [21, 6, 21, 4, 164, 0, 8, 21, 6, 167, 0, 5, 21, 4, 54, 4, 132, 5, 1, 167, 255, 173, 21, 4]
abbrev dktX3_bestFrom_4 : List UInt8 := dkwX3_bestFrom_4 ++ dktX3_bestFrom_5
def dkwX3_bestFrom_3 : List UInt8 := [16, 10, 28, 104, 21, 5, 96, 46, 42, 180, 0, 22, 29, 4, 21, 5, 120, 2, 130, 126, 46, 96, 54, 6]
abbrev dktX3_bestFrom_3 : List UInt8 := dkwX3_bestFrom_3 ++ dktX3_bestFrom_4
def dkwX3_bestFrom_2 : List UInt8 := [126, 4, 160, 0, 62, 42, 180, 0, 19, 16, 10, 28, 104, 21, 5, 96, 46, 155, 0, 47, 42, 180, 0, 19]
abbrev dktX3_bestFrom_2 : List UInt8 := dkwX3_bestFrom_2 ++ dktX3_bestFrom_3
def dkwX3_bestFrom_1 : List UInt8 := [46, 54, 4, 28, 4, 96, 54, 5, 21, 5, 42, 180, 0, 9, 4, 46, 162, 0, 78, 29, 21, 5, 122, 4]
abbrev dktX3_bestFrom_1 : List UInt8 := dkwX3_bestFrom_1 ++ dktX3_bestFrom_2
def dkwX3_bestFrom_0 : List UInt8 := [27, 154, 0, 5, 3, 172, 27, 184, 0, 149, 61, 27, 4, 28, 120, 2, 130, 126, 62, 42, 180, 0, 22, 29]
abbrev dktX3_bestFrom_0 : List UInt8 := dkwX3_bestFrom_0 ++ dktX3_bestFrom_1
theorem dksX3_bestFrom_0 : cX3_bestFrom.data.toList.drop 0 = dktX3_bestFrom_0 := by decide +kernel
theorem dksX3_bestFrom_1 : cX3_bestFrom.data.toList.drop 24 = dktX3_bestFrom_1 := dk_seg dksX3_bestFrom_0 24 rfl rfl
theorem dksX3_bestFrom_2 : cX3_bestFrom.data.toList.drop 48 = dktX3_bestFrom_2 := dk_seg dksX3_bestFrom_1 24 rfl rfl
theorem dksX3_bestFrom_3 : cX3_bestFrom.data.toList.drop 72 = dktX3_bestFrom_3 := dk_seg dksX3_bestFrom_2 24 rfl rfl
theorem dksX3_bestFrom_4 : cX3_bestFrom.data.toList.drop 96 = dktX3_bestFrom_4 := dk_seg dksX3_bestFrom_3 24 rfl rfl
theorem dksX3_bestFrom_5 : cX3_bestFrom.data.toList.drop 120 = dktX3_bestFrom_5 := dk_seg dksX3_bestFrom_4 24 rfl rfl
theorem dX3_bestFrom_0 : decode cX3_bestFrom 0 = .ok (.iload_n 1, 1) := dk_27 (dk_at dksX3_bestFrom_0 0 rfl rfl)
theorem dX3_bestFrom_1 : decode cX3_bestFrom 1 = .ok (.ifCond .ne 5, 3) := dk_154 0 5 (dk_at dksX3_bestFrom_0 1 rfl rfl)
theorem dX3_bestFrom_4 : decode cX3_bestFrom 4 = .ok (.iconst 0, 1) := dk_3 (dk_at dksX3_bestFrom_0 4 rfl rfl)
theorem dX3_bestFrom_5 : decode cX3_bestFrom 5 = .ok (.ireturn, 1) := dk_172 (dk_at dksX3_bestFrom_0 5 rfl rfl)
theorem dX3_bestFrom_6 : decode cX3_bestFrom 6 = .ok (.iload_n 1, 1) := dk_27 (dk_at dksX3_bestFrom_0 6 rfl rfl)
theorem dX3_bestFrom_7 : decode cX3_bestFrom 7 = .ok (.invokestatic 149, 3) := dk_184 0 149 (dk_at dksX3_bestFrom_0 7 rfl rfl)
theorem dX3_bestFrom_10 : decode cX3_bestFrom 10 = .ok (.istore_n 2, 1) := dk_61 (dk_at dksX3_bestFrom_0 10 rfl rfl)
theorem dX3_bestFrom_11 : decode cX3_bestFrom 11 = .ok (.iload_n 1, 1) := dk_27 (dk_at dksX3_bestFrom_0 11 rfl rfl)
theorem dX3_bestFrom_12 : decode cX3_bestFrom 12 = .ok (.iconst 1, 1) := dk_4 (dk_at dksX3_bestFrom_0 12 rfl rfl)
theorem dX3_bestFrom_13 : decode cX3_bestFrom 13 = .ok (.iload_n 2, 1) := dk_28 (dk_at dksX3_bestFrom_0 13 rfl rfl)
theorem dX3_bestFrom_14 : decode cX3_bestFrom 14 = .ok (.ishl, 1) := dk_120 (dk_at dksX3_bestFrom_0 14 rfl rfl)
theorem dX3_bestFrom_15 : decode cX3_bestFrom 15 = .ok (.iconst (-1), 1) := dk_2 (dk_at dksX3_bestFrom_0 15 rfl rfl)
theorem dX3_bestFrom_16 : decode cX3_bestFrom 16 = .ok (.ixor, 1) := dk_130 (dk_at dksX3_bestFrom_0 16 rfl rfl)
theorem dX3_bestFrom_17 : decode cX3_bestFrom 17 = .ok (.iand, 1) := dk_126 (dk_at dksX3_bestFrom_0 17 rfl rfl)
theorem dX3_bestFrom_18 : decode cX3_bestFrom 18 = .ok (.istore_n 3, 1) := dk_62 (dk_at dksX3_bestFrom_0 18 rfl rfl)
theorem dX3_bestFrom_19 : decode cX3_bestFrom 19 = .ok (.aload_n 0, 1) := dk_42 (dk_at dksX3_bestFrom_0 19 rfl rfl)
theorem dX3_bestFrom_20 : decode cX3_bestFrom 20 = .ok (.getfield 22, 3) := dk_180 0 22 (dk_at dksX3_bestFrom_0 20 rfl rfl)
theorem dX3_bestFrom_23 : decode cX3_bestFrom 23 = .ok (.iload_n 3, 1) := dk_29 (dk_at dksX3_bestFrom_0 23 rfl rfl)
theorem dX3_bestFrom_24 : decode cX3_bestFrom 24 = .ok (.iaload, 1) := dk_46 (dk_at dksX3_bestFrom_1 0 rfl rfl)
theorem dX3_bestFrom_25 : decode cX3_bestFrom 25 = .ok (.istore 4, 2) := dk_54 4 (dk_at dksX3_bestFrom_1 1 rfl rfl)
theorem dX3_bestFrom_27 : decode cX3_bestFrom 27 = .ok (.iload_n 2, 1) := dk_28 (dk_at dksX3_bestFrom_1 3 rfl rfl)
theorem dX3_bestFrom_28 : decode cX3_bestFrom 28 = .ok (.iconst 1, 1) := dk_4 (dk_at dksX3_bestFrom_1 4 rfl rfl)
theorem dX3_bestFrom_29 : decode cX3_bestFrom 29 = .ok (.iadd, 1) := dk_96 (dk_at dksX3_bestFrom_1 5 rfl rfl)
theorem dX3_bestFrom_30 : decode cX3_bestFrom 30 = .ok (.istore 5, 2) := dk_54 5 (dk_at dksX3_bestFrom_1 6 rfl rfl)
theorem dX3_bestFrom_32 : decode cX3_bestFrom 32 = .ok (.iload 5, 2) := dk_21 5 (dk_at dksX3_bestFrom_1 8 rfl rfl)
theorem dX3_bestFrom_34 : decode cX3_bestFrom 34 = .ok (.aload_n 0, 1) := dk_42 (dk_at dksX3_bestFrom_1 10 rfl rfl)
theorem dX3_bestFrom_35 : decode cX3_bestFrom 35 = .ok (.getfield 9, 3) := dk_180 0 9 (dk_at dksX3_bestFrom_1 11 rfl rfl)
theorem dX3_bestFrom_38 : decode cX3_bestFrom 38 = .ok (.iconst 1, 1) := dk_4 (dk_at dksX3_bestFrom_1 14 rfl rfl)
theorem dX3_bestFrom_39 : decode cX3_bestFrom 39 = .ok (.iaload, 1) := dk_46 (dk_at dksX3_bestFrom_1 15 rfl rfl)
theorem dX3_bestFrom_40 : decode cX3_bestFrom 40 = .ok (.if_icmp .ge 78, 3) := dk_162 0 78 (dk_at dksX3_bestFrom_1 16 rfl rfl)
theorem dX3_bestFrom_43 : decode cX3_bestFrom 43 = .ok (.iload_n 3, 1) := dk_29 (dk_at dksX3_bestFrom_1 19 rfl rfl)
theorem dX3_bestFrom_44 : decode cX3_bestFrom 44 = .ok (.iload 5, 2) := dk_21 5 (dk_at dksX3_bestFrom_1 20 rfl rfl)
theorem dX3_bestFrom_46 : decode cX3_bestFrom 46 = .ok (.ishr, 1) := dk_122 (dk_at dksX3_bestFrom_1 22 rfl rfl)
theorem dX3_bestFrom_47 : decode cX3_bestFrom 47 = .ok (.iconst 1, 1) := dk_4 (dk_at dksX3_bestFrom_1 23 rfl rfl)
theorem dX3_bestFrom_48 : decode cX3_bestFrom 48 = .ok (.iand, 1) := dk_126 (dk_at dksX3_bestFrom_2 0 rfl rfl)
theorem dX3_bestFrom_49 : decode cX3_bestFrom 49 = .ok (.iconst 1, 1) := dk_4 (dk_at dksX3_bestFrom_2 1 rfl rfl)
theorem dX3_bestFrom_50 : decode cX3_bestFrom 50 = .ok (.if_icmp .ne 62, 3) := dk_160 0 62 (dk_at dksX3_bestFrom_2 2 rfl rfl)
theorem dX3_bestFrom_53 : decode cX3_bestFrom 53 = .ok (.aload_n 0, 1) := dk_42 (dk_at dksX3_bestFrom_2 5 rfl rfl)
theorem dX3_bestFrom_54 : decode cX3_bestFrom 54 = .ok (.getfield 19, 3) := dk_180 0 19 (dk_at dksX3_bestFrom_2 6 rfl rfl)
theorem dX3_bestFrom_57 : decode cX3_bestFrom 57 = .ok (.bipush 10, 2) := dk_16 10 (dk_at dksX3_bestFrom_2 9 rfl rfl)
theorem dX3_bestFrom_59 : decode cX3_bestFrom 59 = .ok (.iload_n 2, 1) := dk_28 (dk_at dksX3_bestFrom_2 11 rfl rfl)
theorem dX3_bestFrom_60 : decode cX3_bestFrom 60 = .ok (.imul, 1) := dk_104 (dk_at dksX3_bestFrom_2 12 rfl rfl)
theorem dX3_bestFrom_61 : decode cX3_bestFrom 61 = .ok (.iload 5, 2) := dk_21 5 (dk_at dksX3_bestFrom_2 13 rfl rfl)
theorem dX3_bestFrom_63 : decode cX3_bestFrom 63 = .ok (.iadd, 1) := dk_96 (dk_at dksX3_bestFrom_2 15 rfl rfl)
theorem dX3_bestFrom_64 : decode cX3_bestFrom 64 = .ok (.iaload, 1) := dk_46 (dk_at dksX3_bestFrom_2 16 rfl rfl)
theorem dX3_bestFrom_65 : decode cX3_bestFrom 65 = .ok (.ifCond .lt 47, 3) := dk_155 0 47 (dk_at dksX3_bestFrom_2 17 rfl rfl)
theorem dX3_bestFrom_68 : decode cX3_bestFrom 68 = .ok (.aload_n 0, 1) := dk_42 (dk_at dksX3_bestFrom_2 20 rfl rfl)
theorem dX3_bestFrom_69 : decode cX3_bestFrom 69 = .ok (.getfield 19, 3) := dk_180 0 19 (dk_at dksX3_bestFrom_2 21 rfl rfl)
theorem dX3_bestFrom_72 : decode cX3_bestFrom 72 = .ok (.bipush 10, 2) := dk_16 10 (dk_at dksX3_bestFrom_3 0 rfl rfl)
theorem dX3_bestFrom_74 : decode cX3_bestFrom 74 = .ok (.iload_n 2, 1) := dk_28 (dk_at dksX3_bestFrom_3 2 rfl rfl)
theorem dX3_bestFrom_75 : decode cX3_bestFrom 75 = .ok (.imul, 1) := dk_104 (dk_at dksX3_bestFrom_3 3 rfl rfl)
theorem dX3_bestFrom_76 : decode cX3_bestFrom 76 = .ok (.iload 5, 2) := dk_21 5 (dk_at dksX3_bestFrom_3 4 rfl rfl)
theorem dX3_bestFrom_78 : decode cX3_bestFrom 78 = .ok (.iadd, 1) := dk_96 (dk_at dksX3_bestFrom_3 6 rfl rfl)
theorem dX3_bestFrom_79 : decode cX3_bestFrom 79 = .ok (.iaload, 1) := dk_46 (dk_at dksX3_bestFrom_3 7 rfl rfl)
theorem dX3_bestFrom_80 : decode cX3_bestFrom 80 = .ok (.aload_n 0, 1) := dk_42 (dk_at dksX3_bestFrom_3 8 rfl rfl)
theorem dX3_bestFrom_81 : decode cX3_bestFrom 81 = .ok (.getfield 22, 3) := dk_180 0 22 (dk_at dksX3_bestFrom_3 9 rfl rfl)
theorem dX3_bestFrom_84 : decode cX3_bestFrom 84 = .ok (.iload_n 3, 1) := dk_29 (dk_at dksX3_bestFrom_3 12 rfl rfl)
theorem dX3_bestFrom_85 : decode cX3_bestFrom 85 = .ok (.iconst 1, 1) := dk_4 (dk_at dksX3_bestFrom_3 13 rfl rfl)
theorem dX3_bestFrom_86 : decode cX3_bestFrom 86 = .ok (.iload 5, 2) := dk_21 5 (dk_at dksX3_bestFrom_3 14 rfl rfl)
theorem dX3_bestFrom_88 : decode cX3_bestFrom 88 = .ok (.ishl, 1) := dk_120 (dk_at dksX3_bestFrom_3 16 rfl rfl)
theorem dX3_bestFrom_89 : decode cX3_bestFrom 89 = .ok (.iconst (-1), 1) := dk_2 (dk_at dksX3_bestFrom_3 17 rfl rfl)
theorem dX3_bestFrom_90 : decode cX3_bestFrom 90 = .ok (.ixor, 1) := dk_130 (dk_at dksX3_bestFrom_3 18 rfl rfl)
theorem dX3_bestFrom_91 : decode cX3_bestFrom 91 = .ok (.iand, 1) := dk_126 (dk_at dksX3_bestFrom_3 19 rfl rfl)
theorem dX3_bestFrom_92 : decode cX3_bestFrom 92 = .ok (.iaload, 1) := dk_46 (dk_at dksX3_bestFrom_3 20 rfl rfl)
theorem dX3_bestFrom_93 : decode cX3_bestFrom 93 = .ok (.iadd, 1) := dk_96 (dk_at dksX3_bestFrom_3 21 rfl rfl)
theorem dX3_bestFrom_94 : decode cX3_bestFrom 94 = .ok (.istore 6, 2) := dk_54 6 (dk_at dksX3_bestFrom_3 22 rfl rfl)
theorem dX3_bestFrom_96 : decode cX3_bestFrom 96 = .ok (.iload 6, 2) := dk_21 6 (dk_at dksX3_bestFrom_4 0 rfl rfl)
theorem dX3_bestFrom_98 : decode cX3_bestFrom 98 = .ok (.iload 4, 2) := dk_21 4 (dk_at dksX3_bestFrom_4 2 rfl rfl)
theorem dX3_bestFrom_100 : decode cX3_bestFrom 100 = .ok (.if_icmp .le 8, 3) := dk_164 0 8 (dk_at dksX3_bestFrom_4 4 rfl rfl)
theorem dX3_bestFrom_103 : decode cX3_bestFrom 103 = .ok (.iload 6, 2) := dk_21 6 (dk_at dksX3_bestFrom_4 7 rfl rfl)
theorem dX3_bestFrom_105 : decode cX3_bestFrom 105 = .ok (.goto 5, 3) := dk_167 0 5 (dk_at dksX3_bestFrom_4 9 rfl rfl)
theorem dX3_bestFrom_108 : decode cX3_bestFrom 108 = .ok (.iload 4, 2) := dk_21 4 (dk_at dksX3_bestFrom_4 12 rfl rfl)
theorem dX3_bestFrom_110 : decode cX3_bestFrom 110 = .ok (.istore 4, 2) := dk_54 4 (dk_at dksX3_bestFrom_4 14 rfl rfl)
theorem dX3_bestFrom_112 : decode cX3_bestFrom 112 = .ok (.iinc 5 1, 3) := dk_132 5 1 (dk_at dksX3_bestFrom_4 16 rfl rfl)
theorem dX3_bestFrom_115 : decode cX3_bestFrom 115 = .ok (.goto (-83), 3) := dk_167 255 173 (dk_at dksX3_bestFrom_4 19 rfl rfl)
theorem dX3_bestFrom_118 : decode cX3_bestFrom 118 = .ok (.iload 4, 2) := dk_21 4 (dk_at dksX3_bestFrom_4 22 rfl rfl)
theorem dX3_bestFrom_120 : decode cX3_bestFrom 120 = .ok (.ireturn, 1) := dk_172 (dk_at dksX3_bestFrom_5 0 rfl rfl)
abbrev cX3_firstOf : ByteArray := prog_22_method_28_code
def yX3_firstOf : MethodName := ⟨RX3, "firstOf", "(I)I"⟩
def dkwX3_firstOf_0 : List UInt8 := [3, 60, 26, 27, 122, 4, 126, 154, 0, 9, 132, 1, 1, 167, 255, 245, 27, 172]
abbrev dktX3_firstOf_0 : List UInt8 := dkwX3_firstOf_0 ++ []
theorem dksX3_firstOf_0 : cX3_firstOf.data.toList.drop 0 = dktX3_firstOf_0 := by decide +kernel
theorem dX3_firstOf_0 : decode cX3_firstOf 0 = .ok (.iconst 0, 1) := dk_3 (dk_at dksX3_firstOf_0 0 rfl rfl)
theorem dX3_firstOf_1 : decode cX3_firstOf 1 = .ok (.istore_n 1, 1) := dk_60 (dk_at dksX3_firstOf_0 1 rfl rfl)
theorem dX3_firstOf_2 : decode cX3_firstOf 2 = .ok (.iload_n 0, 1) := dk_26 (dk_at dksX3_firstOf_0 2 rfl rfl)
theorem dX3_firstOf_3 : decode cX3_firstOf 3 = .ok (.iload_n 1, 1) := dk_27 (dk_at dksX3_firstOf_0 3 rfl rfl)
theorem dX3_firstOf_4 : decode cX3_firstOf 4 = .ok (.ishr, 1) := dk_122 (dk_at dksX3_firstOf_0 4 rfl rfl)
theorem dX3_firstOf_5 : decode cX3_firstOf 5 = .ok (.iconst 1, 1) := dk_4 (dk_at dksX3_firstOf_0 5 rfl rfl)
theorem dX3_firstOf_6 : decode cX3_firstOf 6 = .ok (.iand, 1) := dk_126 (dk_at dksX3_firstOf_0 6 rfl rfl)
theorem dX3_firstOf_7 : decode cX3_firstOf 7 = .ok (.ifCond .ne 9, 3) := dk_154 0 9 (dk_at dksX3_firstOf_0 7 rfl rfl)
theorem dX3_firstOf_10 : decode cX3_firstOf 10 = .ok (.iinc 1 1, 3) := dk_132 1 1 (dk_at dksX3_firstOf_0 10 rfl rfl)
theorem dX3_firstOf_13 : decode cX3_firstOf 13 = .ok (.goto (-11), 3) := dk_167 255 245 (dk_at dksX3_firstOf_0 13 rfl rfl)
theorem dX3_firstOf_16 : decode cX3_firstOf 16 = .ok (.iload_n 1, 1) := dk_27 (dk_at dksX3_firstOf_0 16 rfl rfl)
theorem dX3_firstOf_17 : decode cX3_firstOf 17 = .ok (.ireturn, 1) := dk_172 (dk_at dksX3_firstOf_0 17 rfl rfl)
abbrev cX3_partner : ByteArray := prog_22_method_32_code
def yX3_partner : MethodName := ⟨RX3, "partner", "(I)I"⟩
def dkwX3_partner_8 : List UInt8 := [21, 5, 4, 21, 6, 120, 2, 130, 126, 61, 167, 255, 81, 29, 184, 0, 158, 172]
abbrev dktX3_partner_8 : List UInt8 := dkwX3_partner_8 ++ []
def dkwX3_partner_7 : List UInt8 := [21, 6, 27, 160, 0, 8, 21, 4, 167, 0, 4, 29, 62, 21, 6, 156, 0, 8, 21, 5, 167, 0, 12]
abbrev dktX3_partner_7 : List UInt8 := dkwX3_partner_7 ++ dktX3_partner_8
def dkwX3_partner_6 : List UInt8 := [167, 0, 5, 21, 6, 54, 6, 132, 7, 255, 167, 255, 161, 21, 4, 27, 160, 0, 8, 21, 6, 167, 0, 15]
abbrev dktX3_partner_6 : List UInt8 := dkwX3_partner_6 ++ dktX3_partner_7
def dkwX3_partner_5 : List UInt8 := [21, 5, 4, 21, 7, 120, 2, 130, 126, 46, 96, 42, 180, 0, 22, 28, 46, 160, 0, 8, 21, 7]
abbrev dktX3_partner_5 : List UInt8 := dkwX3_partner_5 ++ dktX3_partner_6
def dkwX3_partner_4 : List UInt8 := [54, 8, 21, 8, 153, 0, 45, 42, 180, 0, 19, 16, 10, 21, 4, 104, 21, 7, 96, 46, 42, 180, 0, 22]
abbrev dktX3_partner_4 : List UInt8 := dkwX3_partner_4 ++ dktX3_partner_5
def dkwX3_partner_3 : List UInt8 := [160, 0, 23, 42, 180, 0, 19, 16, 10, 21, 4, 104, 21, 7, 96, 46, 155, 0, 7, 4, 167, 0, 4, 3]
abbrev dktX3_partner_3 : List UInt8 := dkwX3_partner_3 ++ dktX3_partner_4
def dkwX3_partner_2 : List UInt8 := [180, 0, 9, 4, 46, 4, 100, 54, 7, 21, 7, 21, 4, 164, 0, 94, 21, 5, 21, 7, 122, 4, 126, 4]
abbrev dktX3_partner_2 : List UInt8 := dkwX3_partner_2 ++ dktX3_partner_3
def dkwX3_partner_1 : List UInt8 := [153, 0, 177, 28, 184, 0, 149, 54, 4, 28, 4, 21, 4, 120, 2, 130, 126, 54, 5, 2, 54, 6, 42]
abbrev dktX3_partner_1 : List UInt8 := dkwX3_partner_1 ++ dktX3_partner_2
def dkwX3_partner_0 : List UInt8 := [42, 27, 182, 0, 103, 154, 0, 6, 18, 93, 172, 42, 182, 0, 155, 42, 182, 0, 152, 61, 2, 62, 28]
abbrev dktX3_partner_0 : List UInt8 := dkwX3_partner_0 ++ dktX3_partner_1
theorem dksX3_partner_0 : cX3_partner.data.toList.drop 0 = dktX3_partner_0 := by decide +kernel
theorem dksX3_partner_1 : cX3_partner.data.toList.drop 23 = dktX3_partner_1 := dk_seg dksX3_partner_0 23 rfl rfl
theorem dksX3_partner_2 : cX3_partner.data.toList.drop 46 = dktX3_partner_2 := dk_seg dksX3_partner_1 23 rfl rfl
theorem dksX3_partner_3 : cX3_partner.data.toList.drop 70 = dktX3_partner_3 := dk_seg dksX3_partner_2 24 rfl rfl
theorem dksX3_partner_4 : cX3_partner.data.toList.drop 94 = dktX3_partner_4 := dk_seg dksX3_partner_3 24 rfl rfl
theorem dksX3_partner_5 : cX3_partner.data.toList.drop 118 = dktX3_partner_5 := dk_seg dksX3_partner_4 24 rfl rfl
theorem dksX3_partner_6 : cX3_partner.data.toList.drop 140 = dktX3_partner_6 := dk_seg dksX3_partner_5 22 rfl rfl
theorem dksX3_partner_7 : cX3_partner.data.toList.drop 164 = dktX3_partner_7 := dk_seg dksX3_partner_6 24 rfl rfl
theorem dksX3_partner_8 : cX3_partner.data.toList.drop 187 = dktX3_partner_8 := dk_seg dksX3_partner_7 23 rfl rfl
theorem dX3_partner_0 : decode cX3_partner 0 = .ok (.aload_n 0, 1) := dk_42 (dk_at dksX3_partner_0 0 rfl rfl)
theorem dX3_partner_1 : decode cX3_partner 1 = .ok (.iload_n 1, 1) := dk_27 (dk_at dksX3_partner_0 1 rfl rfl)
theorem dX3_partner_2 : decode cX3_partner 2 = .ok (.invokevirtual 103, 3) := dk_182 0 103 (dk_at dksX3_partner_0 2 rfl rfl)
theorem dX3_partner_5 : decode cX3_partner 5 = .ok (.ifCond .ne 6, 3) := dk_154 0 6 (dk_at dksX3_partner_0 5 rfl rfl)
theorem dX3_partner_8 : decode cX3_partner 8 = .ok (.ldc 93, 2) := dk_18 93 (dk_at dksX3_partner_0 8 rfl rfl)
theorem dX3_partner_10 : decode cX3_partner 10 = .ok (.ireturn, 1) := dk_172 (dk_at dksX3_partner_0 10 rfl rfl)
theorem dX3_partner_11 : decode cX3_partner 11 = .ok (.aload_n 0, 1) := dk_42 (dk_at dksX3_partner_0 11 rfl rfl)
theorem dX3_partner_12 : decode cX3_partner 12 = .ok (.invokevirtual 155, 3) := dk_182 0 155 (dk_at dksX3_partner_0 12 rfl rfl)
theorem dX3_partner_15 : decode cX3_partner 15 = .ok (.aload_n 0, 1) := dk_42 (dk_at dksX3_partner_0 15 rfl rfl)
theorem dX3_partner_16 : decode cX3_partner 16 = .ok (.invokevirtual 152, 3) := dk_182 0 152 (dk_at dksX3_partner_0 16 rfl rfl)
theorem dX3_partner_19 : decode cX3_partner 19 = .ok (.istore_n 2, 1) := dk_61 (dk_at dksX3_partner_0 19 rfl rfl)
theorem dX3_partner_20 : decode cX3_partner 20 = .ok (.iconst (-1), 1) := dk_2 (dk_at dksX3_partner_0 20 rfl rfl)
theorem dX3_partner_21 : decode cX3_partner 21 = .ok (.istore_n 3, 1) := dk_62 (dk_at dksX3_partner_0 21 rfl rfl)
theorem dX3_partner_22 : decode cX3_partner 22 = .ok (.iload_n 2, 1) := dk_28 (dk_at dksX3_partner_0 22 rfl rfl)
theorem dX3_partner_23 : decode cX3_partner 23 = .ok (.ifCond .eq 177, 3) := dk_153 0 177 (dk_at dksX3_partner_1 0 rfl rfl)
theorem dX3_partner_26 : decode cX3_partner 26 = .ok (.iload_n 2, 1) := dk_28 (dk_at dksX3_partner_1 3 rfl rfl)
theorem dX3_partner_27 : decode cX3_partner 27 = .ok (.invokestatic 149, 3) := dk_184 0 149 (dk_at dksX3_partner_1 4 rfl rfl)
theorem dX3_partner_30 : decode cX3_partner 30 = .ok (.istore 4, 2) := dk_54 4 (dk_at dksX3_partner_1 7 rfl rfl)
theorem dX3_partner_32 : decode cX3_partner 32 = .ok (.iload_n 2, 1) := dk_28 (dk_at dksX3_partner_1 9 rfl rfl)
theorem dX3_partner_33 : decode cX3_partner 33 = .ok (.iconst 1, 1) := dk_4 (dk_at dksX3_partner_1 10 rfl rfl)
theorem dX3_partner_34 : decode cX3_partner 34 = .ok (.iload 4, 2) := dk_21 4 (dk_at dksX3_partner_1 11 rfl rfl)
theorem dX3_partner_36 : decode cX3_partner 36 = .ok (.ishl, 1) := dk_120 (dk_at dksX3_partner_1 13 rfl rfl)
theorem dX3_partner_37 : decode cX3_partner 37 = .ok (.iconst (-1), 1) := dk_2 (dk_at dksX3_partner_1 14 rfl rfl)
theorem dX3_partner_38 : decode cX3_partner 38 = .ok (.ixor, 1) := dk_130 (dk_at dksX3_partner_1 15 rfl rfl)
theorem dX3_partner_39 : decode cX3_partner 39 = .ok (.iand, 1) := dk_126 (dk_at dksX3_partner_1 16 rfl rfl)
theorem dX3_partner_40 : decode cX3_partner 40 = .ok (.istore 5, 2) := dk_54 5 (dk_at dksX3_partner_1 17 rfl rfl)
theorem dX3_partner_42 : decode cX3_partner 42 = .ok (.iconst (-1), 1) := dk_2 (dk_at dksX3_partner_1 19 rfl rfl)
theorem dX3_partner_43 : decode cX3_partner 43 = .ok (.istore 6, 2) := dk_54 6 (dk_at dksX3_partner_1 20 rfl rfl)
theorem dX3_partner_45 : decode cX3_partner 45 = .ok (.aload_n 0, 1) := dk_42 (dk_at dksX3_partner_1 22 rfl rfl)
theorem dX3_partner_46 : decode cX3_partner 46 = .ok (.getfield 9, 3) := dk_180 0 9 (dk_at dksX3_partner_2 0 rfl rfl)
theorem dX3_partner_49 : decode cX3_partner 49 = .ok (.iconst 1, 1) := dk_4 (dk_at dksX3_partner_2 3 rfl rfl)
theorem dX3_partner_50 : decode cX3_partner 50 = .ok (.iaload, 1) := dk_46 (dk_at dksX3_partner_2 4 rfl rfl)
theorem dX3_partner_51 : decode cX3_partner 51 = .ok (.iconst 1, 1) := dk_4 (dk_at dksX3_partner_2 5 rfl rfl)
theorem dX3_partner_52 : decode cX3_partner 52 = .ok (.isub, 1) := dk_100 (dk_at dksX3_partner_2 6 rfl rfl)
theorem dX3_partner_53 : decode cX3_partner 53 = .ok (.istore 7, 2) := dk_54 7 (dk_at dksX3_partner_2 7 rfl rfl)
theorem dX3_partner_55 : decode cX3_partner 55 = .ok (.iload 7, 2) := dk_21 7 (dk_at dksX3_partner_2 9 rfl rfl)
theorem dX3_partner_57 : decode cX3_partner 57 = .ok (.iload 4, 2) := dk_21 4 (dk_at dksX3_partner_2 11 rfl rfl)
theorem dX3_partner_59 : decode cX3_partner 59 = .ok (.if_icmp .le 94, 3) := dk_164 0 94 (dk_at dksX3_partner_2 13 rfl rfl)
theorem dX3_partner_62 : decode cX3_partner 62 = .ok (.iload 5, 2) := dk_21 5 (dk_at dksX3_partner_2 16 rfl rfl)
theorem dX3_partner_64 : decode cX3_partner 64 = .ok (.iload 7, 2) := dk_21 7 (dk_at dksX3_partner_2 18 rfl rfl)
theorem dX3_partner_66 : decode cX3_partner 66 = .ok (.ishr, 1) := dk_122 (dk_at dksX3_partner_2 20 rfl rfl)
theorem dX3_partner_67 : decode cX3_partner 67 = .ok (.iconst 1, 1) := dk_4 (dk_at dksX3_partner_2 21 rfl rfl)
theorem dX3_partner_68 : decode cX3_partner 68 = .ok (.iand, 1) := dk_126 (dk_at dksX3_partner_2 22 rfl rfl)
theorem dX3_partner_69 : decode cX3_partner 69 = .ok (.iconst 1, 1) := dk_4 (dk_at dksX3_partner_2 23 rfl rfl)
theorem dX3_partner_70 : decode cX3_partner 70 = .ok (.if_icmp .ne 23, 3) := dk_160 0 23 (dk_at dksX3_partner_3 0 rfl rfl)
theorem dX3_partner_73 : decode cX3_partner 73 = .ok (.aload_n 0, 1) := dk_42 (dk_at dksX3_partner_3 3 rfl rfl)
theorem dX3_partner_74 : decode cX3_partner 74 = .ok (.getfield 19, 3) := dk_180 0 19 (dk_at dksX3_partner_3 4 rfl rfl)
theorem dX3_partner_77 : decode cX3_partner 77 = .ok (.bipush 10, 2) := dk_16 10 (dk_at dksX3_partner_3 7 rfl rfl)
theorem dX3_partner_79 : decode cX3_partner 79 = .ok (.iload 4, 2) := dk_21 4 (dk_at dksX3_partner_3 9 rfl rfl)
theorem dX3_partner_81 : decode cX3_partner 81 = .ok (.imul, 1) := dk_104 (dk_at dksX3_partner_3 11 rfl rfl)
theorem dX3_partner_82 : decode cX3_partner 82 = .ok (.iload 7, 2) := dk_21 7 (dk_at dksX3_partner_3 12 rfl rfl)
theorem dX3_partner_84 : decode cX3_partner 84 = .ok (.iadd, 1) := dk_96 (dk_at dksX3_partner_3 14 rfl rfl)
theorem dX3_partner_85 : decode cX3_partner 85 = .ok (.iaload, 1) := dk_46 (dk_at dksX3_partner_3 15 rfl rfl)
theorem dX3_partner_86 : decode cX3_partner 86 = .ok (.ifCond .lt 7, 3) := dk_155 0 7 (dk_at dksX3_partner_3 16 rfl rfl)
theorem dX3_partner_89 : decode cX3_partner 89 = .ok (.iconst 1, 1) := dk_4 (dk_at dksX3_partner_3 19 rfl rfl)
theorem dX3_partner_90 : decode cX3_partner 90 = .ok (.goto 4, 3) := dk_167 0 4 (dk_at dksX3_partner_3 20 rfl rfl)
theorem dX3_partner_93 : decode cX3_partner 93 = .ok (.iconst 0, 1) := dk_3 (dk_at dksX3_partner_3 23 rfl rfl)
theorem dX3_partner_94 : decode cX3_partner 94 = .ok (.istore 8, 2) := dk_54 8 (dk_at dksX3_partner_4 0 rfl rfl)
theorem dX3_partner_96 : decode cX3_partner 96 = .ok (.iload 8, 2) := dk_21 8 (dk_at dksX3_partner_4 2 rfl rfl)
theorem dX3_partner_98 : decode cX3_partner 98 = .ok (.ifCond .eq 45, 3) := dk_153 0 45 (dk_at dksX3_partner_4 4 rfl rfl)
theorem dX3_partner_101 : decode cX3_partner 101 = .ok (.aload_n 0, 1) := dk_42 (dk_at dksX3_partner_4 7 rfl rfl)
theorem dX3_partner_102 : decode cX3_partner 102 = .ok (.getfield 19, 3) := dk_180 0 19 (dk_at dksX3_partner_4 8 rfl rfl)
theorem dX3_partner_105 : decode cX3_partner 105 = .ok (.bipush 10, 2) := dk_16 10 (dk_at dksX3_partner_4 11 rfl rfl)
theorem dX3_partner_107 : decode cX3_partner 107 = .ok (.iload 4, 2) := dk_21 4 (dk_at dksX3_partner_4 13 rfl rfl)
theorem dX3_partner_109 : decode cX3_partner 109 = .ok (.imul, 1) := dk_104 (dk_at dksX3_partner_4 15 rfl rfl)
theorem dX3_partner_110 : decode cX3_partner 110 = .ok (.iload 7, 2) := dk_21 7 (dk_at dksX3_partner_4 16 rfl rfl)
theorem dX3_partner_112 : decode cX3_partner 112 = .ok (.iadd, 1) := dk_96 (dk_at dksX3_partner_4 18 rfl rfl)
theorem dX3_partner_113 : decode cX3_partner 113 = .ok (.iaload, 1) := dk_46 (dk_at dksX3_partner_4 19 rfl rfl)
theorem dX3_partner_114 : decode cX3_partner 114 = .ok (.aload_n 0, 1) := dk_42 (dk_at dksX3_partner_4 20 rfl rfl)
theorem dX3_partner_115 : decode cX3_partner 115 = .ok (.getfield 22, 3) := dk_180 0 22 (dk_at dksX3_partner_4 21 rfl rfl)
theorem dX3_partner_118 : decode cX3_partner 118 = .ok (.iload 5, 2) := dk_21 5 (dk_at dksX3_partner_5 0 rfl rfl)
theorem dX3_partner_120 : decode cX3_partner 120 = .ok (.iconst 1, 1) := dk_4 (dk_at dksX3_partner_5 2 rfl rfl)
theorem dX3_partner_121 : decode cX3_partner 121 = .ok (.iload 7, 2) := dk_21 7 (dk_at dksX3_partner_5 3 rfl rfl)
theorem dX3_partner_123 : decode cX3_partner 123 = .ok (.ishl, 1) := dk_120 (dk_at dksX3_partner_5 5 rfl rfl)
theorem dX3_partner_124 : decode cX3_partner 124 = .ok (.iconst (-1), 1) := dk_2 (dk_at dksX3_partner_5 6 rfl rfl)
theorem dX3_partner_125 : decode cX3_partner 125 = .ok (.ixor, 1) := dk_130 (dk_at dksX3_partner_5 7 rfl rfl)
theorem dX3_partner_126 : decode cX3_partner 126 = .ok (.iand, 1) := dk_126 (dk_at dksX3_partner_5 8 rfl rfl)
theorem dX3_partner_127 : decode cX3_partner 127 = .ok (.iaload, 1) := dk_46 (dk_at dksX3_partner_5 9 rfl rfl)
theorem dX3_partner_128 : decode cX3_partner 128 = .ok (.iadd, 1) := dk_96 (dk_at dksX3_partner_5 10 rfl rfl)
theorem dX3_partner_129 : decode cX3_partner 129 = .ok (.aload_n 0, 1) := dk_42 (dk_at dksX3_partner_5 11 rfl rfl)
theorem dX3_partner_130 : decode cX3_partner 130 = .ok (.getfield 22, 3) := dk_180 0 22 (dk_at dksX3_partner_5 12 rfl rfl)
theorem dX3_partner_133 : decode cX3_partner 133 = .ok (.iload_n 2, 1) := dk_28 (dk_at dksX3_partner_5 15 rfl rfl)
theorem dX3_partner_134 : decode cX3_partner 134 = .ok (.iaload, 1) := dk_46 (dk_at dksX3_partner_5 16 rfl rfl)
theorem dX3_partner_135 : decode cX3_partner 135 = .ok (.if_icmp .ne 8, 3) := dk_160 0 8 (dk_at dksX3_partner_5 17 rfl rfl)
theorem dX3_partner_138 : decode cX3_partner 138 = .ok (.iload 7, 2) := dk_21 7 (dk_at dksX3_partner_5 20 rfl rfl)
theorem dX3_partner_140 : decode cX3_partner 140 = .ok (.goto 5, 3) := dk_167 0 5 (dk_at dksX3_partner_6 0 rfl rfl)
theorem dX3_partner_143 : decode cX3_partner 143 = .ok (.iload 6, 2) := dk_21 6 (dk_at dksX3_partner_6 3 rfl rfl)
theorem dX3_partner_145 : decode cX3_partner 145 = .ok (.istore 6, 2) := dk_54 6 (dk_at dksX3_partner_6 5 rfl rfl)
theorem dX3_partner_147 : decode cX3_partner 147 = .ok (.iinc 7 (-1), 3) := dk_132 7 255 (dk_at dksX3_partner_6 7 rfl rfl)
theorem dX3_partner_150 : decode cX3_partner 150 = .ok (.goto (-95), 3) := dk_167 255 161 (dk_at dksX3_partner_6 10 rfl rfl)
theorem dX3_partner_153 : decode cX3_partner 153 = .ok (.iload 4, 2) := dk_21 4 (dk_at dksX3_partner_6 13 rfl rfl)
theorem dX3_partner_155 : decode cX3_partner 155 = .ok (.iload_n 1, 1) := dk_27 (dk_at dksX3_partner_6 15 rfl rfl)
theorem dX3_partner_156 : decode cX3_partner 156 = .ok (.if_icmp .ne 8, 3) := dk_160 0 8 (dk_at dksX3_partner_6 16 rfl rfl)
theorem dX3_partner_159 : decode cX3_partner 159 = .ok (.iload 6, 2) := dk_21 6 (dk_at dksX3_partner_6 19 rfl rfl)
theorem dX3_partner_161 : decode cX3_partner 161 = .ok (.goto 15, 3) := dk_167 0 15 (dk_at dksX3_partner_6 21 rfl rfl)
theorem dX3_partner_164 : decode cX3_partner 164 = .ok (.iload 6, 2) := dk_21 6 (dk_at dksX3_partner_7 0 rfl rfl)
theorem dX3_partner_166 : decode cX3_partner 166 = .ok (.iload_n 1, 1) := dk_27 (dk_at dksX3_partner_7 2 rfl rfl)
theorem dX3_partner_167 : decode cX3_partner 167 = .ok (.if_icmp .ne 8, 3) := dk_160 0 8 (dk_at dksX3_partner_7 3 rfl rfl)
theorem dX3_partner_170 : decode cX3_partner 170 = .ok (.iload 4, 2) := dk_21 4 (dk_at dksX3_partner_7 6 rfl rfl)
theorem dX3_partner_172 : decode cX3_partner 172 = .ok (.goto 4, 3) := dk_167 0 4 (dk_at dksX3_partner_7 8 rfl rfl)
theorem dX3_partner_175 : decode cX3_partner 175 = .ok (.iload_n 3, 1) := dk_29 (dk_at dksX3_partner_7 11 rfl rfl)
theorem dX3_partner_176 : decode cX3_partner 176 = .ok (.istore_n 3, 1) := dk_62 (dk_at dksX3_partner_7 12 rfl rfl)
theorem dX3_partner_177 : decode cX3_partner 177 = .ok (.iload 6, 2) := dk_21 6 (dk_at dksX3_partner_7 13 rfl rfl)
theorem dX3_partner_179 : decode cX3_partner 179 = .ok (.ifCond .ge 8, 3) := dk_156 0 8 (dk_at dksX3_partner_7 15 rfl rfl)
theorem dX3_partner_182 : decode cX3_partner 182 = .ok (.iload 5, 2) := dk_21 5 (dk_at dksX3_partner_7 18 rfl rfl)
theorem dX3_partner_184 : decode cX3_partner 184 = .ok (.goto 12, 3) := dk_167 0 12 (dk_at dksX3_partner_7 20 rfl rfl)
theorem dX3_partner_187 : decode cX3_partner 187 = .ok (.iload 5, 2) := dk_21 5 (dk_at dksX3_partner_8 0 rfl rfl)
theorem dX3_partner_189 : decode cX3_partner 189 = .ok (.iconst 1, 1) := dk_4 (dk_at dksX3_partner_8 2 rfl rfl)
theorem dX3_partner_190 : decode cX3_partner 190 = .ok (.iload 6, 2) := dk_21 6 (dk_at dksX3_partner_8 3 rfl rfl)
theorem dX3_partner_192 : decode cX3_partner 192 = .ok (.ishl, 1) := dk_120 (dk_at dksX3_partner_8 5 rfl rfl)
theorem dX3_partner_193 : decode cX3_partner 193 = .ok (.iconst (-1), 1) := dk_2 (dk_at dksX3_partner_8 6 rfl rfl)
theorem dX3_partner_194 : decode cX3_partner 194 = .ok (.ixor, 1) := dk_130 (dk_at dksX3_partner_8 7 rfl rfl)
theorem dX3_partner_195 : decode cX3_partner 195 = .ok (.iand, 1) := dk_126 (dk_at dksX3_partner_8 8 rfl rfl)
theorem dX3_partner_196 : decode cX3_partner 196 = .ok (.istore_n 2, 1) := dk_61 (dk_at dksX3_partner_8 9 rfl rfl)
theorem dX3_partner_197 : decode cX3_partner 197 = .ok (.goto (-175), 3) := dk_167 255 81 (dk_at dksX3_partner_8 10 rfl rfl)
theorem dX3_partner_200 : decode cX3_partner 200 = .ok (.iload_n 3, 1) := dk_29 (dk_at dksX3_partner_8 13 rfl rfl)
theorem dX3_partner_201 : decode cX3_partner 201 = .ok (.invokestatic 158, 3) := dk_184 0 158 (dk_at dksX3_partner_8 14 rfl rfl)
theorem dX3_partner_204 : decode cX3_partner 204 = .ok (.ireturn, 1) := dk_172 (dk_at dksX3_partner_8 17 rfl rfl)
abbrev cX3_told0 : ByteArray := prog_22_method_5_code
def yX3_told0 : MethodName := ⟨RX3, "told0", "(I)I"⟩
def dkwX3_told0_0 : List UInt8 := [26, 156, 0, 8, 18, 84, 167, 0, 4, 26, 172]
abbrev dktX3_told0_0 : List UInt8 := dkwX3_told0_0 ++ []
theorem dksX3_told0_0 : cX3_told0.data.toList.drop 0 = dktX3_told0_0 := by decide +kernel
theorem dX3_told0_0 : decode cX3_told0 0 = .ok (.iload_n 0, 1) := dk_26 (dk_at dksX3_told0_0 0 rfl rfl)
theorem dX3_told0_1 : decode cX3_told0 1 = .ok (.ifCond .ge 8, 3) := dk_156 0 8 (dk_at dksX3_told0_0 1 rfl rfl)
theorem dX3_told0_4 : decode cX3_told0 4 = .ok (.ldc 84, 2) := dk_18 84 (dk_at dksX3_told0_0 4 rfl rfl)
theorem dX3_told0_6 : decode cX3_told0 6 = .ok (.goto 4, 3) := dk_167 0 4 (dk_at dksX3_told0_0 6 rfl rfl)
theorem dX3_told0_9 : decode cX3_told0 9 = .ok (.iload_n 0, 1) := dk_26 (dk_at dksX3_told0_0 9 rfl rfl)
theorem dX3_told0_10 : decode cX3_told0 10 = .ok (.ireturn, 1) := dk_172 (dk_at dksX3_told0_0 10 rfl rfl)
abbrev cX3_adds : ByteArray := prog_22_method_33_code
def yX3_adds : MethodName := ⟨RX3, "adds", "(I)I"⟩
def dkwX3_adds_1 : List UInt8 := [42, 180, 0, 22, 42, 182, 0, 152, 4, 27, 120, 2, 130, 126, 46, 100, 172]
abbrev dktX3_adds_1 : List UInt8 := dkwX3_adds_1 ++ []
def dkwX3_adds_0 : List UInt8 := [42, 27, 182, 0, 103, 154, 0, 6, 18, 93, 172, 42, 182, 0, 155, 42, 180, 0, 22, 42, 182, 0, 152, 46]
abbrev dktX3_adds_0 : List UInt8 := dkwX3_adds_0 ++ dktX3_adds_1
theorem dksX3_adds_0 : cX3_adds.data.toList.drop 0 = dktX3_adds_0 := by decide +kernel
theorem dksX3_adds_1 : cX3_adds.data.toList.drop 24 = dktX3_adds_1 := dk_seg dksX3_adds_0 24 rfl rfl
theorem dX3_adds_0 : decode cX3_adds 0 = .ok (.aload_n 0, 1) := dk_42 (dk_at dksX3_adds_0 0 rfl rfl)
theorem dX3_adds_1 : decode cX3_adds 1 = .ok (.iload_n 1, 1) := dk_27 (dk_at dksX3_adds_0 1 rfl rfl)
theorem dX3_adds_2 : decode cX3_adds 2 = .ok (.invokevirtual 103, 3) := dk_182 0 103 (dk_at dksX3_adds_0 2 rfl rfl)
theorem dX3_adds_5 : decode cX3_adds 5 = .ok (.ifCond .ne 6, 3) := dk_154 0 6 (dk_at dksX3_adds_0 5 rfl rfl)
theorem dX3_adds_8 : decode cX3_adds 8 = .ok (.ldc 93, 2) := dk_18 93 (dk_at dksX3_adds_0 8 rfl rfl)
theorem dX3_adds_10 : decode cX3_adds 10 = .ok (.ireturn, 1) := dk_172 (dk_at dksX3_adds_0 10 rfl rfl)
theorem dX3_adds_11 : decode cX3_adds 11 = .ok (.aload_n 0, 1) := dk_42 (dk_at dksX3_adds_0 11 rfl rfl)
theorem dX3_adds_12 : decode cX3_adds 12 = .ok (.invokevirtual 155, 3) := dk_182 0 155 (dk_at dksX3_adds_0 12 rfl rfl)
theorem dX3_adds_15 : decode cX3_adds 15 = .ok (.aload_n 0, 1) := dk_42 (dk_at dksX3_adds_0 15 rfl rfl)
theorem dX3_adds_16 : decode cX3_adds 16 = .ok (.getfield 22, 3) := dk_180 0 22 (dk_at dksX3_adds_0 16 rfl rfl)
theorem dX3_adds_19 : decode cX3_adds 19 = .ok (.aload_n 0, 1) := dk_42 (dk_at dksX3_adds_0 19 rfl rfl)
theorem dX3_adds_20 : decode cX3_adds 20 = .ok (.invokevirtual 152, 3) := dk_182 0 152 (dk_at dksX3_adds_0 20 rfl rfl)
theorem dX3_adds_23 : decode cX3_adds 23 = .ok (.iaload, 1) := dk_46 (dk_at dksX3_adds_0 23 rfl rfl)
theorem dX3_adds_24 : decode cX3_adds 24 = .ok (.aload_n 0, 1) := dk_42 (dk_at dksX3_adds_1 0 rfl rfl)
theorem dX3_adds_25 : decode cX3_adds 25 = .ok (.getfield 22, 3) := dk_180 0 22 (dk_at dksX3_adds_1 1 rfl rfl)
theorem dX3_adds_28 : decode cX3_adds 28 = .ok (.aload_n 0, 1) := dk_42 (dk_at dksX3_adds_1 4 rfl rfl)
theorem dX3_adds_29 : decode cX3_adds 29 = .ok (.invokevirtual 152, 3) := dk_182 0 152 (dk_at dksX3_adds_1 5 rfl rfl)
theorem dX3_adds_32 : decode cX3_adds 32 = .ok (.iconst 1, 1) := dk_4 (dk_at dksX3_adds_1 8 rfl rfl)
theorem dX3_adds_33 : decode cX3_adds 33 = .ok (.iload_n 1, 1) := dk_27 (dk_at dksX3_adds_1 9 rfl rfl)
theorem dX3_adds_34 : decode cX3_adds 34 = .ok (.ishl, 1) := dk_120 (dk_at dksX3_adds_1 10 rfl rfl)
theorem dX3_adds_35 : decode cX3_adds 35 = .ok (.iconst (-1), 1) := dk_2 (dk_at dksX3_adds_1 11 rfl rfl)
theorem dX3_adds_36 : decode cX3_adds 36 = .ok (.ixor, 1) := dk_130 (dk_at dksX3_adds_1 12 rfl rfl)
theorem dX3_adds_37 : decode cX3_adds 37 = .ok (.iand, 1) := dk_126 (dk_at dksX3_adds_1 13 rfl rfl)
theorem dX3_adds_38 : decode cX3_adds 38 = .ok (.iaload, 1) := dk_46 (dk_at dksX3_adds_1 14 rfl rfl)
theorem dX3_adds_39 : decode cX3_adds 39 = .ok (.isub, 1) := dk_100 (dk_at dksX3_adds_1 15 rfl rfl)
theorem dX3_adds_40 : decode cX3_adds 40 = .ok (.ireturn, 1) := dk_172 (dk_at dksX3_adds_1 16 rfl rfl)
abbrev cX3_leaves : ByteArray := prog_22_method_37_code
def yX3_leaves : MethodName := ⟨RX3, "leaves", "(I)I"⟩
def dkwX3_leaves_5 : List UInt8 := [172]
abbrev dktX3_leaves_5 : List UInt8 := dkwX3_leaves_5 ++ []
def dkwX3_leaves_4 : List UInt8 := [154, 0, 10, 16, 100, 28, 104, 29, 96, 172, 132, 3, 1, 167, 255, 191, 132, 2, 1, 167, 255, 171, 18, 84]
abbrev dktX3_leaves_4 : List UInt8 := dkwX3_leaves_4 ++ dktX3_leaves_5
def dkwX3_leaves_3 : List UInt8 := [182, 0, 171, 164, 0, 31, 21, 4, 42, 27, 29, 182, 0, 171, 164, 0, 20, 42, 27, 28, 29, 182, 0, 164]
abbrev dktX3_leaves_3 : List UInt8 := dkwX3_leaves_3 ++ dktX3_leaves_4
def dkwX3_leaves_2 : List UInt8 := [4, 46, 162, 0, 61, 42, 180, 0, 19, 16, 10, 28, 104, 29, 96, 46, 54, 4, 21, 4, 42, 27, 28]
abbrev dktX3_leaves_2 : List UInt8 := dkwX3_leaves_2 ++ dktX3_leaves_3
def dkwX3_leaves_1 : List UInt8 := [182, 0, 155, 3, 61, 28, 42, 180, 0, 9, 4, 46, 162, 0, 81, 28, 4, 96, 62, 29, 42, 180, 0, 9]
abbrev dktX3_leaves_1 : List UInt8 := dkwX3_leaves_1 ++ dktX3_leaves_2
def dkwX3_leaves_0 : List UInt8 := [27, 184, 0, 167, 154, 0, 6, 18, 93, 172, 42, 180, 0, 57, 27, 46, 156, 0, 6, 18, 170, 172, 42]
abbrev dktX3_leaves_0 : List UInt8 := dkwX3_leaves_0 ++ dktX3_leaves_1
theorem dksX3_leaves_0 : cX3_leaves.data.toList.drop 0 = dktX3_leaves_0 := by decide +kernel
theorem dksX3_leaves_1 : cX3_leaves.data.toList.drop 23 = dktX3_leaves_1 := dk_seg dksX3_leaves_0 23 rfl rfl
theorem dksX3_leaves_2 : cX3_leaves.data.toList.drop 47 = dktX3_leaves_2 := dk_seg dksX3_leaves_1 24 rfl rfl
theorem dksX3_leaves_3 : cX3_leaves.data.toList.drop 70 = dktX3_leaves_3 := dk_seg dksX3_leaves_2 23 rfl rfl
theorem dksX3_leaves_4 : cX3_leaves.data.toList.drop 94 = dktX3_leaves_4 := dk_seg dksX3_leaves_3 24 rfl rfl
theorem dksX3_leaves_5 : cX3_leaves.data.toList.drop 118 = dktX3_leaves_5 := dk_seg dksX3_leaves_4 24 rfl rfl
theorem dX3_leaves_0 : decode cX3_leaves 0 = .ok (.iload_n 1, 1) := dk_27 (dk_at dksX3_leaves_0 0 rfl rfl)
theorem dX3_leaves_1 : decode cX3_leaves 1 = .ok (.invokestatic 167, 3) := dk_184 0 167 (dk_at dksX3_leaves_0 1 rfl rfl)
theorem dX3_leaves_4 : decode cX3_leaves 4 = .ok (.ifCond .ne 6, 3) := dk_154 0 6 (dk_at dksX3_leaves_0 4 rfl rfl)
theorem dX3_leaves_7 : decode cX3_leaves 7 = .ok (.ldc 93, 2) := dk_18 93 (dk_at dksX3_leaves_0 7 rfl rfl)
theorem dX3_leaves_9 : decode cX3_leaves 9 = .ok (.ireturn, 1) := dk_172 (dk_at dksX3_leaves_0 9 rfl rfl)
theorem dX3_leaves_10 : decode cX3_leaves 10 = .ok (.aload_n 0, 1) := dk_42 (dk_at dksX3_leaves_0 10 rfl rfl)
theorem dX3_leaves_11 : decode cX3_leaves 11 = .ok (.getfield 57, 3) := dk_180 0 57 (dk_at dksX3_leaves_0 11 rfl rfl)
theorem dX3_leaves_14 : decode cX3_leaves 14 = .ok (.iload_n 1, 1) := dk_27 (dk_at dksX3_leaves_0 14 rfl rfl)
theorem dX3_leaves_15 : decode cX3_leaves 15 = .ok (.iaload, 1) := dk_46 (dk_at dksX3_leaves_0 15 rfl rfl)
theorem dX3_leaves_16 : decode cX3_leaves 16 = .ok (.ifCond .ge 6, 3) := dk_156 0 6 (dk_at dksX3_leaves_0 16 rfl rfl)
theorem dX3_leaves_19 : decode cX3_leaves 19 = .ok (.ldc 170, 2) := dk_18 170 (dk_at dksX3_leaves_0 19 rfl rfl)
theorem dX3_leaves_21 : decode cX3_leaves 21 = .ok (.ireturn, 1) := dk_172 (dk_at dksX3_leaves_0 21 rfl rfl)
theorem dX3_leaves_22 : decode cX3_leaves 22 = .ok (.aload_n 0, 1) := dk_42 (dk_at dksX3_leaves_0 22 rfl rfl)
theorem dX3_leaves_23 : decode cX3_leaves 23 = .ok (.invokevirtual 155, 3) := dk_182 0 155 (dk_at dksX3_leaves_1 0 rfl rfl)
theorem dX3_leaves_26 : decode cX3_leaves 26 = .ok (.iconst 0, 1) := dk_3 (dk_at dksX3_leaves_1 3 rfl rfl)
theorem dX3_leaves_27 : decode cX3_leaves 27 = .ok (.istore_n 2, 1) := dk_61 (dk_at dksX3_leaves_1 4 rfl rfl)
theorem dX3_leaves_28 : decode cX3_leaves 28 = .ok (.iload_n 2, 1) := dk_28 (dk_at dksX3_leaves_1 5 rfl rfl)
theorem dX3_leaves_29 : decode cX3_leaves 29 = .ok (.aload_n 0, 1) := dk_42 (dk_at dksX3_leaves_1 6 rfl rfl)
theorem dX3_leaves_30 : decode cX3_leaves 30 = .ok (.getfield 9, 3) := dk_180 0 9 (dk_at dksX3_leaves_1 7 rfl rfl)
theorem dX3_leaves_33 : decode cX3_leaves 33 = .ok (.iconst 1, 1) := dk_4 (dk_at dksX3_leaves_1 10 rfl rfl)
theorem dX3_leaves_34 : decode cX3_leaves 34 = .ok (.iaload, 1) := dk_46 (dk_at dksX3_leaves_1 11 rfl rfl)
theorem dX3_leaves_35 : decode cX3_leaves 35 = .ok (.if_icmp .ge 81, 3) := dk_162 0 81 (dk_at dksX3_leaves_1 12 rfl rfl)
theorem dX3_leaves_38 : decode cX3_leaves 38 = .ok (.iload_n 2, 1) := dk_28 (dk_at dksX3_leaves_1 15 rfl rfl)
theorem dX3_leaves_39 : decode cX3_leaves 39 = .ok (.iconst 1, 1) := dk_4 (dk_at dksX3_leaves_1 16 rfl rfl)
theorem dX3_leaves_40 : decode cX3_leaves 40 = .ok (.iadd, 1) := dk_96 (dk_at dksX3_leaves_1 17 rfl rfl)
theorem dX3_leaves_41 : decode cX3_leaves 41 = .ok (.istore_n 3, 1) := dk_62 (dk_at dksX3_leaves_1 18 rfl rfl)
theorem dX3_leaves_42 : decode cX3_leaves 42 = .ok (.iload_n 3, 1) := dk_29 (dk_at dksX3_leaves_1 19 rfl rfl)
theorem dX3_leaves_43 : decode cX3_leaves 43 = .ok (.aload_n 0, 1) := dk_42 (dk_at dksX3_leaves_1 20 rfl rfl)
theorem dX3_leaves_44 : decode cX3_leaves 44 = .ok (.getfield 9, 3) := dk_180 0 9 (dk_at dksX3_leaves_1 21 rfl rfl)
theorem dX3_leaves_47 : decode cX3_leaves 47 = .ok (.iconst 1, 1) := dk_4 (dk_at dksX3_leaves_2 0 rfl rfl)
theorem dX3_leaves_48 : decode cX3_leaves 48 = .ok (.iaload, 1) := dk_46 (dk_at dksX3_leaves_2 1 rfl rfl)
theorem dX3_leaves_49 : decode cX3_leaves 49 = .ok (.if_icmp .ge 61, 3) := dk_162 0 61 (dk_at dksX3_leaves_2 2 rfl rfl)
theorem dX3_leaves_52 : decode cX3_leaves 52 = .ok (.aload_n 0, 1) := dk_42 (dk_at dksX3_leaves_2 5 rfl rfl)
theorem dX3_leaves_53 : decode cX3_leaves 53 = .ok (.getfield 19, 3) := dk_180 0 19 (dk_at dksX3_leaves_2 6 rfl rfl)
theorem dX3_leaves_56 : decode cX3_leaves 56 = .ok (.bipush 10, 2) := dk_16 10 (dk_at dksX3_leaves_2 9 rfl rfl)
theorem dX3_leaves_58 : decode cX3_leaves 58 = .ok (.iload_n 2, 1) := dk_28 (dk_at dksX3_leaves_2 11 rfl rfl)
theorem dX3_leaves_59 : decode cX3_leaves 59 = .ok (.imul, 1) := dk_104 (dk_at dksX3_leaves_2 12 rfl rfl)
theorem dX3_leaves_60 : decode cX3_leaves 60 = .ok (.iload_n 3, 1) := dk_29 (dk_at dksX3_leaves_2 13 rfl rfl)
theorem dX3_leaves_61 : decode cX3_leaves 61 = .ok (.iadd, 1) := dk_96 (dk_at dksX3_leaves_2 14 rfl rfl)
theorem dX3_leaves_62 : decode cX3_leaves 62 = .ok (.iaload, 1) := dk_46 (dk_at dksX3_leaves_2 15 rfl rfl)
theorem dX3_leaves_63 : decode cX3_leaves 63 = .ok (.istore 4, 2) := dk_54 4 (dk_at dksX3_leaves_2 16 rfl rfl)
theorem dX3_leaves_65 : decode cX3_leaves 65 = .ok (.iload 4, 2) := dk_21 4 (dk_at dksX3_leaves_2 18 rfl rfl)
theorem dX3_leaves_67 : decode cX3_leaves 67 = .ok (.aload_n 0, 1) := dk_42 (dk_at dksX3_leaves_2 20 rfl rfl)
theorem dX3_leaves_68 : decode cX3_leaves 68 = .ok (.iload_n 1, 1) := dk_27 (dk_at dksX3_leaves_2 21 rfl rfl)
theorem dX3_leaves_69 : decode cX3_leaves 69 = .ok (.iload_n 2, 1) := dk_28 (dk_at dksX3_leaves_2 22 rfl rfl)
theorem dX3_leaves_70 : decode cX3_leaves 70 = .ok (.invokevirtual 171, 3) := dk_182 0 171 (dk_at dksX3_leaves_3 0 rfl rfl)
theorem dX3_leaves_73 : decode cX3_leaves 73 = .ok (.if_icmp .le 31, 3) := dk_164 0 31 (dk_at dksX3_leaves_3 3 rfl rfl)
theorem dX3_leaves_76 : decode cX3_leaves 76 = .ok (.iload 4, 2) := dk_21 4 (dk_at dksX3_leaves_3 6 rfl rfl)
theorem dX3_leaves_78 : decode cX3_leaves 78 = .ok (.aload_n 0, 1) := dk_42 (dk_at dksX3_leaves_3 8 rfl rfl)
theorem dX3_leaves_79 : decode cX3_leaves 79 = .ok (.iload_n 1, 1) := dk_27 (dk_at dksX3_leaves_3 9 rfl rfl)
theorem dX3_leaves_80 : decode cX3_leaves 80 = .ok (.iload_n 3, 1) := dk_29 (dk_at dksX3_leaves_3 10 rfl rfl)
theorem dX3_leaves_81 : decode cX3_leaves 81 = .ok (.invokevirtual 171, 3) := dk_182 0 171 (dk_at dksX3_leaves_3 11 rfl rfl)
theorem dX3_leaves_84 : decode cX3_leaves 84 = .ok (.if_icmp .le 20, 3) := dk_164 0 20 (dk_at dksX3_leaves_3 14 rfl rfl)
theorem dX3_leaves_87 : decode cX3_leaves 87 = .ok (.aload_n 0, 1) := dk_42 (dk_at dksX3_leaves_3 17 rfl rfl)
theorem dX3_leaves_88 : decode cX3_leaves 88 = .ok (.iload_n 1, 1) := dk_27 (dk_at dksX3_leaves_3 18 rfl rfl)
theorem dX3_leaves_89 : decode cX3_leaves 89 = .ok (.iload_n 2, 1) := dk_28 (dk_at dksX3_leaves_3 19 rfl rfl)
theorem dX3_leaves_90 : decode cX3_leaves 90 = .ok (.iload_n 3, 1) := dk_29 (dk_at dksX3_leaves_3 20 rfl rfl)
theorem dX3_leaves_91 : decode cX3_leaves 91 = .ok (.invokevirtual 164, 3) := dk_182 0 164 (dk_at dksX3_leaves_3 21 rfl rfl)
theorem dX3_leaves_94 : decode cX3_leaves 94 = .ok (.ifCond .ne 10, 3) := dk_154 0 10 (dk_at dksX3_leaves_4 0 rfl rfl)
theorem dX3_leaves_97 : decode cX3_leaves 97 = .ok (.bipush 100, 2) := dk_16 100 (dk_at dksX3_leaves_4 3 rfl rfl)
theorem dX3_leaves_99 : decode cX3_leaves 99 = .ok (.iload_n 2, 1) := dk_28 (dk_at dksX3_leaves_4 5 rfl rfl)
theorem dX3_leaves_100 : decode cX3_leaves 100 = .ok (.imul, 1) := dk_104 (dk_at dksX3_leaves_4 6 rfl rfl)
theorem dX3_leaves_101 : decode cX3_leaves 101 = .ok (.iload_n 3, 1) := dk_29 (dk_at dksX3_leaves_4 7 rfl rfl)
theorem dX3_leaves_102 : decode cX3_leaves 102 = .ok (.iadd, 1) := dk_96 (dk_at dksX3_leaves_4 8 rfl rfl)
theorem dX3_leaves_103 : decode cX3_leaves 103 = .ok (.ireturn, 1) := dk_172 (dk_at dksX3_leaves_4 9 rfl rfl)
theorem dX3_leaves_104 : decode cX3_leaves 104 = .ok (.iinc 3 1, 3) := dk_132 3 1 (dk_at dksX3_leaves_4 10 rfl rfl)
theorem dX3_leaves_107 : decode cX3_leaves 107 = .ok (.goto (-65), 3) := dk_167 255 191 (dk_at dksX3_leaves_4 13 rfl rfl)
theorem dX3_leaves_110 : decode cX3_leaves 110 = .ok (.iinc 2 1, 3) := dk_132 2 1 (dk_at dksX3_leaves_4 16 rfl rfl)
theorem dX3_leaves_113 : decode cX3_leaves 113 = .ok (.goto (-85), 3) := dk_167 255 171 (dk_at dksX3_leaves_4 19 rfl rfl)
theorem dX3_leaves_116 : decode cX3_leaves 116 = .ok (.ldc 84, 2) := dk_18 84 (dk_at dksX3_leaves_4 22 rfl rfl)
theorem dX3_leaves_118 : decode cX3_leaves 118 = .ok (.ireturn, 1) := dk_172 (dk_at dksX3_leaves_5 0 rfl rfl)
abbrev cX3_isSheet : ByteArray := prog_22_method_79_code
def yX3_isSheet : MethodName := ⟨RX3, "isSheet", "(I)Z"⟩
def dkwX3_isSheet_0 : List UInt8 := [26, 3, 6, 184, 0, 85, 172]
abbrev dktX3_isSheet_0 : List UInt8 := dkwX3_isSheet_0 ++ []
theorem dksX3_isSheet_0 : cX3_isSheet.data.toList.drop 0 = dktX3_isSheet_0 := by decide +kernel
theorem dX3_isSheet_0 : decode cX3_isSheet 0 = .ok (.iload_n 0, 1) := dk_26 (dk_at dksX3_isSheet_0 0 rfl rfl)
theorem dX3_isSheet_1 : decode cX3_isSheet 1 = .ok (.iconst 0, 1) := dk_3 (dk_at dksX3_isSheet_0 1 rfl rfl)
theorem dX3_isSheet_2 : decode cX3_isSheet 2 = .ok (.iconst 3, 1) := dk_6 (dk_at dksX3_isSheet_0 2 rfl rfl)
theorem dX3_isSheet_3 : decode cX3_isSheet 3 = .ok (.invokestatic 85, 3) := dk_184 0 85 (dk_at dksX3_isSheet_0 3 rfl rfl)
theorem dX3_isSheet_6 : decode cX3_isSheet 6 = .ok (.ireturn, 1) := dk_172 (dk_at dksX3_isSheet_0 6 rfl rfl)
abbrev cX3_hasBy : ByteArray := prog_22_method_36_code
def yX3_hasBy : MethodName := ⟨RX3, "hasBy", "(II)I"⟩
def dkwX3_hasBy_1 : List UInt8 := [153, 0, 15, 42, 180, 0, 19, 16, 10, 28, 104, 29, 96, 46, 172, 132, 3, 1, 167, 255, 216, 3, 172]
abbrev dktX3_hasBy_1 : List UInt8 := dkwX3_hasBy_1 ++ []
def dkwX3_hasBy_0 : List UInt8 := [3, 62, 29, 42, 180, 0, 9, 4, 46, 162, 0, 36, 29, 28, 159, 0, 25, 42, 27, 28, 29, 182, 0, 164]
abbrev dktX3_hasBy_0 : List UInt8 := dkwX3_hasBy_0 ++ dktX3_hasBy_1
theorem dksX3_hasBy_0 : cX3_hasBy.data.toList.drop 0 = dktX3_hasBy_0 := by decide +kernel
theorem dksX3_hasBy_1 : cX3_hasBy.data.toList.drop 24 = dktX3_hasBy_1 := dk_seg dksX3_hasBy_0 24 rfl rfl
theorem dX3_hasBy_0 : decode cX3_hasBy 0 = .ok (.iconst 0, 1) := dk_3 (dk_at dksX3_hasBy_0 0 rfl rfl)
theorem dX3_hasBy_1 : decode cX3_hasBy 1 = .ok (.istore_n 3, 1) := dk_62 (dk_at dksX3_hasBy_0 1 rfl rfl)
theorem dX3_hasBy_2 : decode cX3_hasBy 2 = .ok (.iload_n 3, 1) := dk_29 (dk_at dksX3_hasBy_0 2 rfl rfl)
theorem dX3_hasBy_3 : decode cX3_hasBy 3 = .ok (.aload_n 0, 1) := dk_42 (dk_at dksX3_hasBy_0 3 rfl rfl)
theorem dX3_hasBy_4 : decode cX3_hasBy 4 = .ok (.getfield 9, 3) := dk_180 0 9 (dk_at dksX3_hasBy_0 4 rfl rfl)
theorem dX3_hasBy_7 : decode cX3_hasBy 7 = .ok (.iconst 1, 1) := dk_4 (dk_at dksX3_hasBy_0 7 rfl rfl)
theorem dX3_hasBy_8 : decode cX3_hasBy 8 = .ok (.iaload, 1) := dk_46 (dk_at dksX3_hasBy_0 8 rfl rfl)
theorem dX3_hasBy_9 : decode cX3_hasBy 9 = .ok (.if_icmp .ge 36, 3) := dk_162 0 36 (dk_at dksX3_hasBy_0 9 rfl rfl)
theorem dX3_hasBy_12 : decode cX3_hasBy 12 = .ok (.iload_n 3, 1) := dk_29 (dk_at dksX3_hasBy_0 12 rfl rfl)
theorem dX3_hasBy_13 : decode cX3_hasBy 13 = .ok (.iload_n 2, 1) := dk_28 (dk_at dksX3_hasBy_0 13 rfl rfl)
theorem dX3_hasBy_14 : decode cX3_hasBy 14 = .ok (.if_icmp .eq 25, 3) := dk_159 0 25 (dk_at dksX3_hasBy_0 14 rfl rfl)
theorem dX3_hasBy_17 : decode cX3_hasBy 17 = .ok (.aload_n 0, 1) := dk_42 (dk_at dksX3_hasBy_0 17 rfl rfl)
theorem dX3_hasBy_18 : decode cX3_hasBy 18 = .ok (.iload_n 1, 1) := dk_27 (dk_at dksX3_hasBy_0 18 rfl rfl)
theorem dX3_hasBy_19 : decode cX3_hasBy 19 = .ok (.iload_n 2, 1) := dk_28 (dk_at dksX3_hasBy_0 19 rfl rfl)
theorem dX3_hasBy_20 : decode cX3_hasBy 20 = .ok (.iload_n 3, 1) := dk_29 (dk_at dksX3_hasBy_0 20 rfl rfl)
theorem dX3_hasBy_21 : decode cX3_hasBy 21 = .ok (.invokevirtual 164, 3) := dk_182 0 164 (dk_at dksX3_hasBy_0 21 rfl rfl)
theorem dX3_hasBy_24 : decode cX3_hasBy 24 = .ok (.ifCond .eq 15, 3) := dk_153 0 15 (dk_at dksX3_hasBy_1 0 rfl rfl)
theorem dX3_hasBy_27 : decode cX3_hasBy 27 = .ok (.aload_n 0, 1) := dk_42 (dk_at dksX3_hasBy_1 3 rfl rfl)
theorem dX3_hasBy_28 : decode cX3_hasBy 28 = .ok (.getfield 19, 3) := dk_180 0 19 (dk_at dksX3_hasBy_1 4 rfl rfl)
theorem dX3_hasBy_31 : decode cX3_hasBy 31 = .ok (.bipush 10, 2) := dk_16 10 (dk_at dksX3_hasBy_1 7 rfl rfl)
theorem dX3_hasBy_33 : decode cX3_hasBy 33 = .ok (.iload_n 2, 1) := dk_28 (dk_at dksX3_hasBy_1 9 rfl rfl)
theorem dX3_hasBy_34 : decode cX3_hasBy 34 = .ok (.imul, 1) := dk_104 (dk_at dksX3_hasBy_1 10 rfl rfl)
theorem dX3_hasBy_35 : decode cX3_hasBy 35 = .ok (.iload_n 3, 1) := dk_29 (dk_at dksX3_hasBy_1 11 rfl rfl)
theorem dX3_hasBy_36 : decode cX3_hasBy 36 = .ok (.iadd, 1) := dk_96 (dk_at dksX3_hasBy_1 12 rfl rfl)
theorem dX3_hasBy_37 : decode cX3_hasBy 37 = .ok (.iaload, 1) := dk_46 (dk_at dksX3_hasBy_1 13 rfl rfl)
theorem dX3_hasBy_38 : decode cX3_hasBy 38 = .ok (.ireturn, 1) := dk_172 (dk_at dksX3_hasBy_1 14 rfl rfl)
theorem dX3_hasBy_39 : decode cX3_hasBy 39 = .ok (.iinc 3 1, 3) := dk_132 3 1 (dk_at dksX3_hasBy_1 15 rfl rfl)
theorem dX3_hasBy_42 : decode cX3_hasBy 42 = .ok (.goto (-40), 3) := dk_167 255 216 (dk_at dksX3_hasBy_1 18 rfl rfl)
theorem dX3_hasBy_45 : decode cX3_hasBy 45 = .ok (.iconst 0, 1) := dk_3 (dk_at dksX3_hasBy_1 21 rfl rfl)
theorem dX3_hasBy_46 : decode cX3_hasBy 46 = .ok (.ireturn, 1) := dk_172 (dk_at dksX3_hasBy_1 22 rfl rfl)
abbrev cX3_arePartners : ByteArray := prog_22_method_35_code
def yX3_arePartners : MethodName := ⟨RX3, "arePartners", "(III)Z"⟩
def dkwX3_arePartners_1 : List UInt8 := [42, 27, 29, 28, 182, 0, 161, 153, 0, 7, 4, 167, 0, 4, 3, 172]
abbrev dktX3_arePartners_1 : List UInt8 := dkwX3_arePartners_1 ++ []
def dkwX3_arePartners_0 : List UInt8 := [42, 180, 0, 19, 16, 10, 28, 104, 29, 96, 46, 155, 0, 27, 42, 27, 28, 29, 182, 0, 161, 153, 0, 17]
abbrev dktX3_arePartners_0 : List UInt8 := dkwX3_arePartners_0 ++ dktX3_arePartners_1
theorem dksX3_arePartners_0 : cX3_arePartners.data.toList.drop 0 = dktX3_arePartners_0 := by decide +kernel
theorem dksX3_arePartners_1 : cX3_arePartners.data.toList.drop 24 = dktX3_arePartners_1 := dk_seg dksX3_arePartners_0 24 rfl rfl
theorem dX3_arePartners_0 : decode cX3_arePartners 0 = .ok (.aload_n 0, 1) := dk_42 (dk_at dksX3_arePartners_0 0 rfl rfl)
theorem dX3_arePartners_1 : decode cX3_arePartners 1 = .ok (.getfield 19, 3) := dk_180 0 19 (dk_at dksX3_arePartners_0 1 rfl rfl)
theorem dX3_arePartners_4 : decode cX3_arePartners 4 = .ok (.bipush 10, 2) := dk_16 10 (dk_at dksX3_arePartners_0 4 rfl rfl)
theorem dX3_arePartners_6 : decode cX3_arePartners 6 = .ok (.iload_n 2, 1) := dk_28 (dk_at dksX3_arePartners_0 6 rfl rfl)
theorem dX3_arePartners_7 : decode cX3_arePartners 7 = .ok (.imul, 1) := dk_104 (dk_at dksX3_arePartners_0 7 rfl rfl)
theorem dX3_arePartners_8 : decode cX3_arePartners 8 = .ok (.iload_n 3, 1) := dk_29 (dk_at dksX3_arePartners_0 8 rfl rfl)
theorem dX3_arePartners_9 : decode cX3_arePartners 9 = .ok (.iadd, 1) := dk_96 (dk_at dksX3_arePartners_0 9 rfl rfl)
theorem dX3_arePartners_10 : decode cX3_arePartners 10 = .ok (.iaload, 1) := dk_46 (dk_at dksX3_arePartners_0 10 rfl rfl)
theorem dX3_arePartners_11 : decode cX3_arePartners 11 = .ok (.ifCond .lt 27, 3) := dk_155 0 27 (dk_at dksX3_arePartners_0 11 rfl rfl)
theorem dX3_arePartners_14 : decode cX3_arePartners 14 = .ok (.aload_n 0, 1) := dk_42 (dk_at dksX3_arePartners_0 14 rfl rfl)
theorem dX3_arePartners_15 : decode cX3_arePartners 15 = .ok (.iload_n 1, 1) := dk_27 (dk_at dksX3_arePartners_0 15 rfl rfl)
theorem dX3_arePartners_16 : decode cX3_arePartners 16 = .ok (.iload_n 2, 1) := dk_28 (dk_at dksX3_arePartners_0 16 rfl rfl)
theorem dX3_arePartners_17 : decode cX3_arePartners 17 = .ok (.iload_n 3, 1) := dk_29 (dk_at dksX3_arePartners_0 17 rfl rfl)
theorem dX3_arePartners_18 : decode cX3_arePartners 18 = .ok (.invokevirtual 161, 3) := dk_182 0 161 (dk_at dksX3_arePartners_0 18 rfl rfl)
theorem dX3_arePartners_21 : decode cX3_arePartners 21 = .ok (.ifCond .eq 17, 3) := dk_153 0 17 (dk_at dksX3_arePartners_0 21 rfl rfl)
theorem dX3_arePartners_24 : decode cX3_arePartners 24 = .ok (.aload_n 0, 1) := dk_42 (dk_at dksX3_arePartners_1 0 rfl rfl)
theorem dX3_arePartners_25 : decode cX3_arePartners 25 = .ok (.iload_n 1, 1) := dk_27 (dk_at dksX3_arePartners_1 1 rfl rfl)
theorem dX3_arePartners_26 : decode cX3_arePartners 26 = .ok (.iload_n 3, 1) := dk_29 (dk_at dksX3_arePartners_1 2 rfl rfl)
theorem dX3_arePartners_27 : decode cX3_arePartners 27 = .ok (.iload_n 2, 1) := dk_28 (dk_at dksX3_arePartners_1 3 rfl rfl)
theorem dX3_arePartners_28 : decode cX3_arePartners 28 = .ok (.invokevirtual 161, 3) := dk_182 0 161 (dk_at dksX3_arePartners_1 4 rfl rfl)
theorem dX3_arePartners_31 : decode cX3_arePartners 31 = .ok (.ifCond .eq 7, 3) := dk_153 0 7 (dk_at dksX3_arePartners_1 7 rfl rfl)
theorem dX3_arePartners_34 : decode cX3_arePartners 34 = .ok (.iconst 1, 1) := dk_4 (dk_at dksX3_arePartners_1 10 rfl rfl)
theorem dX3_arePartners_35 : decode cX3_arePartners 35 = .ok (.goto 4, 3) := dk_167 0 4 (dk_at dksX3_arePartners_1 11 rfl rfl)
theorem dX3_arePartners_38 : decode cX3_arePartners 38 = .ok (.iconst 0, 1) := dk_3 (dk_at dksX3_arePartners_1 14 rfl rfl)
theorem dX3_arePartners_39 : decode cX3_arePartners 39 = .ok (.ireturn, 1) := dk_172 (dk_at dksX3_arePartners_1 15 rfl rfl)
abbrev cX3_isTold : ByteArray := prog_22_method_34_code
def yX3_isTold : MethodName := ⟨RX3, "isTold", "(III)Z"⟩
def dkwX3_isTold_1 : List UInt8 := [160, 0, 7, 4, 167, 0, 4, 3, 172]
abbrev dktX3_isTold_1 : List UInt8 := dkwX3_isTold_1 ++ []
def dkwX3_isTold_0 : List UInt8 := [28, 42, 180, 0, 60, 27, 46, 162, 0, 22, 42, 180, 0, 63, 16, 24, 27, 104, 28, 96, 46, 29]
abbrev dktX3_isTold_0 : List UInt8 := dkwX3_isTold_0 ++ dktX3_isTold_1
theorem dksX3_isTold_0 : cX3_isTold.data.toList.drop 0 = dktX3_isTold_0 := by decide +kernel
theorem dksX3_isTold_1 : cX3_isTold.data.toList.drop 22 = dktX3_isTold_1 := dk_seg dksX3_isTold_0 22 rfl rfl
theorem dX3_isTold_0 : decode cX3_isTold 0 = .ok (.iload_n 2, 1) := dk_28 (dk_at dksX3_isTold_0 0 rfl rfl)
theorem dX3_isTold_1 : decode cX3_isTold 1 = .ok (.aload_n 0, 1) := dk_42 (dk_at dksX3_isTold_0 1 rfl rfl)
theorem dX3_isTold_2 : decode cX3_isTold 2 = .ok (.getfield 60, 3) := dk_180 0 60 (dk_at dksX3_isTold_0 2 rfl rfl)
theorem dX3_isTold_5 : decode cX3_isTold 5 = .ok (.iload_n 1, 1) := dk_27 (dk_at dksX3_isTold_0 5 rfl rfl)
theorem dX3_isTold_6 : decode cX3_isTold 6 = .ok (.iaload, 1) := dk_46 (dk_at dksX3_isTold_0 6 rfl rfl)
theorem dX3_isTold_7 : decode cX3_isTold 7 = .ok (.if_icmp .ge 22, 3) := dk_162 0 22 (dk_at dksX3_isTold_0 7 rfl rfl)
theorem dX3_isTold_10 : decode cX3_isTold 10 = .ok (.aload_n 0, 1) := dk_42 (dk_at dksX3_isTold_0 10 rfl rfl)
theorem dX3_isTold_11 : decode cX3_isTold 11 = .ok (.getfield 63, 3) := dk_180 0 63 (dk_at dksX3_isTold_0 11 rfl rfl)
theorem dX3_isTold_14 : decode cX3_isTold 14 = .ok (.bipush 24, 2) := dk_16 24 (dk_at dksX3_isTold_0 14 rfl rfl)
theorem dX3_isTold_16 : decode cX3_isTold 16 = .ok (.iload_n 1, 1) := dk_27 (dk_at dksX3_isTold_0 16 rfl rfl)
theorem dX3_isTold_17 : decode cX3_isTold 17 = .ok (.imul, 1) := dk_104 (dk_at dksX3_isTold_0 17 rfl rfl)
theorem dX3_isTold_18 : decode cX3_isTold 18 = .ok (.iload_n 2, 1) := dk_28 (dk_at dksX3_isTold_0 18 rfl rfl)
theorem dX3_isTold_19 : decode cX3_isTold 19 = .ok (.iadd, 1) := dk_96 (dk_at dksX3_isTold_0 19 rfl rfl)
theorem dX3_isTold_20 : decode cX3_isTold 20 = .ok (.iaload, 1) := dk_46 (dk_at dksX3_isTold_0 20 rfl rfl)
theorem dX3_isTold_21 : decode cX3_isTold 21 = .ok (.iload_n 3, 1) := dk_29 (dk_at dksX3_isTold_0 21 rfl rfl)
theorem dX3_isTold_22 : decode cX3_isTold 22 = .ok (.if_icmp .ne 7, 3) := dk_160 0 7 (dk_at dksX3_isTold_1 0 rfl rfl)
theorem dX3_isTold_25 : decode cX3_isTold 25 = .ok (.iconst 1, 1) := dk_4 (dk_at dksX3_isTold_1 3 rfl rfl)
theorem dX3_isTold_26 : decode cX3_isTold 26 = .ok (.goto 4, 3) := dk_167 0 4 (dk_at dksX3_isTold_1 4 rfl rfl)
theorem dX3_isTold_29 : decode cX3_isTold 29 = .ok (.iconst 0, 1) := dk_3 (dk_at dksX3_isTold_1 7 rfl rfl)
theorem dX3_isTold_30 : decode cX3_isTold 30 = .ok (.ireturn, 1) := dk_172 (dk_at dksX3_isTold_1 8 rfl rfl)
abbrev cX3_loss : ByteArray := prog_22_method_38_code
def yX3_loss : MethodName := ⟨RX3, "loss", "(I)I"⟩
def dkwX3_loss_0 : List UInt8 := [27, 3, 16, 100, 184, 0, 85, 153, 0, 12, 42, 6, 27, 182, 0, 116, 167, 0, 5, 18, 93, 172]
abbrev dktX3_loss_0 : List UInt8 := dkwX3_loss_0 ++ []
theorem dksX3_loss_0 : cX3_loss.data.toList.drop 0 = dktX3_loss_0 := by decide +kernel
theorem dX3_loss_0 : decode cX3_loss 0 = .ok (.iload_n 1, 1) := dk_27 (dk_at dksX3_loss_0 0 rfl rfl)
theorem dX3_loss_1 : decode cX3_loss 1 = .ok (.iconst 0, 1) := dk_3 (dk_at dksX3_loss_0 1 rfl rfl)
theorem dX3_loss_2 : decode cX3_loss 2 = .ok (.bipush 100, 2) := dk_16 100 (dk_at dksX3_loss_0 2 rfl rfl)
theorem dX3_loss_4 : decode cX3_loss 4 = .ok (.invokestatic 85, 3) := dk_184 0 85 (dk_at dksX3_loss_0 4 rfl rfl)
theorem dX3_loss_7 : decode cX3_loss 7 = .ok (.ifCond .eq 12, 3) := dk_153 0 12 (dk_at dksX3_loss_0 7 rfl rfl)
theorem dX3_loss_10 : decode cX3_loss 10 = .ok (.aload_n 0, 1) := dk_42 (dk_at dksX3_loss_0 10 rfl rfl)
theorem dX3_loss_11 : decode cX3_loss 11 = .ok (.iconst 3, 1) := dk_6 (dk_at dksX3_loss_0 11 rfl rfl)
theorem dX3_loss_12 : decode cX3_loss 12 = .ok (.iload_n 1, 1) := dk_27 (dk_at dksX3_loss_0 12 rfl rfl)
theorem dX3_loss_13 : decode cX3_loss 13 = .ok (.invokevirtual 116, 3) := dk_182 0 116 (dk_at dksX3_loss_0 13 rfl rfl)
theorem dX3_loss_16 : decode cX3_loss 16 = .ok (.goto 5, 3) := dk_167 0 5 (dk_at dksX3_loss_0 16 rfl rfl)
theorem dX3_loss_19 : decode cX3_loss 19 = .ok (.ldc 93, 2) := dk_18 93 (dk_at dksX3_loss_0 19 rfl rfl)
theorem dX3_loss_21 : decode cX3_loss 21 = .ok (.ireturn, 1) := dk_172 (dk_at dksX3_loss_0 21 rfl rfl)
abbrev cX3_days : ByteArray := prog_22_method_42_code
def yX3_days : MethodName := ⟨RX3, "days", "(I)I"⟩
def dkwX3_days_1 : List UInt8 := [184, 0, 128, 2, 182, 0, 180, 167, 0, 5, 18, 93, 172]
abbrev dktX3_days_1 : List UInt8 := dkwX3_days_1 ++ []
def dkwX3_days_0 : List UInt8 := [27, 4, 16, 100, 184, 0, 85, 153, 0, 26, 42, 17, 39, 15, 42, 180, 0, 9, 5, 46, 100, 3, 27]
abbrev dktX3_days_0 : List UInt8 := dkwX3_days_0 ++ dktX3_days_1
theorem dksX3_days_0 : cX3_days.data.toList.drop 0 = dktX3_days_0 := by decide +kernel
theorem dksX3_days_1 : cX3_days.data.toList.drop 23 = dktX3_days_1 := dk_seg dksX3_days_0 23 rfl rfl
theorem dX3_days_0 : decode cX3_days 0 = .ok (.iload_n 1, 1) := dk_27 (dk_at dksX3_days_0 0 rfl rfl)
theorem dX3_days_1 : decode cX3_days 1 = .ok (.iconst 1, 1) := dk_4 (dk_at dksX3_days_0 1 rfl rfl)
theorem dX3_days_2 : decode cX3_days 2 = .ok (.bipush 100, 2) := dk_16 100 (dk_at dksX3_days_0 2 rfl rfl)
theorem dX3_days_4 : decode cX3_days 4 = .ok (.invokestatic 85, 3) := dk_184 0 85 (dk_at dksX3_days_0 4 rfl rfl)
theorem dX3_days_7 : decode cX3_days 7 = .ok (.ifCond .eq 26, 3) := dk_153 0 26 (dk_at dksX3_days_0 7 rfl rfl)
theorem dX3_days_10 : decode cX3_days 10 = .ok (.aload_n 0, 1) := dk_42 (dk_at dksX3_days_0 10 rfl rfl)
theorem dX3_days_11 : decode cX3_days 11 = .ok (.sipush 9999, 3) := dk_17 39 15 (dk_at dksX3_days_0 11 rfl rfl)
theorem dX3_days_14 : decode cX3_days 14 = .ok (.aload_n 0, 1) := dk_42 (dk_at dksX3_days_0 14 rfl rfl)
theorem dX3_days_15 : decode cX3_days 15 = .ok (.getfield 9, 3) := dk_180 0 9 (dk_at dksX3_days_0 15 rfl rfl)
theorem dX3_days_18 : decode cX3_days 18 = .ok (.iconst 2, 1) := dk_5 (dk_at dksX3_days_0 18 rfl rfl)
theorem dX3_days_19 : decode cX3_days 19 = .ok (.iaload, 1) := dk_46 (dk_at dksX3_days_0 19 rfl rfl)
theorem dX3_days_20 : decode cX3_days 20 = .ok (.isub, 1) := dk_100 (dk_at dksX3_days_0 20 rfl rfl)
theorem dX3_days_21 : decode cX3_days 21 = .ok (.iconst 0, 1) := dk_3 (dk_at dksX3_days_0 21 rfl rfl)
theorem dX3_days_22 : decode cX3_days 22 = .ok (.iload_n 1, 1) := dk_27 (dk_at dksX3_days_0 22 rfl rfl)
theorem dX3_days_23 : decode cX3_days 23 = .ok (.invokestatic 128, 3) := dk_184 0 128 (dk_at dksX3_days_1 0 rfl rfl)
theorem dX3_days_26 : decode cX3_days 26 = .ok (.iconst (-1), 1) := dk_2 (dk_at dksX3_days_1 3 rfl rfl)
theorem dX3_days_27 : decode cX3_days 27 = .ok (.invokevirtual 180, 3) := dk_182 0 180 (dk_at dksX3_days_1 4 rfl rfl)
theorem dX3_days_30 : decode cX3_days 30 = .ok (.goto 5, 3) := dk_167 0 5 (dk_at dksX3_days_1 7 rfl rfl)
theorem dX3_days_33 : decode cX3_days 33 = .ok (.ldc 93, 2) := dk_18 93 (dk_at dksX3_days_1 10 rfl rfl)
theorem dX3_days_35 : decode cX3_days 35 = .ok (.ireturn, 1) := dk_172 (dk_at dksX3_days_1 12 rfl rfl)
abbrev cX3_goesOn : ByteArray := prog_22_method_41_code
def yX3_goesOn : MethodName := ⟨RX3, "goesOn", "(II)I"⟩
def dkwX3_goesOn_1 : List UInt8 := [167, 255, 239, 29, 172]
abbrev dktX3_goesOn_1 : List UInt8 := dkwX3_goesOn_1 ++ []
def dkwX3_goesOn_0 : List UInt8 := [3, 62, 3, 54, 4, 21, 4, 27, 162, 0, 17, 29, 42, 28, 182, 0, 177, 96, 62, 132, 4, 1]
abbrev dktX3_goesOn_0 : List UInt8 := dkwX3_goesOn_0 ++ dktX3_goesOn_1
theorem dksX3_goesOn_0 : cX3_goesOn.data.toList.drop 0 = dktX3_goesOn_0 := by decide +kernel
theorem dksX3_goesOn_1 : cX3_goesOn.data.toList.drop 22 = dktX3_goesOn_1 := dk_seg dksX3_goesOn_0 22 rfl rfl
theorem dX3_goesOn_0 : decode cX3_goesOn 0 = .ok (.iconst 0, 1) := dk_3 (dk_at dksX3_goesOn_0 0 rfl rfl)
theorem dX3_goesOn_1 : decode cX3_goesOn 1 = .ok (.istore_n 3, 1) := dk_62 (dk_at dksX3_goesOn_0 1 rfl rfl)
theorem dX3_goesOn_2 : decode cX3_goesOn 2 = .ok (.iconst 0, 1) := dk_3 (dk_at dksX3_goesOn_0 2 rfl rfl)
theorem dX3_goesOn_3 : decode cX3_goesOn 3 = .ok (.istore 4, 2) := dk_54 4 (dk_at dksX3_goesOn_0 3 rfl rfl)
theorem dX3_goesOn_5 : decode cX3_goesOn 5 = .ok (.iload 4, 2) := dk_21 4 (dk_at dksX3_goesOn_0 5 rfl rfl)
theorem dX3_goesOn_7 : decode cX3_goesOn 7 = .ok (.iload_n 1, 1) := dk_27 (dk_at dksX3_goesOn_0 7 rfl rfl)
theorem dX3_goesOn_8 : decode cX3_goesOn 8 = .ok (.if_icmp .ge 17, 3) := dk_162 0 17 (dk_at dksX3_goesOn_0 8 rfl rfl)
theorem dX3_goesOn_11 : decode cX3_goesOn 11 = .ok (.iload_n 3, 1) := dk_29 (dk_at dksX3_goesOn_0 11 rfl rfl)
theorem dX3_goesOn_12 : decode cX3_goesOn 12 = .ok (.aload_n 0, 1) := dk_42 (dk_at dksX3_goesOn_0 12 rfl rfl)
theorem dX3_goesOn_13 : decode cX3_goesOn 13 = .ok (.iload_n 2, 1) := dk_28 (dk_at dksX3_goesOn_0 13 rfl rfl)
theorem dX3_goesOn_14 : decode cX3_goesOn 14 = .ok (.invokevirtual 177, 3) := dk_182 0 177 (dk_at dksX3_goesOn_0 14 rfl rfl)
theorem dX3_goesOn_17 : decode cX3_goesOn 17 = .ok (.iadd, 1) := dk_96 (dk_at dksX3_goesOn_0 17 rfl rfl)
theorem dX3_goesOn_18 : decode cX3_goesOn 18 = .ok (.istore_n 3, 1) := dk_62 (dk_at dksX3_goesOn_0 18 rfl rfl)
theorem dX3_goesOn_19 : decode cX3_goesOn 19 = .ok (.iinc 4 1, 3) := dk_132 4 1 (dk_at dksX3_goesOn_0 19 rfl rfl)
theorem dX3_goesOn_22 : decode cX3_goesOn 22 = .ok (.goto (-17), 3) := dk_167 255 239 (dk_at dksX3_goesOn_1 0 rfl rfl)
theorem dX3_goesOn_25 : decode cX3_goesOn 25 = .ok (.iload_n 3, 1) := dk_29 (dk_at dksX3_goesOn_1 3 rfl rfl)
theorem dX3_goesOn_26 : decode cX3_goesOn 26 = .ok (.ireturn, 1) := dk_172 (dk_at dksX3_goesOn_1 4 rfl rfl)
abbrev cX3_day : ByteArray := prog_22_method_40_code
def yX3_day : MethodName := ⟨RX3, "day", "(I)I"⟩
def dkwX3_day_5 : List UInt8 := [167, 255, 142, 42, 180, 0, 9, 5, 92, 46, 4, 96, 79, 28, 172]
abbrev dktX3_day_5 : List UInt8 := dkwX3_day_5 ++ []
def dkwX3_day_4 : List UInt8 := [4, 167, 0, 4, 3, 182, 0, 89, 28, 21, 5, 153, 0, 7, 4, 167, 0, 4, 3, 96, 61, 132, 3, 1]
abbrev dktX3_day_4 : List UInt8 := dkwX3_day_4 ++ dktX3_day_5
def dkwX3_day_3 : List UInt8 := [42, 180, 0, 9, 6, 46, 162, 0, 7, 4, 167, 0, 4, 3, 54, 5, 42, 29, 8, 21, 5, 153, 0, 7]
abbrev dktX3_day_3 : List UInt8 := dkwX3_day_3 ++ dktX3_day_4
def dkwX3_day_2 : List UInt8 := [42, 29, 21, 4, 182, 0, 174, 96, 3, 16, 99, 184, 0, 128, 182, 0, 89, 42, 182, 0, 142, 16, 100, 112]
abbrev dktX3_day_2 : List UInt8 := dkwX3_day_2 ++ dktX3_day_3
def dkwX3_day_1 : List UInt8 := [182, 0, 99, 154, 0, 90, 42, 182, 0, 142, 16, 10, 112, 54, 4, 42, 29, 7, 42, 29, 7, 182, 0, 99]
abbrev dktX3_day_1 : List UInt8 := dkwX3_day_1 ++ dktX3_day_2
def dkwX3_day_0 : List UInt8 := [3, 61, 3, 62, 29, 42, 180, 0, 9, 4, 46, 162, 0, 110, 29, 27, 159, 0, 99, 42, 29, 8]
abbrev dktX3_day_0 : List UInt8 := dkwX3_day_0 ++ dktX3_day_1
theorem dksX3_day_0 : cX3_day.data.toList.drop 0 = dktX3_day_0 := by decide +kernel
theorem dksX3_day_1 : cX3_day.data.toList.drop 22 = dktX3_day_1 := dk_seg dksX3_day_0 22 rfl rfl
theorem dksX3_day_2 : cX3_day.data.toList.drop 46 = dktX3_day_2 := dk_seg dksX3_day_1 24 rfl rfl
theorem dksX3_day_3 : cX3_day.data.toList.drop 70 = dktX3_day_3 := dk_seg dksX3_day_2 24 rfl rfl
theorem dksX3_day_4 : cX3_day.data.toList.drop 94 = dktX3_day_4 := dk_seg dksX3_day_3 24 rfl rfl
theorem dksX3_day_5 : cX3_day.data.toList.drop 118 = dktX3_day_5 := dk_seg dksX3_day_4 24 rfl rfl
theorem dX3_day_0 : decode cX3_day 0 = .ok (.iconst 0, 1) := dk_3 (dk_at dksX3_day_0 0 rfl rfl)
theorem dX3_day_1 : decode cX3_day 1 = .ok (.istore_n 2, 1) := dk_61 (dk_at dksX3_day_0 1 rfl rfl)
theorem dX3_day_2 : decode cX3_day 2 = .ok (.iconst 0, 1) := dk_3 (dk_at dksX3_day_0 2 rfl rfl)
theorem dX3_day_3 : decode cX3_day 3 = .ok (.istore_n 3, 1) := dk_62 (dk_at dksX3_day_0 3 rfl rfl)
theorem dX3_day_4 : decode cX3_day 4 = .ok (.iload_n 3, 1) := dk_29 (dk_at dksX3_day_0 4 rfl rfl)
theorem dX3_day_5 : decode cX3_day 5 = .ok (.aload_n 0, 1) := dk_42 (dk_at dksX3_day_0 5 rfl rfl)
theorem dX3_day_6 : decode cX3_day 6 = .ok (.getfield 9, 3) := dk_180 0 9 (dk_at dksX3_day_0 6 rfl rfl)
theorem dX3_day_9 : decode cX3_day 9 = .ok (.iconst 1, 1) := dk_4 (dk_at dksX3_day_0 9 rfl rfl)
theorem dX3_day_10 : decode cX3_day 10 = .ok (.iaload, 1) := dk_46 (dk_at dksX3_day_0 10 rfl rfl)
theorem dX3_day_11 : decode cX3_day 11 = .ok (.if_icmp .ge 110, 3) := dk_162 0 110 (dk_at dksX3_day_0 11 rfl rfl)
theorem dX3_day_14 : decode cX3_day 14 = .ok (.iload_n 3, 1) := dk_29 (dk_at dksX3_day_0 14 rfl rfl)
theorem dX3_day_15 : decode cX3_day 15 = .ok (.iload_n 1, 1) := dk_27 (dk_at dksX3_day_0 15 rfl rfl)
theorem dX3_day_16 : decode cX3_day 16 = .ok (.if_icmp .eq 99, 3) := dk_159 0 99 (dk_at dksX3_day_0 16 rfl rfl)
theorem dX3_day_19 : decode cX3_day 19 = .ok (.aload_n 0, 1) := dk_42 (dk_at dksX3_day_0 19 rfl rfl)
theorem dX3_day_20 : decode cX3_day 20 = .ok (.iload_n 3, 1) := dk_29 (dk_at dksX3_day_0 20 rfl rfl)
theorem dX3_day_21 : decode cX3_day 21 = .ok (.iconst 5, 1) := dk_8 (dk_at dksX3_day_0 21 rfl rfl)
theorem dX3_day_22 : decode cX3_day 22 = .ok (.invokevirtual 99, 3) := dk_182 0 99 (dk_at dksX3_day_1 0 rfl rfl)
theorem dX3_day_25 : decode cX3_day 25 = .ok (.ifCond .ne 90, 3) := dk_154 0 90 (dk_at dksX3_day_1 3 rfl rfl)
theorem dX3_day_28 : decode cX3_day 28 = .ok (.aload_n 0, 1) := dk_42 (dk_at dksX3_day_1 6 rfl rfl)
theorem dX3_day_29 : decode cX3_day 29 = .ok (.invokevirtual 142, 3) := dk_182 0 142 (dk_at dksX3_day_1 7 rfl rfl)
theorem dX3_day_32 : decode cX3_day 32 = .ok (.bipush 10, 2) := dk_16 10 (dk_at dksX3_day_1 10 rfl rfl)
theorem dX3_day_34 : decode cX3_day 34 = .ok (.irem, 1) := dk_112 (dk_at dksX3_day_1 12 rfl rfl)
theorem dX3_day_35 : decode cX3_day 35 = .ok (.istore 4, 2) := dk_54 4 (dk_at dksX3_day_1 13 rfl rfl)
theorem dX3_day_37 : decode cX3_day 37 = .ok (.aload_n 0, 1) := dk_42 (dk_at dksX3_day_1 15 rfl rfl)
theorem dX3_day_38 : decode cX3_day 38 = .ok (.iload_n 3, 1) := dk_29 (dk_at dksX3_day_1 16 rfl rfl)
theorem dX3_day_39 : decode cX3_day 39 = .ok (.iconst 4, 1) := dk_7 (dk_at dksX3_day_1 17 rfl rfl)
theorem dX3_day_40 : decode cX3_day 40 = .ok (.aload_n 0, 1) := dk_42 (dk_at dksX3_day_1 18 rfl rfl)
theorem dX3_day_41 : decode cX3_day 41 = .ok (.iload_n 3, 1) := dk_29 (dk_at dksX3_day_1 19 rfl rfl)
theorem dX3_day_42 : decode cX3_day 42 = .ok (.iconst 4, 1) := dk_7 (dk_at dksX3_day_1 20 rfl rfl)
theorem dX3_day_43 : decode cX3_day 43 = .ok (.invokevirtual 99, 3) := dk_182 0 99 (dk_at dksX3_day_1 21 rfl rfl)
theorem dX3_day_46 : decode cX3_day 46 = .ok (.aload_n 0, 1) := dk_42 (dk_at dksX3_day_2 0 rfl rfl)
theorem dX3_day_47 : decode cX3_day 47 = .ok (.iload_n 3, 1) := dk_29 (dk_at dksX3_day_2 1 rfl rfl)
theorem dX3_day_48 : decode cX3_day 48 = .ok (.iload 4, 2) := dk_21 4 (dk_at dksX3_day_2 2 rfl rfl)
theorem dX3_day_50 : decode cX3_day 50 = .ok (.invokevirtual 174, 3) := dk_182 0 174 (dk_at dksX3_day_2 4 rfl rfl)
theorem dX3_day_53 : decode cX3_day 53 = .ok (.iadd, 1) := dk_96 (dk_at dksX3_day_2 7 rfl rfl)
theorem dX3_day_54 : decode cX3_day 54 = .ok (.iconst 0, 1) := dk_3 (dk_at dksX3_day_2 8 rfl rfl)
theorem dX3_day_55 : decode cX3_day 55 = .ok (.bipush 99, 2) := dk_16 99 (dk_at dksX3_day_2 9 rfl rfl)
theorem dX3_day_57 : decode cX3_day 57 = .ok (.invokestatic 128, 3) := dk_184 0 128 (dk_at dksX3_day_2 11 rfl rfl)
theorem dX3_day_60 : decode cX3_day 60 = .ok (.invokevirtual 89, 3) := dk_182 0 89 (dk_at dksX3_day_2 14 rfl rfl)
theorem dX3_day_63 : decode cX3_day 63 = .ok (.aload_n 0, 1) := dk_42 (dk_at dksX3_day_2 17 rfl rfl)
theorem dX3_day_64 : decode cX3_day 64 = .ok (.invokevirtual 142, 3) := dk_182 0 142 (dk_at dksX3_day_2 18 rfl rfl)
theorem dX3_day_67 : decode cX3_day 67 = .ok (.bipush 100, 2) := dk_16 100 (dk_at dksX3_day_2 21 rfl rfl)
theorem dX3_day_69 : decode cX3_day 69 = .ok (.irem, 1) := dk_112 (dk_at dksX3_day_2 23 rfl rfl)
theorem dX3_day_70 : decode cX3_day 70 = .ok (.aload_n 0, 1) := dk_42 (dk_at dksX3_day_3 0 rfl rfl)
theorem dX3_day_71 : decode cX3_day 71 = .ok (.getfield 9, 3) := dk_180 0 9 (dk_at dksX3_day_3 1 rfl rfl)
theorem dX3_day_74 : decode cX3_day 74 = .ok (.iconst 3, 1) := dk_6 (dk_at dksX3_day_3 4 rfl rfl)
theorem dX3_day_75 : decode cX3_day 75 = .ok (.iaload, 1) := dk_46 (dk_at dksX3_day_3 5 rfl rfl)
theorem dX3_day_76 : decode cX3_day 76 = .ok (.if_icmp .ge 7, 3) := dk_162 0 7 (dk_at dksX3_day_3 6 rfl rfl)
theorem dX3_day_79 : decode cX3_day 79 = .ok (.iconst 1, 1) := dk_4 (dk_at dksX3_day_3 9 rfl rfl)
theorem dX3_day_80 : decode cX3_day 80 = .ok (.goto 4, 3) := dk_167 0 4 (dk_at dksX3_day_3 10 rfl rfl)
theorem dX3_day_83 : decode cX3_day 83 = .ok (.iconst 0, 1) := dk_3 (dk_at dksX3_day_3 13 rfl rfl)
theorem dX3_day_84 : decode cX3_day 84 = .ok (.istore 5, 2) := dk_54 5 (dk_at dksX3_day_3 14 rfl rfl)
theorem dX3_day_86 : decode cX3_day 86 = .ok (.aload_n 0, 1) := dk_42 (dk_at dksX3_day_3 16 rfl rfl)
theorem dX3_day_87 : decode cX3_day 87 = .ok (.iload_n 3, 1) := dk_29 (dk_at dksX3_day_3 17 rfl rfl)
theorem dX3_day_88 : decode cX3_day 88 = .ok (.iconst 5, 1) := dk_8 (dk_at dksX3_day_3 18 rfl rfl)
theorem dX3_day_89 : decode cX3_day 89 = .ok (.iload 5, 2) := dk_21 5 (dk_at dksX3_day_3 19 rfl rfl)
theorem dX3_day_91 : decode cX3_day 91 = .ok (.ifCond .eq 7, 3) := dk_153 0 7 (dk_at dksX3_day_3 21 rfl rfl)
theorem dX3_day_94 : decode cX3_day 94 = .ok (.iconst 1, 1) := dk_4 (dk_at dksX3_day_4 0 rfl rfl)
theorem dX3_day_95 : decode cX3_day 95 = .ok (.goto 4, 3) := dk_167 0 4 (dk_at dksX3_day_4 1 rfl rfl)
theorem dX3_day_98 : decode cX3_day 98 = .ok (.iconst 0, 1) := dk_3 (dk_at dksX3_day_4 4 rfl rfl)
theorem dX3_day_99 : decode cX3_day 99 = .ok (.invokevirtual 89, 3) := dk_182 0 89 (dk_at dksX3_day_4 5 rfl rfl)
theorem dX3_day_102 : decode cX3_day 102 = .ok (.iload_n 2, 1) := dk_28 (dk_at dksX3_day_4 8 rfl rfl)
theorem dX3_day_103 : decode cX3_day 103 = .ok (.iload 5, 2) := dk_21 5 (dk_at dksX3_day_4 9 rfl rfl)
theorem dX3_day_105 : decode cX3_day 105 = .ok (.ifCond .eq 7, 3) := dk_153 0 7 (dk_at dksX3_day_4 11 rfl rfl)
theorem dX3_day_108 : decode cX3_day 108 = .ok (.iconst 1, 1) := dk_4 (dk_at dksX3_day_4 14 rfl rfl)
theorem dX3_day_109 : decode cX3_day 109 = .ok (.goto 4, 3) := dk_167 0 4 (dk_at dksX3_day_4 15 rfl rfl)
theorem dX3_day_112 : decode cX3_day 112 = .ok (.iconst 0, 1) := dk_3 (dk_at dksX3_day_4 18 rfl rfl)
theorem dX3_day_113 : decode cX3_day 113 = .ok (.iadd, 1) := dk_96 (dk_at dksX3_day_4 19 rfl rfl)
theorem dX3_day_114 : decode cX3_day 114 = .ok (.istore_n 2, 1) := dk_61 (dk_at dksX3_day_4 20 rfl rfl)
theorem dX3_day_115 : decode cX3_day 115 = .ok (.iinc 3 1, 3) := dk_132 3 1 (dk_at dksX3_day_4 21 rfl rfl)
theorem dX3_day_118 : decode cX3_day 118 = .ok (.goto (-114), 3) := dk_167 255 142 (dk_at dksX3_day_5 0 rfl rfl)
theorem dX3_day_121 : decode cX3_day 121 = .ok (.aload_n 0, 1) := dk_42 (dk_at dksX3_day_5 3 rfl rfl)
theorem dX3_day_122 : decode cX3_day 122 = .ok (.getfield 9, 3) := dk_180 0 9 (dk_at dksX3_day_5 4 rfl rfl)
theorem dX3_day_125 : decode cX3_day 125 = .ok (.iconst 2, 1) := dk_5 (dk_at dksX3_day_5 7 rfl rfl)
theorem dX3_day_126 : decode cX3_day 126 = .ok (.dup2, 1) := dk_92 (dk_at dksX3_day_5 8 rfl rfl)
theorem dX3_day_127 : decode cX3_day 127 = .ok (.iaload, 1) := dk_46 (dk_at dksX3_day_5 9 rfl rfl)
theorem dX3_day_128 : decode cX3_day 128 = .ok (.iconst 1, 1) := dk_4 (dk_at dksX3_day_5 10 rfl rfl)
theorem dX3_day_129 : decode cX3_day 129 = .ok (.iadd, 1) := dk_96 (dk_at dksX3_day_5 11 rfl rfl)
theorem dX3_day_130 : decode cX3_day 130 = .ok (.iastore, 1) := dk_79 (dk_at dksX3_day_5 12 rfl rfl)
theorem dX3_day_131 : decode cX3_day 131 = .ok (.iload_n 2, 1) := dk_28 (dk_at dksX3_day_5 13 rfl rfl)
theorem dX3_day_132 : decode cX3_day 132 = .ok (.ireturn, 1) := dk_172 (dk_at dksX3_day_5 14 rfl rfl)
abbrev cX3_wearsBy : ByteArray := prog_22_method_39_code
def yX3_wearsBy : MethodName := ⟨RX3, "wearsBy", "(II)I"⟩
def dkwX3_wearsBy_1 : List UInt8 := [79, 29, 156, 0, 9, 28, 7, 108, 167, 0, 14, 42, 29, 182, 0, 132, 3, 16, 20, 184, 0, 128, 172]
abbrev dktX3_wearsBy_1 : List UInt8 := dkwX3_wearsBy_1 ++ []
def dkwX3_wearsBy_0 : List UInt8 := [42, 4, 182, 0, 125, 62, 42, 180, 0, 54, 3, 28, 79, 42, 180, 0, 54, 4, 42, 27, 6, 182, 0, 99]
abbrev dktX3_wearsBy_0 : List UInt8 := dkwX3_wearsBy_0 ++ dktX3_wearsBy_1
theorem dksX3_wearsBy_0 : cX3_wearsBy.data.toList.drop 0 = dktX3_wearsBy_0 := by decide +kernel
theorem dksX3_wearsBy_1 : cX3_wearsBy.data.toList.drop 24 = dktX3_wearsBy_1 := dk_seg dksX3_wearsBy_0 24 rfl rfl
theorem dX3_wearsBy_0 : decode cX3_wearsBy 0 = .ok (.aload_n 0, 1) := dk_42 (dk_at dksX3_wearsBy_0 0 rfl rfl)
theorem dX3_wearsBy_1 : decode cX3_wearsBy 1 = .ok (.iconst 1, 1) := dk_4 (dk_at dksX3_wearsBy_0 1 rfl rfl)
theorem dX3_wearsBy_2 : decode cX3_wearsBy 2 = .ok (.invokevirtual 125, 3) := dk_182 0 125 (dk_at dksX3_wearsBy_0 2 rfl rfl)
theorem dX3_wearsBy_5 : decode cX3_wearsBy 5 = .ok (.istore_n 3, 1) := dk_62 (dk_at dksX3_wearsBy_0 5 rfl rfl)
theorem dX3_wearsBy_6 : decode cX3_wearsBy 6 = .ok (.aload_n 0, 1) := dk_42 (dk_at dksX3_wearsBy_0 6 rfl rfl)
theorem dX3_wearsBy_7 : decode cX3_wearsBy 7 = .ok (.getfield 54, 3) := dk_180 0 54 (dk_at dksX3_wearsBy_0 7 rfl rfl)
theorem dX3_wearsBy_10 : decode cX3_wearsBy 10 = .ok (.iconst 0, 1) := dk_3 (dk_at dksX3_wearsBy_0 10 rfl rfl)
theorem dX3_wearsBy_11 : decode cX3_wearsBy 11 = .ok (.iload_n 2, 1) := dk_28 (dk_at dksX3_wearsBy_0 11 rfl rfl)
theorem dX3_wearsBy_12 : decode cX3_wearsBy 12 = .ok (.iastore, 1) := dk_79 (dk_at dksX3_wearsBy_0 12 rfl rfl)
theorem dX3_wearsBy_13 : decode cX3_wearsBy 13 = .ok (.aload_n 0, 1) := dk_42 (dk_at dksX3_wearsBy_0 13 rfl rfl)
theorem dX3_wearsBy_14 : decode cX3_wearsBy 14 = .ok (.getfield 54, 3) := dk_180 0 54 (dk_at dksX3_wearsBy_0 14 rfl rfl)
theorem dX3_wearsBy_17 : decode cX3_wearsBy 17 = .ok (.iconst 1, 1) := dk_4 (dk_at dksX3_wearsBy_0 17 rfl rfl)
theorem dX3_wearsBy_18 : decode cX3_wearsBy 18 = .ok (.aload_n 0, 1) := dk_42 (dk_at dksX3_wearsBy_0 18 rfl rfl)
theorem dX3_wearsBy_19 : decode cX3_wearsBy 19 = .ok (.iload_n 1, 1) := dk_27 (dk_at dksX3_wearsBy_0 19 rfl rfl)
theorem dX3_wearsBy_20 : decode cX3_wearsBy 20 = .ok (.iconst 3, 1) := dk_6 (dk_at dksX3_wearsBy_0 20 rfl rfl)
theorem dX3_wearsBy_21 : decode cX3_wearsBy 21 = .ok (.invokevirtual 99, 3) := dk_182 0 99 (dk_at dksX3_wearsBy_0 21 rfl rfl)
theorem dX3_wearsBy_24 : decode cX3_wearsBy 24 = .ok (.iastore, 1) := dk_79 (dk_at dksX3_wearsBy_1 0 rfl rfl)
theorem dX3_wearsBy_25 : decode cX3_wearsBy 25 = .ok (.iload_n 3, 1) := dk_29 (dk_at dksX3_wearsBy_1 1 rfl rfl)
theorem dX3_wearsBy_26 : decode cX3_wearsBy 26 = .ok (.ifCond .ge 9, 3) := dk_156 0 9 (dk_at dksX3_wearsBy_1 2 rfl rfl)
theorem dX3_wearsBy_29 : decode cX3_wearsBy 29 = .ok (.iload_n 2, 1) := dk_28 (dk_at dksX3_wearsBy_1 5 rfl rfl)
theorem dX3_wearsBy_30 : decode cX3_wearsBy 30 = .ok (.iconst 4, 1) := dk_7 (dk_at dksX3_wearsBy_1 6 rfl rfl)
theorem dX3_wearsBy_31 : decode cX3_wearsBy 31 = .ok (.idiv, 1) := dk_108 (dk_at dksX3_wearsBy_1 7 rfl rfl)
theorem dX3_wearsBy_32 : decode cX3_wearsBy 32 = .ok (.goto 14, 3) := dk_167 0 14 (dk_at dksX3_wearsBy_1 8 rfl rfl)
theorem dX3_wearsBy_35 : decode cX3_wearsBy 35 = .ok (.aload_n 0, 1) := dk_42 (dk_at dksX3_wearsBy_1 11 rfl rfl)
theorem dX3_wearsBy_36 : decode cX3_wearsBy 36 = .ok (.iload_n 3, 1) := dk_29 (dk_at dksX3_wearsBy_1 12 rfl rfl)
theorem dX3_wearsBy_37 : decode cX3_wearsBy 37 = .ok (.invokevirtual 132, 3) := dk_182 0 132 (dk_at dksX3_wearsBy_1 13 rfl rfl)
theorem dX3_wearsBy_40 : decode cX3_wearsBy 40 = .ok (.iconst 0, 1) := dk_3 (dk_at dksX3_wearsBy_1 16 rfl rfl)
theorem dX3_wearsBy_41 : decode cX3_wearsBy 41 = .ok (.bipush 20, 2) := dk_16 20 (dk_at dksX3_wearsBy_1 17 rfl rfl)
theorem dX3_wearsBy_43 : decode cX3_wearsBy 43 = .ok (.invokestatic 128, 3) := dk_184 0 128 (dk_at dksX3_wearsBy_1 19 rfl rfl)
theorem dX3_wearsBy_46 : decode cX3_wearsBy 46 = .ok (.ireturn, 1) := dk_172 (dk_at dksX3_wearsBy_1 22 rfl rfl)
abbrev cX3_behind : ByteArray := prog_22_method_48_code
def yX3_behind : MethodName := ⟨RX3, "behind", "(II)I"⟩
def dkwX3_behind_2 : List UInt8 := [160, 0, 10, 42, 182, 0, 189, 167, 0, 7, 42, 182, 0, 192, 54, 4, 42, 182, 0, 195, 21, 4, 172]
abbrev dktX3_behind_2 : List UInt8 := dkwX3_behind_2 ++ []
def dkwX3_behind_1 : List UInt8 := [182, 0, 183, 42, 27, 2, 182, 0, 180, 62, 28, 154, 0, 10, 42, 182, 0, 186, 167, 0, 19, 28, 4]
abbrev dktX3_behind_1 : List UInt8 := dkwX3_behind_1 ++ dktX3_behind_2
def dkwX3_behind_0 : List UInt8 := [27, 3, 16, 100, 184, 0, 85, 153, 0, 12, 28, 3, 5, 184, 0, 85, 154, 0, 6, 18, 93, 172, 42]
abbrev dktX3_behind_0 : List UInt8 := dkwX3_behind_0 ++ dktX3_behind_1
theorem dksX3_behind_0 : cX3_behind.data.toList.drop 0 = dktX3_behind_0 := by decide +kernel
theorem dksX3_behind_1 : cX3_behind.data.toList.drop 23 = dktX3_behind_1 := dk_seg dksX3_behind_0 23 rfl rfl
theorem dksX3_behind_2 : cX3_behind.data.toList.drop 46 = dktX3_behind_2 := dk_seg dksX3_behind_1 23 rfl rfl
theorem dX3_behind_0 : decode cX3_behind 0 = .ok (.iload_n 1, 1) := dk_27 (dk_at dksX3_behind_0 0 rfl rfl)
theorem dX3_behind_1 : decode cX3_behind 1 = .ok (.iconst 0, 1) := dk_3 (dk_at dksX3_behind_0 1 rfl rfl)
theorem dX3_behind_2 : decode cX3_behind 2 = .ok (.bipush 100, 2) := dk_16 100 (dk_at dksX3_behind_0 2 rfl rfl)
theorem dX3_behind_4 : decode cX3_behind 4 = .ok (.invokestatic 85, 3) := dk_184 0 85 (dk_at dksX3_behind_0 4 rfl rfl)
theorem dX3_behind_7 : decode cX3_behind 7 = .ok (.ifCond .eq 12, 3) := dk_153 0 12 (dk_at dksX3_behind_0 7 rfl rfl)
theorem dX3_behind_10 : decode cX3_behind 10 = .ok (.iload_n 2, 1) := dk_28 (dk_at dksX3_behind_0 10 rfl rfl)
theorem dX3_behind_11 : decode cX3_behind 11 = .ok (.iconst 0, 1) := dk_3 (dk_at dksX3_behind_0 11 rfl rfl)
theorem dX3_behind_12 : decode cX3_behind 12 = .ok (.iconst 2, 1) := dk_5 (dk_at dksX3_behind_0 12 rfl rfl)
theorem dX3_behind_13 : decode cX3_behind 13 = .ok (.invokestatic 85, 3) := dk_184 0 85 (dk_at dksX3_behind_0 13 rfl rfl)
theorem dX3_behind_16 : decode cX3_behind 16 = .ok (.ifCond .ne 6, 3) := dk_154 0 6 (dk_at dksX3_behind_0 16 rfl rfl)
theorem dX3_behind_19 : decode cX3_behind 19 = .ok (.ldc 93, 2) := dk_18 93 (dk_at dksX3_behind_0 19 rfl rfl)
theorem dX3_behind_21 : decode cX3_behind 21 = .ok (.ireturn, 1) := dk_172 (dk_at dksX3_behind_0 21 rfl rfl)
theorem dX3_behind_22 : decode cX3_behind 22 = .ok (.aload_n 0, 1) := dk_42 (dk_at dksX3_behind_0 22 rfl rfl)
theorem dX3_behind_23 : decode cX3_behind 23 = .ok (.invokevirtual 183, 3) := dk_182 0 183 (dk_at dksX3_behind_1 0 rfl rfl)
theorem dX3_behind_26 : decode cX3_behind 26 = .ok (.aload_n 0, 1) := dk_42 (dk_at dksX3_behind_1 3 rfl rfl)
theorem dX3_behind_27 : decode cX3_behind 27 = .ok (.iload_n 1, 1) := dk_27 (dk_at dksX3_behind_1 4 rfl rfl)
theorem dX3_behind_28 : decode cX3_behind 28 = .ok (.iconst (-1), 1) := dk_2 (dk_at dksX3_behind_1 5 rfl rfl)
theorem dX3_behind_29 : decode cX3_behind 29 = .ok (.invokevirtual 180, 3) := dk_182 0 180 (dk_at dksX3_behind_1 6 rfl rfl)
theorem dX3_behind_32 : decode cX3_behind 32 = .ok (.istore_n 3, 1) := dk_62 (dk_at dksX3_behind_1 9 rfl rfl)
theorem dX3_behind_33 : decode cX3_behind 33 = .ok (.iload_n 2, 1) := dk_28 (dk_at dksX3_behind_1 10 rfl rfl)
theorem dX3_behind_34 : decode cX3_behind 34 = .ok (.ifCond .ne 10, 3) := dk_154 0 10 (dk_at dksX3_behind_1 11 rfl rfl)
theorem dX3_behind_37 : decode cX3_behind 37 = .ok (.aload_n 0, 1) := dk_42 (dk_at dksX3_behind_1 14 rfl rfl)
theorem dX3_behind_38 : decode cX3_behind 38 = .ok (.invokevirtual 186, 3) := dk_182 0 186 (dk_at dksX3_behind_1 15 rfl rfl)
theorem dX3_behind_41 : decode cX3_behind 41 = .ok (.goto 19, 3) := dk_167 0 19 (dk_at dksX3_behind_1 18 rfl rfl)
theorem dX3_behind_44 : decode cX3_behind 44 = .ok (.iload_n 2, 1) := dk_28 (dk_at dksX3_behind_1 21 rfl rfl)
theorem dX3_behind_45 : decode cX3_behind 45 = .ok (.iconst 1, 1) := dk_4 (dk_at dksX3_behind_1 22 rfl rfl)
theorem dX3_behind_46 : decode cX3_behind 46 = .ok (.if_icmp .ne 10, 3) := dk_160 0 10 (dk_at dksX3_behind_2 0 rfl rfl)
theorem dX3_behind_49 : decode cX3_behind 49 = .ok (.aload_n 0, 1) := dk_42 (dk_at dksX3_behind_2 3 rfl rfl)
theorem dX3_behind_50 : decode cX3_behind 50 = .ok (.invokevirtual 189, 3) := dk_182 0 189 (dk_at dksX3_behind_2 4 rfl rfl)
theorem dX3_behind_53 : decode cX3_behind 53 = .ok (.goto 7, 3) := dk_167 0 7 (dk_at dksX3_behind_2 7 rfl rfl)
theorem dX3_behind_56 : decode cX3_behind 56 = .ok (.aload_n 0, 1) := dk_42 (dk_at dksX3_behind_2 10 rfl rfl)
theorem dX3_behind_57 : decode cX3_behind 57 = .ok (.invokevirtual 192, 3) := dk_182 0 192 (dk_at dksX3_behind_2 11 rfl rfl)
theorem dX3_behind_60 : decode cX3_behind 60 = .ok (.istore 4, 2) := dk_54 4 (dk_at dksX3_behind_2 14 rfl rfl)
theorem dX3_behind_62 : decode cX3_behind 62 = .ok (.aload_n 0, 1) := dk_42 (dk_at dksX3_behind_2 16 rfl rfl)
theorem dX3_behind_63 : decode cX3_behind 63 = .ok (.invokevirtual 195, 3) := dk_182 0 195 (dk_at dksX3_behind_2 17 rfl rfl)
theorem dX3_behind_66 : decode cX3_behind 66 = .ok (.iload 4, 2) := dk_21 4 (dk_at dksX3_behind_2 20 rfl rfl)
theorem dX3_behind_68 : decode cX3_behind 68 = .ok (.ireturn, 1) := dk_172 (dk_at dksX3_behind_2 22 rfl rfl)
abbrev cX3_thinks : ByteArray := prog_22_method_43_code
def yX3_thinks : MethodName := ⟨RX3, "thinks", "()V"⟩
def dkwX3_thinks_1 : List UInt8 := [167, 255, 235, 177]
abbrev dktX3_thinks_1 : List UInt8 := dkwX3_thinks_1 ++ []
def dkwX3_thinks_0 : List UInt8 := [3, 60, 27, 16, 76, 162, 0, 21, 42, 180, 0, 25, 27, 42, 180, 0, 9, 27, 46, 79, 132, 1, 1]
abbrev dktX3_thinks_0 : List UInt8 := dkwX3_thinks_0 ++ dktX3_thinks_1
theorem dksX3_thinks_0 : cX3_thinks.data.toList.drop 0 = dktX3_thinks_0 := by decide +kernel
theorem dksX3_thinks_1 : cX3_thinks.data.toList.drop 23 = dktX3_thinks_1 := dk_seg dksX3_thinks_0 23 rfl rfl
theorem dX3_thinks_0 : decode cX3_thinks 0 = .ok (.iconst 0, 1) := dk_3 (dk_at dksX3_thinks_0 0 rfl rfl)
theorem dX3_thinks_1 : decode cX3_thinks 1 = .ok (.istore_n 1, 1) := dk_60 (dk_at dksX3_thinks_0 1 rfl rfl)
theorem dX3_thinks_2 : decode cX3_thinks 2 = .ok (.iload_n 1, 1) := dk_27 (dk_at dksX3_thinks_0 2 rfl rfl)
theorem dX3_thinks_3 : decode cX3_thinks 3 = .ok (.bipush 76, 2) := dk_16 76 (dk_at dksX3_thinks_0 3 rfl rfl)
theorem dX3_thinks_5 : decode cX3_thinks 5 = .ok (.if_icmp .ge 21, 3) := dk_162 0 21 (dk_at dksX3_thinks_0 5 rfl rfl)
theorem dX3_thinks_8 : decode cX3_thinks 8 = .ok (.aload_n 0, 1) := dk_42 (dk_at dksX3_thinks_0 8 rfl rfl)
theorem dX3_thinks_9 : decode cX3_thinks 9 = .ok (.getfield 25, 3) := dk_180 0 25 (dk_at dksX3_thinks_0 9 rfl rfl)
theorem dX3_thinks_12 : decode cX3_thinks 12 = .ok (.iload_n 1, 1) := dk_27 (dk_at dksX3_thinks_0 12 rfl rfl)
theorem dX3_thinks_13 : decode cX3_thinks 13 = .ok (.aload_n 0, 1) := dk_42 (dk_at dksX3_thinks_0 13 rfl rfl)
theorem dX3_thinks_14 : decode cX3_thinks 14 = .ok (.getfield 9, 3) := dk_180 0 9 (dk_at dksX3_thinks_0 14 rfl rfl)
theorem dX3_thinks_17 : decode cX3_thinks 17 = .ok (.iload_n 1, 1) := dk_27 (dk_at dksX3_thinks_0 17 rfl rfl)
theorem dX3_thinks_18 : decode cX3_thinks 18 = .ok (.iaload, 1) := dk_46 (dk_at dksX3_thinks_0 18 rfl rfl)
theorem dX3_thinks_19 : decode cX3_thinks 19 = .ok (.iastore, 1) := dk_79 (dk_at dksX3_thinks_0 19 rfl rfl)
theorem dX3_thinks_20 : decode cX3_thinks 20 = .ok (.iinc 1 1, 3) := dk_132 1 1 (dk_at dksX3_thinks_0 20 rfl rfl)
theorem dX3_thinks_23 : decode cX3_thinks 23 = .ok (.goto (-21), 3) := dk_167 255 235 (dk_at dksX3_thinks_1 0 rfl rfl)
theorem dX3_thinks_26 : decode cX3_thinks 26 = .ok (.return_, 1) := dk_177 (dk_at dksX3_thinks_1 3 rfl rfl)
abbrev cX3_bestOfAll : ByteArray := prog_22_method_47_code
def yX3_bestOfAll : MethodName := ⟨RX3, "bestOfAll", "()I"⟩
def dkwX3_bestOfAll_0 : List UInt8 := [42, 182, 0, 155, 42, 180, 0, 22, 42, 182, 0, 152, 46, 172]
abbrev dktX3_bestOfAll_0 : List UInt8 := dkwX3_bestOfAll_0 ++ []
theorem dksX3_bestOfAll_0 : cX3_bestOfAll.data.toList.drop 0 = dktX3_bestOfAll_0 := by decide +kernel
theorem dX3_bestOfAll_0 : decode cX3_bestOfAll 0 = .ok (.aload_n 0, 1) := dk_42 (dk_at dksX3_bestOfAll_0 0 rfl rfl)
theorem dX3_bestOfAll_1 : decode cX3_bestOfAll 1 = .ok (.invokevirtual 155, 3) := dk_182 0 155 (dk_at dksX3_bestOfAll_0 1 rfl rfl)
theorem dX3_bestOfAll_4 : decode cX3_bestOfAll 4 = .ok (.aload_n 0, 1) := dk_42 (dk_at dksX3_bestOfAll_0 4 rfl rfl)
theorem dX3_bestOfAll_5 : decode cX3_bestOfAll 5 = .ok (.getfield 22, 3) := dk_180 0 22 (dk_at dksX3_bestOfAll_0 5 rfl rfl)
theorem dX3_bestOfAll_8 : decode cX3_bestOfAll 8 = .ok (.aload_n 0, 1) := dk_42 (dk_at dksX3_bestOfAll_0 8 rfl rfl)
theorem dX3_bestOfAll_9 : decode cX3_bestOfAll 9 = .ok (.invokevirtual 152, 3) := dk_182 0 152 (dk_at dksX3_bestOfAll_0 9 rfl rfl)
theorem dX3_bestOfAll_12 : decode cX3_bestOfAll 12 = .ok (.iaload, 1) := dk_46 (dk_at dksX3_bestOfAll_0 12 rfl rfl)
theorem dX3_bestOfAll_13 : decode cX3_bestOfAll 13 = .ok (.ireturn, 1) := dk_172 (dk_at dksX3_bestOfAll_0 13 rfl rfl)
abbrev cX3_lostMany : ByteArray := prog_22_method_45_code
def yX3_lostMany : MethodName := ⟨RX3, "lostMany", "()I"⟩
def dkwX3_lostMany_1 : List UInt8 := [132, 2, 1, 167, 255, 234, 27, 172]
abbrev dktX3_lostMany_1 : List UInt8 := dkwX3_lostMany_1 ++ []
def dkwX3_lostMany_0 : List UInt8 := [3, 60, 3, 61, 28, 42, 180, 0, 9, 4, 46, 162, 0, 18, 27, 42, 28, 8, 182, 0, 99, 96, 60]
abbrev dktX3_lostMany_0 : List UInt8 := dkwX3_lostMany_0 ++ dktX3_lostMany_1
theorem dksX3_lostMany_0 : cX3_lostMany.data.toList.drop 0 = dktX3_lostMany_0 := by decide +kernel
theorem dksX3_lostMany_1 : cX3_lostMany.data.toList.drop 23 = dktX3_lostMany_1 := dk_seg dksX3_lostMany_0 23 rfl rfl
theorem dX3_lostMany_0 : decode cX3_lostMany 0 = .ok (.iconst 0, 1) := dk_3 (dk_at dksX3_lostMany_0 0 rfl rfl)
theorem dX3_lostMany_1 : decode cX3_lostMany 1 = .ok (.istore_n 1, 1) := dk_60 (dk_at dksX3_lostMany_0 1 rfl rfl)
theorem dX3_lostMany_2 : decode cX3_lostMany 2 = .ok (.iconst 0, 1) := dk_3 (dk_at dksX3_lostMany_0 2 rfl rfl)
theorem dX3_lostMany_3 : decode cX3_lostMany 3 = .ok (.istore_n 2, 1) := dk_61 (dk_at dksX3_lostMany_0 3 rfl rfl)
theorem dX3_lostMany_4 : decode cX3_lostMany 4 = .ok (.iload_n 2, 1) := dk_28 (dk_at dksX3_lostMany_0 4 rfl rfl)
theorem dX3_lostMany_5 : decode cX3_lostMany 5 = .ok (.aload_n 0, 1) := dk_42 (dk_at dksX3_lostMany_0 5 rfl rfl)
theorem dX3_lostMany_6 : decode cX3_lostMany 6 = .ok (.getfield 9, 3) := dk_180 0 9 (dk_at dksX3_lostMany_0 6 rfl rfl)
theorem dX3_lostMany_9 : decode cX3_lostMany 9 = .ok (.iconst 1, 1) := dk_4 (dk_at dksX3_lostMany_0 9 rfl rfl)
theorem dX3_lostMany_10 : decode cX3_lostMany 10 = .ok (.iaload, 1) := dk_46 (dk_at dksX3_lostMany_0 10 rfl rfl)
theorem dX3_lostMany_11 : decode cX3_lostMany 11 = .ok (.if_icmp .ge 18, 3) := dk_162 0 18 (dk_at dksX3_lostMany_0 11 rfl rfl)
theorem dX3_lostMany_14 : decode cX3_lostMany 14 = .ok (.iload_n 1, 1) := dk_27 (dk_at dksX3_lostMany_0 14 rfl rfl)
theorem dX3_lostMany_15 : decode cX3_lostMany 15 = .ok (.aload_n 0, 1) := dk_42 (dk_at dksX3_lostMany_0 15 rfl rfl)
theorem dX3_lostMany_16 : decode cX3_lostMany 16 = .ok (.iload_n 2, 1) := dk_28 (dk_at dksX3_lostMany_0 16 rfl rfl)
theorem dX3_lostMany_17 : decode cX3_lostMany 17 = .ok (.iconst 5, 1) := dk_8 (dk_at dksX3_lostMany_0 17 rfl rfl)
theorem dX3_lostMany_18 : decode cX3_lostMany 18 = .ok (.invokevirtual 99, 3) := dk_182 0 99 (dk_at dksX3_lostMany_0 18 rfl rfl)
theorem dX3_lostMany_21 : decode cX3_lostMany 21 = .ok (.iadd, 1) := dk_96 (dk_at dksX3_lostMany_0 21 rfl rfl)
theorem dX3_lostMany_22 : decode cX3_lostMany 22 = .ok (.istore_n 1, 1) := dk_60 (dk_at dksX3_lostMany_0 22 rfl rfl)
theorem dX3_lostMany_23 : decode cX3_lostMany 23 = .ok (.iinc 2 1, 3) := dk_132 2 1 (dk_at dksX3_lostMany_1 0 rfl rfl)
theorem dX3_lostMany_26 : decode cX3_lostMany 26 = .ok (.goto (-22), 3) := dk_167 255 234 (dk_at dksX3_lostMany_1 3 rfl rfl)
theorem dX3_lostMany_29 : decode cX3_lostMany 29 = .ok (.iload_n 1, 1) := dk_27 (dk_at dksX3_lostMany_1 6 rfl rfl)
theorem dX3_lostMany_30 : decode cX3_lostMany 30 = .ok (.ireturn, 1) := dk_172 (dk_at dksX3_lostMany_1 7 rfl rfl)
abbrev cX3_wearAll : ByteArray := prog_22_method_46_code
def yX3_wearAll : MethodName := ⟨RX3, "wearAll", "()I"⟩
def dkwX3_wearAll_1 : List UInt8 := [42, 28, 7, 182, 0, 99, 167, 0, 4, 3, 96, 60, 132, 2, 1, 167, 255, 221, 27, 172]
abbrev dktX3_wearAll_1 : List UInt8 := dkwX3_wearAll_1 ++ []
def dkwX3_wearAll_0 : List UInt8 := [3, 60, 3, 61, 28, 42, 180, 0, 9, 4, 46, 162, 0, 31, 27, 42, 28, 8, 182, 0, 99, 154, 0, 12]
abbrev dktX3_wearAll_0 : List UInt8 := dkwX3_wearAll_0 ++ dktX3_wearAll_1
theorem dksX3_wearAll_0 : cX3_wearAll.data.toList.drop 0 = dktX3_wearAll_0 := by decide +kernel
theorem dksX3_wearAll_1 : cX3_wearAll.data.toList.drop 24 = dktX3_wearAll_1 := dk_seg dksX3_wearAll_0 24 rfl rfl
theorem dX3_wearAll_0 : decode cX3_wearAll 0 = .ok (.iconst 0, 1) := dk_3 (dk_at dksX3_wearAll_0 0 rfl rfl)
theorem dX3_wearAll_1 : decode cX3_wearAll 1 = .ok (.istore_n 1, 1) := dk_60 (dk_at dksX3_wearAll_0 1 rfl rfl)
theorem dX3_wearAll_2 : decode cX3_wearAll 2 = .ok (.iconst 0, 1) := dk_3 (dk_at dksX3_wearAll_0 2 rfl rfl)
theorem dX3_wearAll_3 : decode cX3_wearAll 3 = .ok (.istore_n 2, 1) := dk_61 (dk_at dksX3_wearAll_0 3 rfl rfl)
theorem dX3_wearAll_4 : decode cX3_wearAll 4 = .ok (.iload_n 2, 1) := dk_28 (dk_at dksX3_wearAll_0 4 rfl rfl)
theorem dX3_wearAll_5 : decode cX3_wearAll 5 = .ok (.aload_n 0, 1) := dk_42 (dk_at dksX3_wearAll_0 5 rfl rfl)
theorem dX3_wearAll_6 : decode cX3_wearAll 6 = .ok (.getfield 9, 3) := dk_180 0 9 (dk_at dksX3_wearAll_0 6 rfl rfl)
theorem dX3_wearAll_9 : decode cX3_wearAll 9 = .ok (.iconst 1, 1) := dk_4 (dk_at dksX3_wearAll_0 9 rfl rfl)
theorem dX3_wearAll_10 : decode cX3_wearAll 10 = .ok (.iaload, 1) := dk_46 (dk_at dksX3_wearAll_0 10 rfl rfl)
theorem dX3_wearAll_11 : decode cX3_wearAll 11 = .ok (.if_icmp .ge 31, 3) := dk_162 0 31 (dk_at dksX3_wearAll_0 11 rfl rfl)
theorem dX3_wearAll_14 : decode cX3_wearAll 14 = .ok (.iload_n 1, 1) := dk_27 (dk_at dksX3_wearAll_0 14 rfl rfl)
theorem dX3_wearAll_15 : decode cX3_wearAll 15 = .ok (.aload_n 0, 1) := dk_42 (dk_at dksX3_wearAll_0 15 rfl rfl)
theorem dX3_wearAll_16 : decode cX3_wearAll 16 = .ok (.iload_n 2, 1) := dk_28 (dk_at dksX3_wearAll_0 16 rfl rfl)
theorem dX3_wearAll_17 : decode cX3_wearAll 17 = .ok (.iconst 5, 1) := dk_8 (dk_at dksX3_wearAll_0 17 rfl rfl)
theorem dX3_wearAll_18 : decode cX3_wearAll 18 = .ok (.invokevirtual 99, 3) := dk_182 0 99 (dk_at dksX3_wearAll_0 18 rfl rfl)
theorem dX3_wearAll_21 : decode cX3_wearAll 21 = .ok (.ifCond .ne 12, 3) := dk_154 0 12 (dk_at dksX3_wearAll_0 21 rfl rfl)
theorem dX3_wearAll_24 : decode cX3_wearAll 24 = .ok (.aload_n 0, 1) := dk_42 (dk_at dksX3_wearAll_1 0 rfl rfl)
theorem dX3_wearAll_25 : decode cX3_wearAll 25 = .ok (.iload_n 2, 1) := dk_28 (dk_at dksX3_wearAll_1 1 rfl rfl)
theorem dX3_wearAll_26 : decode cX3_wearAll 26 = .ok (.iconst 4, 1) := dk_7 (dk_at dksX3_wearAll_1 2 rfl rfl)
theorem dX3_wearAll_27 : decode cX3_wearAll 27 = .ok (.invokevirtual 99, 3) := dk_182 0 99 (dk_at dksX3_wearAll_1 3 rfl rfl)
theorem dX3_wearAll_30 : decode cX3_wearAll 30 = .ok (.goto 4, 3) := dk_167 0 4 (dk_at dksX3_wearAll_1 6 rfl rfl)
theorem dX3_wearAll_33 : decode cX3_wearAll 33 = .ok (.iconst 0, 1) := dk_3 (dk_at dksX3_wearAll_1 9 rfl rfl)
theorem dX3_wearAll_34 : decode cX3_wearAll 34 = .ok (.iadd, 1) := dk_96 (dk_at dksX3_wearAll_1 10 rfl rfl)
theorem dX3_wearAll_35 : decode cX3_wearAll 35 = .ok (.istore_n 1, 1) := dk_60 (dk_at dksX3_wearAll_1 11 rfl rfl)
theorem dX3_wearAll_36 : decode cX3_wearAll 36 = .ok (.iinc 2 1, 3) := dk_132 2 1 (dk_at dksX3_wearAll_1 12 rfl rfl)
theorem dX3_wearAll_39 : decode cX3_wearAll 39 = .ok (.goto (-35), 3) := dk_167 255 221 (dk_at dksX3_wearAll_1 15 rfl rfl)
theorem dX3_wearAll_42 : decode cX3_wearAll 42 = .ok (.iload_n 1, 1) := dk_27 (dk_at dksX3_wearAll_1 18 rfl rfl)
theorem dX3_wearAll_43 : decode cX3_wearAll 43 = .ok (.ireturn, 1) := dk_172 (dk_at dksX3_wearAll_1 19 rfl rfl)
abbrev cX3_putsBack : ByteArray := prog_22_method_44_code
def yX3_putsBack : MethodName := ⟨RX3, "putsBack", "()V"⟩
def dkwX3_putsBack_1 : List UInt8 := [167, 255, 235, 177]
abbrev dktX3_putsBack_1 : List UInt8 := dkwX3_putsBack_1 ++ []
def dkwX3_putsBack_0 : List UInt8 := [3, 60, 27, 16, 76, 162, 0, 21, 42, 180, 0, 9, 27, 42, 180, 0, 25, 27, 46, 79, 132, 1, 1]
abbrev dktX3_putsBack_0 : List UInt8 := dkwX3_putsBack_0 ++ dktX3_putsBack_1
theorem dksX3_putsBack_0 : cX3_putsBack.data.toList.drop 0 = dktX3_putsBack_0 := by decide +kernel
theorem dksX3_putsBack_1 : cX3_putsBack.data.toList.drop 23 = dktX3_putsBack_1 := dk_seg dksX3_putsBack_0 23 rfl rfl
theorem dX3_putsBack_0 : decode cX3_putsBack 0 = .ok (.iconst 0, 1) := dk_3 (dk_at dksX3_putsBack_0 0 rfl rfl)
theorem dX3_putsBack_1 : decode cX3_putsBack 1 = .ok (.istore_n 1, 1) := dk_60 (dk_at dksX3_putsBack_0 1 rfl rfl)
theorem dX3_putsBack_2 : decode cX3_putsBack 2 = .ok (.iload_n 1, 1) := dk_27 (dk_at dksX3_putsBack_0 2 rfl rfl)
theorem dX3_putsBack_3 : decode cX3_putsBack 3 = .ok (.bipush 76, 2) := dk_16 76 (dk_at dksX3_putsBack_0 3 rfl rfl)
theorem dX3_putsBack_5 : decode cX3_putsBack 5 = .ok (.if_icmp .ge 21, 3) := dk_162 0 21 (dk_at dksX3_putsBack_0 5 rfl rfl)
theorem dX3_putsBack_8 : decode cX3_putsBack 8 = .ok (.aload_n 0, 1) := dk_42 (dk_at dksX3_putsBack_0 8 rfl rfl)
theorem dX3_putsBack_9 : decode cX3_putsBack 9 = .ok (.getfield 9, 3) := dk_180 0 9 (dk_at dksX3_putsBack_0 9 rfl rfl)
theorem dX3_putsBack_12 : decode cX3_putsBack 12 = .ok (.iload_n 1, 1) := dk_27 (dk_at dksX3_putsBack_0 12 rfl rfl)
theorem dX3_putsBack_13 : decode cX3_putsBack 13 = .ok (.aload_n 0, 1) := dk_42 (dk_at dksX3_putsBack_0 13 rfl rfl)
theorem dX3_putsBack_14 : decode cX3_putsBack 14 = .ok (.getfield 25, 3) := dk_180 0 25 (dk_at dksX3_putsBack_0 14 rfl rfl)
theorem dX3_putsBack_17 : decode cX3_putsBack 17 = .ok (.iload_n 1, 1) := dk_27 (dk_at dksX3_putsBack_0 17 rfl rfl)
theorem dX3_putsBack_18 : decode cX3_putsBack 18 = .ok (.iaload, 1) := dk_46 (dk_at dksX3_putsBack_0 18 rfl rfl)
theorem dX3_putsBack_19 : decode cX3_putsBack 19 = .ok (.iastore, 1) := dk_79 (dk_at dksX3_putsBack_0 19 rfl rfl)
theorem dX3_putsBack_20 : decode cX3_putsBack 20 = .ok (.iinc 1 1, 3) := dk_132 1 1 (dk_at dksX3_putsBack_0 20 rfl rfl)
theorem dX3_putsBack_23 : decode cX3_putsBack 23 = .ok (.goto (-21), 3) := dk_167 255 235 (dk_at dksX3_putsBack_1 0 rfl rfl)
theorem dX3_putsBack_26 : decode cX3_putsBack 26 = .ok (.return_, 1) := dk_177 (dk_at dksX3_putsBack_1 3 rfl rfl)
abbrev cX3_keepHome : ByteArray := prog_22_method_49_code
def yX3_keepHome : MethodName := ⟨RX3, "keepHome", "(I)I"⟩
def dkwX3_keepHome_3 : List UInt8 := [21, 4, 160, 0, 8, 21, 6, 167, 0, 4, 29, 62, 132, 4, 1, 167, 255, 193, 28, 184, 0, 158, 172]
abbrev dktX3_keepHome_3 : List UInt8 := dkwX3_keepHome_3 ++ []
def dkwX3_keepHome_2 : List UInt8 := [54, 6, 42, 182, 0, 195, 28, 155, 0, 9, 21, 6, 29, 164, 0, 8, 21, 4, 167, 0, 4, 28, 61, 28]
abbrev dktX3_keepHome_2 : List UInt8 := dkwX3_keepHome_2 ++ dktX3_keepHome_3
def dkwX3_keepHome_1 : List UInt8 := [21, 4, 42, 180, 0, 9, 4, 46, 162, 0, 58, 42, 27, 21, 4, 182, 0, 180, 54, 5, 42, 182, 0, 186]
abbrev dktX3_keepHome_1 : List UInt8 := dkwX3_keepHome_1 ++ dktX3_keepHome_2
def dkwX3_keepHome_0 : List UInt8 := [27, 4, 16, 30, 184, 0, 85, 154, 0, 6, 18, 93, 172, 42, 182, 0, 183, 2, 61, 3, 62, 3, 54, 4]
abbrev dktX3_keepHome_0 : List UInt8 := dkwX3_keepHome_0 ++ dktX3_keepHome_1
theorem dksX3_keepHome_0 : cX3_keepHome.data.toList.drop 0 = dktX3_keepHome_0 := by decide +kernel
theorem dksX3_keepHome_1 : cX3_keepHome.data.toList.drop 24 = dktX3_keepHome_1 := dk_seg dksX3_keepHome_0 24 rfl rfl
theorem dksX3_keepHome_2 : cX3_keepHome.data.toList.drop 48 = dktX3_keepHome_2 := dk_seg dksX3_keepHome_1 24 rfl rfl
theorem dksX3_keepHome_3 : cX3_keepHome.data.toList.drop 72 = dktX3_keepHome_3 := dk_seg dksX3_keepHome_2 24 rfl rfl
theorem dX3_keepHome_0 : decode cX3_keepHome 0 = .ok (.iload_n 1, 1) := dk_27 (dk_at dksX3_keepHome_0 0 rfl rfl)
theorem dX3_keepHome_1 : decode cX3_keepHome 1 = .ok (.iconst 1, 1) := dk_4 (dk_at dksX3_keepHome_0 1 rfl rfl)
theorem dX3_keepHome_2 : decode cX3_keepHome 2 = .ok (.bipush 30, 2) := dk_16 30 (dk_at dksX3_keepHome_0 2 rfl rfl)
theorem dX3_keepHome_4 : decode cX3_keepHome 4 = .ok (.invokestatic 85, 3) := dk_184 0 85 (dk_at dksX3_keepHome_0 4 rfl rfl)
theorem dX3_keepHome_7 : decode cX3_keepHome 7 = .ok (.ifCond .ne 6, 3) := dk_154 0 6 (dk_at dksX3_keepHome_0 7 rfl rfl)
theorem dX3_keepHome_10 : decode cX3_keepHome 10 = .ok (.ldc 93, 2) := dk_18 93 (dk_at dksX3_keepHome_0 10 rfl rfl)
theorem dX3_keepHome_12 : decode cX3_keepHome 12 = .ok (.ireturn, 1) := dk_172 (dk_at dksX3_keepHome_0 12 rfl rfl)
theorem dX3_keepHome_13 : decode cX3_keepHome 13 = .ok (.aload_n 0, 1) := dk_42 (dk_at dksX3_keepHome_0 13 rfl rfl)
theorem dX3_keepHome_14 : decode cX3_keepHome 14 = .ok (.invokevirtual 183, 3) := dk_182 0 183 (dk_at dksX3_keepHome_0 14 rfl rfl)
theorem dX3_keepHome_17 : decode cX3_keepHome 17 = .ok (.iconst (-1), 1) := dk_2 (dk_at dksX3_keepHome_0 17 rfl rfl)
theorem dX3_keepHome_18 : decode cX3_keepHome 18 = .ok (.istore_n 2, 1) := dk_61 (dk_at dksX3_keepHome_0 18 rfl rfl)
theorem dX3_keepHome_19 : decode cX3_keepHome 19 = .ok (.iconst 0, 1) := dk_3 (dk_at dksX3_keepHome_0 19 rfl rfl)
theorem dX3_keepHome_20 : decode cX3_keepHome 20 = .ok (.istore_n 3, 1) := dk_62 (dk_at dksX3_keepHome_0 20 rfl rfl)
theorem dX3_keepHome_21 : decode cX3_keepHome 21 = .ok (.iconst 0, 1) := dk_3 (dk_at dksX3_keepHome_0 21 rfl rfl)
theorem dX3_keepHome_22 : decode cX3_keepHome 22 = .ok (.istore 4, 2) := dk_54 4 (dk_at dksX3_keepHome_0 22 rfl rfl)
theorem dX3_keepHome_24 : decode cX3_keepHome 24 = .ok (.iload 4, 2) := dk_21 4 (dk_at dksX3_keepHome_1 0 rfl rfl)
theorem dX3_keepHome_26 : decode cX3_keepHome 26 = .ok (.aload_n 0, 1) := dk_42 (dk_at dksX3_keepHome_1 2 rfl rfl)
theorem dX3_keepHome_27 : decode cX3_keepHome 27 = .ok (.getfield 9, 3) := dk_180 0 9 (dk_at dksX3_keepHome_1 3 rfl rfl)
theorem dX3_keepHome_30 : decode cX3_keepHome 30 = .ok (.iconst 1, 1) := dk_4 (dk_at dksX3_keepHome_1 6 rfl rfl)
theorem dX3_keepHome_31 : decode cX3_keepHome 31 = .ok (.iaload, 1) := dk_46 (dk_at dksX3_keepHome_1 7 rfl rfl)
theorem dX3_keepHome_32 : decode cX3_keepHome 32 = .ok (.if_icmp .ge 58, 3) := dk_162 0 58 (dk_at dksX3_keepHome_1 8 rfl rfl)
theorem dX3_keepHome_35 : decode cX3_keepHome 35 = .ok (.aload_n 0, 1) := dk_42 (dk_at dksX3_keepHome_1 11 rfl rfl)
theorem dX3_keepHome_36 : decode cX3_keepHome 36 = .ok (.iload_n 1, 1) := dk_27 (dk_at dksX3_keepHome_1 12 rfl rfl)
theorem dX3_keepHome_37 : decode cX3_keepHome 37 = .ok (.iload 4, 2) := dk_21 4 (dk_at dksX3_keepHome_1 13 rfl rfl)
theorem dX3_keepHome_39 : decode cX3_keepHome 39 = .ok (.invokevirtual 180, 3) := dk_182 0 180 (dk_at dksX3_keepHome_1 15 rfl rfl)
theorem dX3_keepHome_42 : decode cX3_keepHome 42 = .ok (.istore 5, 2) := dk_54 5 (dk_at dksX3_keepHome_1 18 rfl rfl)
theorem dX3_keepHome_44 : decode cX3_keepHome 44 = .ok (.aload_n 0, 1) := dk_42 (dk_at dksX3_keepHome_1 20 rfl rfl)
theorem dX3_keepHome_45 : decode cX3_keepHome 45 = .ok (.invokevirtual 186, 3) := dk_182 0 186 (dk_at dksX3_keepHome_1 21 rfl rfl)
theorem dX3_keepHome_48 : decode cX3_keepHome 48 = .ok (.istore 6, 2) := dk_54 6 (dk_at dksX3_keepHome_2 0 rfl rfl)
theorem dX3_keepHome_50 : decode cX3_keepHome 50 = .ok (.aload_n 0, 1) := dk_42 (dk_at dksX3_keepHome_2 2 rfl rfl)
theorem dX3_keepHome_51 : decode cX3_keepHome 51 = .ok (.invokevirtual 195, 3) := dk_182 0 195 (dk_at dksX3_keepHome_2 3 rfl rfl)
theorem dX3_keepHome_54 : decode cX3_keepHome 54 = .ok (.iload_n 2, 1) := dk_28 (dk_at dksX3_keepHome_2 6 rfl rfl)
theorem dX3_keepHome_55 : decode cX3_keepHome 55 = .ok (.ifCond .lt 9, 3) := dk_155 0 9 (dk_at dksX3_keepHome_2 7 rfl rfl)
theorem dX3_keepHome_58 : decode cX3_keepHome 58 = .ok (.iload 6, 2) := dk_21 6 (dk_at dksX3_keepHome_2 10 rfl rfl)
theorem dX3_keepHome_60 : decode cX3_keepHome 60 = .ok (.iload_n 3, 1) := dk_29 (dk_at dksX3_keepHome_2 12 rfl rfl)
theorem dX3_keepHome_61 : decode cX3_keepHome 61 = .ok (.if_icmp .le 8, 3) := dk_164 0 8 (dk_at dksX3_keepHome_2 13 rfl rfl)
theorem dX3_keepHome_64 : decode cX3_keepHome 64 = .ok (.iload 4, 2) := dk_21 4 (dk_at dksX3_keepHome_2 16 rfl rfl)
theorem dX3_keepHome_66 : decode cX3_keepHome 66 = .ok (.goto 4, 3) := dk_167 0 4 (dk_at dksX3_keepHome_2 18 rfl rfl)
theorem dX3_keepHome_69 : decode cX3_keepHome 69 = .ok (.iload_n 2, 1) := dk_28 (dk_at dksX3_keepHome_2 21 rfl rfl)
theorem dX3_keepHome_70 : decode cX3_keepHome 70 = .ok (.istore_n 2, 1) := dk_61 (dk_at dksX3_keepHome_2 22 rfl rfl)
theorem dX3_keepHome_71 : decode cX3_keepHome 71 = .ok (.iload_n 2, 1) := dk_28 (dk_at dksX3_keepHome_2 23 rfl rfl)
theorem dX3_keepHome_72 : decode cX3_keepHome 72 = .ok (.iload 4, 2) := dk_21 4 (dk_at dksX3_keepHome_3 0 rfl rfl)
theorem dX3_keepHome_74 : decode cX3_keepHome 74 = .ok (.if_icmp .ne 8, 3) := dk_160 0 8 (dk_at dksX3_keepHome_3 2 rfl rfl)
theorem dX3_keepHome_77 : decode cX3_keepHome 77 = .ok (.iload 6, 2) := dk_21 6 (dk_at dksX3_keepHome_3 5 rfl rfl)
theorem dX3_keepHome_79 : decode cX3_keepHome 79 = .ok (.goto 4, 3) := dk_167 0 4 (dk_at dksX3_keepHome_3 7 rfl rfl)
theorem dX3_keepHome_82 : decode cX3_keepHome 82 = .ok (.iload_n 3, 1) := dk_29 (dk_at dksX3_keepHome_3 10 rfl rfl)
theorem dX3_keepHome_83 : decode cX3_keepHome 83 = .ok (.istore_n 3, 1) := dk_62 (dk_at dksX3_keepHome_3 11 rfl rfl)
theorem dX3_keepHome_84 : decode cX3_keepHome 84 = .ok (.iinc 4 1, 3) := dk_132 4 1 (dk_at dksX3_keepHome_3 12 rfl rfl)
theorem dX3_keepHome_87 : decode cX3_keepHome 87 = .ok (.goto (-63), 3) := dk_167 255 193 (dk_at dksX3_keepHome_3 15 rfl rfl)
theorem dX3_keepHome_90 : decode cX3_keepHome 90 = .ok (.iload_n 2, 1) := dk_28 (dk_at dksX3_keepHome_3 18 rfl rfl)
theorem dX3_keepHome_91 : decode cX3_keepHome 91 = .ok (.invokestatic 158, 3) := dk_184 0 158 (dk_at dksX3_keepHome_3 19 rfl rfl)
theorem dX3_keepHome_94 : decode cX3_keepHome 94 = .ok (.ireturn, 1) := dk_172 (dk_at dksX3_keepHome_3 22 rfl rfl)
abbrev cX3_fine : ByteArray := prog_22_method_50_code
def yX3_fine : MethodName := ⟨RX3, "fine", "()I"⟩
def dkwX3_fine_1 : List UInt8 := [182, 0, 189, 79, 27, 156, 0, 10, 42, 182, 0, 189, 167, 0, 8, 42, 27, 182, 0, 132, 172]
abbrev dktX3_fine_1 : List UInt8 := dkwX3_fine_1 ++ []
def dkwX3_fine_0 : List UInt8 := [42, 5, 182, 0, 125, 60, 42, 180, 0, 54, 3, 42, 180, 0, 9, 5, 46, 79, 42, 180, 0, 54, 4, 42]
abbrev dktX3_fine_0 : List UInt8 := dkwX3_fine_0 ++ dktX3_fine_1
theorem dksX3_fine_0 : cX3_fine.data.toList.drop 0 = dktX3_fine_0 := by decide +kernel
theorem dksX3_fine_1 : cX3_fine.data.toList.drop 24 = dktX3_fine_1 := dk_seg dksX3_fine_0 24 rfl rfl
theorem dX3_fine_0 : decode cX3_fine 0 = .ok (.aload_n 0, 1) := dk_42 (dk_at dksX3_fine_0 0 rfl rfl)
theorem dX3_fine_1 : decode cX3_fine 1 = .ok (.iconst 2, 1) := dk_5 (dk_at dksX3_fine_0 1 rfl rfl)
theorem dX3_fine_2 : decode cX3_fine 2 = .ok (.invokevirtual 125, 3) := dk_182 0 125 (dk_at dksX3_fine_0 2 rfl rfl)
theorem dX3_fine_5 : decode cX3_fine 5 = .ok (.istore_n 1, 1) := dk_60 (dk_at dksX3_fine_0 5 rfl rfl)
theorem dX3_fine_6 : decode cX3_fine 6 = .ok (.aload_n 0, 1) := dk_42 (dk_at dksX3_fine_0 6 rfl rfl)
theorem dX3_fine_7 : decode cX3_fine 7 = .ok (.getfield 54, 3) := dk_180 0 54 (dk_at dksX3_fine_0 7 rfl rfl)
theorem dX3_fine_10 : decode cX3_fine 10 = .ok (.iconst 0, 1) := dk_3 (dk_at dksX3_fine_0 10 rfl rfl)
theorem dX3_fine_11 : decode cX3_fine 11 = .ok (.aload_n 0, 1) := dk_42 (dk_at dksX3_fine_0 11 rfl rfl)
theorem dX3_fine_12 : decode cX3_fine 12 = .ok (.getfield 9, 3) := dk_180 0 9 (dk_at dksX3_fine_0 12 rfl rfl)
theorem dX3_fine_15 : decode cX3_fine 15 = .ok (.iconst 2, 1) := dk_5 (dk_at dksX3_fine_0 15 rfl rfl)
theorem dX3_fine_16 : decode cX3_fine 16 = .ok (.iaload, 1) := dk_46 (dk_at dksX3_fine_0 16 rfl rfl)
theorem dX3_fine_17 : decode cX3_fine 17 = .ok (.iastore, 1) := dk_79 (dk_at dksX3_fine_0 17 rfl rfl)
theorem dX3_fine_18 : decode cX3_fine 18 = .ok (.aload_n 0, 1) := dk_42 (dk_at dksX3_fine_0 18 rfl rfl)
theorem dX3_fine_19 : decode cX3_fine 19 = .ok (.getfield 54, 3) := dk_180 0 54 (dk_at dksX3_fine_0 19 rfl rfl)
theorem dX3_fine_22 : decode cX3_fine 22 = .ok (.iconst 1, 1) := dk_4 (dk_at dksX3_fine_0 22 rfl rfl)
theorem dX3_fine_23 : decode cX3_fine 23 = .ok (.aload_n 0, 1) := dk_42 (dk_at dksX3_fine_0 23 rfl rfl)
theorem dX3_fine_24 : decode cX3_fine 24 = .ok (.invokevirtual 189, 3) := dk_182 0 189 (dk_at dksX3_fine_1 0 rfl rfl)
theorem dX3_fine_27 : decode cX3_fine 27 = .ok (.iastore, 1) := dk_79 (dk_at dksX3_fine_1 3 rfl rfl)
theorem dX3_fine_28 : decode cX3_fine 28 = .ok (.iload_n 1, 1) := dk_27 (dk_at dksX3_fine_1 4 rfl rfl)
theorem dX3_fine_29 : decode cX3_fine 29 = .ok (.ifCond .ge 10, 3) := dk_156 0 10 (dk_at dksX3_fine_1 5 rfl rfl)
theorem dX3_fine_32 : decode cX3_fine 32 = .ok (.aload_n 0, 1) := dk_42 (dk_at dksX3_fine_1 8 rfl rfl)
theorem dX3_fine_33 : decode cX3_fine 33 = .ok (.invokevirtual 189, 3) := dk_182 0 189 (dk_at dksX3_fine_1 9 rfl rfl)
theorem dX3_fine_36 : decode cX3_fine 36 = .ok (.goto 8, 3) := dk_167 0 8 (dk_at dksX3_fine_1 12 rfl rfl)
theorem dX3_fine_39 : decode cX3_fine 39 = .ok (.aload_n 0, 1) := dk_42 (dk_at dksX3_fine_1 15 rfl rfl)
theorem dX3_fine_40 : decode cX3_fine 40 = .ok (.iload_n 1, 1) := dk_27 (dk_at dksX3_fine_1 16 rfl rfl)
theorem dX3_fine_41 : decode cX3_fine 41 = .ok (.invokevirtual 132, 3) := dk_182 0 132 (dk_at dksX3_fine_1 17 rfl rfl)
theorem dX3_fine_44 : decode cX3_fine 44 = .ok (.ireturn, 1) := dk_172 (dk_at dksX3_fine_1 20 rfl rfl)
abbrev cX3_worn : ByteArray := prog_22_method_52_code
def yX3_worn : MethodName := ⟨RX3, "worn", "(II)I"⟩
def dkwX3_worn_2 : List UInt8 := [104, 28, 96, 79, 42, 180, 0, 9, 7, 92, 46, 4, 96, 79, 42, 180, 0, 9, 7, 46, 172]
abbrev dktX3_worn_2 : List UInt8 := dkwX3_worn_2 ++ []
def dkwX3_worn_1 : List UInt8 := [16, 10, 160, 0, 6, 18, 94, 172, 42, 180, 0, 9, 16, 6, 42, 180, 0, 9, 7, 46, 96, 16, 10, 27]
abbrev dktX3_worn_1 : List UInt8 := dkwX3_worn_1 ++ dktX3_worn_2
def dkwX3_worn_0 : List UInt8 := [27, 184, 0, 198, 153, 0, 10, 28, 184, 0, 198, 154, 0, 6, 18, 93, 172, 42, 180, 0, 9, 7, 46]
abbrev dktX3_worn_0 : List UInt8 := dkwX3_worn_0 ++ dktX3_worn_1
theorem dksX3_worn_0 : cX3_worn.data.toList.drop 0 = dktX3_worn_0 := by decide +kernel
theorem dksX3_worn_1 : cX3_worn.data.toList.drop 23 = dktX3_worn_1 := dk_seg dksX3_worn_0 23 rfl rfl
theorem dksX3_worn_2 : cX3_worn.data.toList.drop 47 = dktX3_worn_2 := dk_seg dksX3_worn_1 24 rfl rfl
theorem dX3_worn_0 : decode cX3_worn 0 = .ok (.iload_n 1, 1) := dk_27 (dk_at dksX3_worn_0 0 rfl rfl)
theorem dX3_worn_1 : decode cX3_worn 1 = .ok (.invokestatic 198, 3) := dk_184 0 198 (dk_at dksX3_worn_0 1 rfl rfl)
theorem dX3_worn_4 : decode cX3_worn 4 = .ok (.ifCond .eq 10, 3) := dk_153 0 10 (dk_at dksX3_worn_0 4 rfl rfl)
theorem dX3_worn_7 : decode cX3_worn 7 = .ok (.iload_n 2, 1) := dk_28 (dk_at dksX3_worn_0 7 rfl rfl)
theorem dX3_worn_8 : decode cX3_worn 8 = .ok (.invokestatic 198, 3) := dk_184 0 198 (dk_at dksX3_worn_0 8 rfl rfl)
theorem dX3_worn_11 : decode cX3_worn 11 = .ok (.ifCond .ne 6, 3) := dk_154 0 6 (dk_at dksX3_worn_0 11 rfl rfl)
theorem dX3_worn_14 : decode cX3_worn 14 = .ok (.ldc 93, 2) := dk_18 93 (dk_at dksX3_worn_0 14 rfl rfl)
theorem dX3_worn_16 : decode cX3_worn 16 = .ok (.ireturn, 1) := dk_172 (dk_at dksX3_worn_0 16 rfl rfl)
theorem dX3_worn_17 : decode cX3_worn 17 = .ok (.aload_n 0, 1) := dk_42 (dk_at dksX3_worn_0 17 rfl rfl)
theorem dX3_worn_18 : decode cX3_worn 18 = .ok (.getfield 9, 3) := dk_180 0 9 (dk_at dksX3_worn_0 18 rfl rfl)
theorem dX3_worn_21 : decode cX3_worn 21 = .ok (.iconst 4, 1) := dk_7 (dk_at dksX3_worn_0 21 rfl rfl)
theorem dX3_worn_22 : decode cX3_worn 22 = .ok (.iaload, 1) := dk_46 (dk_at dksX3_worn_0 22 rfl rfl)
theorem dX3_worn_23 : decode cX3_worn 23 = .ok (.bipush 10, 2) := dk_16 10 (dk_at dksX3_worn_1 0 rfl rfl)
theorem dX3_worn_25 : decode cX3_worn 25 = .ok (.if_icmp .ne 6, 3) := dk_160 0 6 (dk_at dksX3_worn_1 2 rfl rfl)
theorem dX3_worn_28 : decode cX3_worn 28 = .ok (.ldc 94, 2) := dk_18 94 (dk_at dksX3_worn_1 5 rfl rfl)
theorem dX3_worn_30 : decode cX3_worn 30 = .ok (.ireturn, 1) := dk_172 (dk_at dksX3_worn_1 7 rfl rfl)
theorem dX3_worn_31 : decode cX3_worn 31 = .ok (.aload_n 0, 1) := dk_42 (dk_at dksX3_worn_1 8 rfl rfl)
theorem dX3_worn_32 : decode cX3_worn 32 = .ok (.getfield 9, 3) := dk_180 0 9 (dk_at dksX3_worn_1 9 rfl rfl)
theorem dX3_worn_35 : decode cX3_worn 35 = .ok (.bipush 6, 2) := dk_16 6 (dk_at dksX3_worn_1 12 rfl rfl)
theorem dX3_worn_37 : decode cX3_worn 37 = .ok (.aload_n 0, 1) := dk_42 (dk_at dksX3_worn_1 14 rfl rfl)
theorem dX3_worn_38 : decode cX3_worn 38 = .ok (.getfield 9, 3) := dk_180 0 9 (dk_at dksX3_worn_1 15 rfl rfl)
theorem dX3_worn_41 : decode cX3_worn 41 = .ok (.iconst 4, 1) := dk_7 (dk_at dksX3_worn_1 18 rfl rfl)
theorem dX3_worn_42 : decode cX3_worn 42 = .ok (.iaload, 1) := dk_46 (dk_at dksX3_worn_1 19 rfl rfl)
theorem dX3_worn_43 : decode cX3_worn 43 = .ok (.iadd, 1) := dk_96 (dk_at dksX3_worn_1 20 rfl rfl)
theorem dX3_worn_44 : decode cX3_worn 44 = .ok (.bipush 10, 2) := dk_16 10 (dk_at dksX3_worn_1 21 rfl rfl)
theorem dX3_worn_46 : decode cX3_worn 46 = .ok (.iload_n 1, 1) := dk_27 (dk_at dksX3_worn_1 23 rfl rfl)
theorem dX3_worn_47 : decode cX3_worn 47 = .ok (.imul, 1) := dk_104 (dk_at dksX3_worn_2 0 rfl rfl)
theorem dX3_worn_48 : decode cX3_worn 48 = .ok (.iload_n 2, 1) := dk_28 (dk_at dksX3_worn_2 1 rfl rfl)
theorem dX3_worn_49 : decode cX3_worn 49 = .ok (.iadd, 1) := dk_96 (dk_at dksX3_worn_2 2 rfl rfl)
theorem dX3_worn_50 : decode cX3_worn 50 = .ok (.iastore, 1) := dk_79 (dk_at dksX3_worn_2 3 rfl rfl)
theorem dX3_worn_51 : decode cX3_worn 51 = .ok (.aload_n 0, 1) := dk_42 (dk_at dksX3_worn_2 4 rfl rfl)
theorem dX3_worn_52 : decode cX3_worn 52 = .ok (.getfield 9, 3) := dk_180 0 9 (dk_at dksX3_worn_2 5 rfl rfl)
theorem dX3_worn_55 : decode cX3_worn 55 = .ok (.iconst 4, 1) := dk_7 (dk_at dksX3_worn_2 8 rfl rfl)
theorem dX3_worn_56 : decode cX3_worn 56 = .ok (.dup2, 1) := dk_92 (dk_at dksX3_worn_2 9 rfl rfl)
theorem dX3_worn_57 : decode cX3_worn 57 = .ok (.iaload, 1) := dk_46 (dk_at dksX3_worn_2 10 rfl rfl)
theorem dX3_worn_58 : decode cX3_worn 58 = .ok (.iconst 1, 1) := dk_4 (dk_at dksX3_worn_2 11 rfl rfl)
theorem dX3_worn_59 : decode cX3_worn 59 = .ok (.iadd, 1) := dk_96 (dk_at dksX3_worn_2 12 rfl rfl)
theorem dX3_worn_60 : decode cX3_worn 60 = .ok (.iastore, 1) := dk_79 (dk_at dksX3_worn_2 13 rfl rfl)
theorem dX3_worn_61 : decode cX3_worn 61 = .ok (.aload_n 0, 1) := dk_42 (dk_at dksX3_worn_2 14 rfl rfl)
theorem dX3_worn_62 : decode cX3_worn 62 = .ok (.getfield 9, 3) := dk_180 0 9 (dk_at dksX3_worn_2 15 rfl rfl)
theorem dX3_worn_65 : decode cX3_worn 65 = .ok (.iconst 4, 1) := dk_7 (dk_at dksX3_worn_2 18 rfl rfl)
theorem dX3_worn_66 : decode cX3_worn 66 = .ok (.iaload, 1) := dk_46 (dk_at dksX3_worn_2 19 rfl rfl)
theorem dX3_worn_67 : decode cX3_worn 67 = .ok (.ireturn, 1) := dk_172 (dk_at dksX3_worn_2 20 rfl rfl)
abbrev cX3_isWord : ByteArray := prog_22_method_51_code
def yX3_isWord : MethodName := ⟨RX3, "isWord", "(I)Z"⟩
def dkwX3_isWord_0 : List UInt8 := [26, 3, 7, 184, 0, 85, 172]
abbrev dktX3_isWord_0 : List UInt8 := dkwX3_isWord_0 ++ []
theorem dksX3_isWord_0 : cX3_isWord.data.toList.drop 0 = dktX3_isWord_0 := by decide +kernel
theorem dX3_isWord_0 : decode cX3_isWord 0 = .ok (.iload_n 0, 1) := dk_26 (dk_at dksX3_isWord_0 0 rfl rfl)
theorem dX3_isWord_1 : decode cX3_isWord 1 = .ok (.iconst 0, 1) := dk_3 (dk_at dksX3_isWord_0 1 rfl rfl)
theorem dX3_isWord_2 : decode cX3_isWord 2 = .ok (.iconst 4, 1) := dk_7 (dk_at dksX3_isWord_0 2 rfl rfl)
theorem dX3_isWord_3 : decode cX3_isWord 3 = .ok (.invokestatic 85, 3) := dk_184 0 85 (dk_at dksX3_isWord_0 3 rfl rfl)
theorem dX3_isWord_6 : decode cX3_isWord 6 = .ok (.ireturn, 1) := dk_172 (dk_at dksX3_isWord_0 6 rfl rfl)
abbrev cX3_forget : ByteArray := prog_22_method_53_code
def yX3_forget : MethodName := ⟨RX3, "forget", "()I"⟩
def dkwX3_forget_0 : List UInt8 := [42, 7, 3, 182, 0, 116, 172]
abbrev dktX3_forget_0 : List UInt8 := dkwX3_forget_0 ++ []
theorem dksX3_forget_0 : cX3_forget.data.toList.drop 0 = dktX3_forget_0 := by decide +kernel
theorem dX3_forget_0 : decode cX3_forget 0 = .ok (.aload_n 0, 1) := dk_42 (dk_at dksX3_forget_0 0 rfl rfl)
theorem dX3_forget_1 : decode cX3_forget 1 = .ok (.iconst 4, 1) := dk_7 (dk_at dksX3_forget_0 1 rfl rfl)
theorem dX3_forget_2 : decode cX3_forget 2 = .ok (.iconst 0, 1) := dk_3 (dk_at dksX3_forget_0 2 rfl rfl)
theorem dX3_forget_3 : decode cX3_forget 3 = .ok (.invokevirtual 116, 3) := dk_182 0 116 (dk_at dksX3_forget_0 3 rfl rfl)
theorem dX3_forget_6 : decode cX3_forget 6 = .ok (.ireturn, 1) := dk_172 (dk_at dksX3_forget_0 6 rfl rfl)
abbrev cX3_joins : ByteArray := prog_22_method_57_code
def yX3_joins : MethodName := ⟨RX3, "joins", "()I"⟩
theorem dX3_joins_0 : decode cX3_joins 0 = .ok (.aload_n 0, 1) := by decide +kernel
theorem dX3_joins_1 : decode cX3_joins 1 = .ok (.invokevirtual 210, 3) := by decide +kernel
theorem dX3_joins_4 : decode cX3_joins 4 = .ok (.ireturn, 1) := by decide +kernel
abbrev cX3_findJoins : ByteArray := prog_22_method_56_code
def yX3_findJoins : MethodName := ⟨RX3, "findJoins", "()I"⟩
def dkwX3_findJoins_3 : List UInt8 := [167, 255, 230, 132, 2, 1, 167, 255, 204, 27, 172]
abbrev dktX3_findJoins_3 : List UInt8 := dkwX3_findJoins_3 ++ []
def dkwX3_findJoins_2 : List UInt8 := [162, 0, 27, 42, 180, 0, 28, 8, 29, 104, 28, 29, 184, 0, 204, 96, 92, 46, 4, 96, 79, 132, 3, 1]
abbrev dktX3_findJoins_2 : List UInt8 := dkwX3_findJoins_2 ++ dktX3_findJoins_3
def dkwX3_findJoins_1 : List UInt8 := [61, 28, 17, 12, 53, 162, 0, 51, 42, 28, 182, 0, 207, 153, 0, 37, 132, 1, 1, 3, 62, 29, 8]
abbrev dktX3_findJoins_1 : List UInt8 := dkwX3_findJoins_1 ++ dktX3_findJoins_2
def dkwX3_findJoins_0 : List UInt8 := [3, 60, 27, 16, 25, 162, 0, 16, 42, 180, 0, 28, 27, 3, 79, 132, 1, 1, 167, 255, 240, 3, 60, 3]
abbrev dktX3_findJoins_0 : List UInt8 := dkwX3_findJoins_0 ++ dktX3_findJoins_1
theorem dksX3_findJoins_0 : cX3_findJoins.data.toList.drop 0 = dktX3_findJoins_0 := by decide +kernel
theorem dksX3_findJoins_1 : cX3_findJoins.data.toList.drop 24 = dktX3_findJoins_1 := dk_seg dksX3_findJoins_0 24 rfl rfl
theorem dksX3_findJoins_2 : cX3_findJoins.data.toList.drop 47 = dktX3_findJoins_2 := dk_seg dksX3_findJoins_1 23 rfl rfl
theorem dksX3_findJoins_3 : cX3_findJoins.data.toList.drop 71 = dktX3_findJoins_3 := dk_seg dksX3_findJoins_2 24 rfl rfl
theorem dX3_findJoins_0 : decode cX3_findJoins 0 = .ok (.iconst 0, 1) := dk_3 (dk_at dksX3_findJoins_0 0 rfl rfl)
theorem dX3_findJoins_1 : decode cX3_findJoins 1 = .ok (.istore_n 1, 1) := dk_60 (dk_at dksX3_findJoins_0 1 rfl rfl)
theorem dX3_findJoins_2 : decode cX3_findJoins 2 = .ok (.iload_n 1, 1) := dk_27 (dk_at dksX3_findJoins_0 2 rfl rfl)
theorem dX3_findJoins_3 : decode cX3_findJoins 3 = .ok (.bipush 25, 2) := dk_16 25 (dk_at dksX3_findJoins_0 3 rfl rfl)
theorem dX3_findJoins_5 : decode cX3_findJoins 5 = .ok (.if_icmp .ge 16, 3) := dk_162 0 16 (dk_at dksX3_findJoins_0 5 rfl rfl)
theorem dX3_findJoins_8 : decode cX3_findJoins 8 = .ok (.aload_n 0, 1) := dk_42 (dk_at dksX3_findJoins_0 8 rfl rfl)
theorem dX3_findJoins_9 : decode cX3_findJoins 9 = .ok (.getfield 28, 3) := dk_180 0 28 (dk_at dksX3_findJoins_0 9 rfl rfl)
theorem dX3_findJoins_12 : decode cX3_findJoins 12 = .ok (.iload_n 1, 1) := dk_27 (dk_at dksX3_findJoins_0 12 rfl rfl)
theorem dX3_findJoins_13 : decode cX3_findJoins 13 = .ok (.iconst 0, 1) := dk_3 (dk_at dksX3_findJoins_0 13 rfl rfl)
theorem dX3_findJoins_14 : decode cX3_findJoins 14 = .ok (.iastore, 1) := dk_79 (dk_at dksX3_findJoins_0 14 rfl rfl)
theorem dX3_findJoins_15 : decode cX3_findJoins 15 = .ok (.iinc 1 1, 3) := dk_132 1 1 (dk_at dksX3_findJoins_0 15 rfl rfl)
theorem dX3_findJoins_18 : decode cX3_findJoins 18 = .ok (.goto (-16), 3) := dk_167 255 240 (dk_at dksX3_findJoins_0 18 rfl rfl)
theorem dX3_findJoins_21 : decode cX3_findJoins 21 = .ok (.iconst 0, 1) := dk_3 (dk_at dksX3_findJoins_0 21 rfl rfl)
theorem dX3_findJoins_22 : decode cX3_findJoins 22 = .ok (.istore_n 1, 1) := dk_60 (dk_at dksX3_findJoins_0 22 rfl rfl)
theorem dX3_findJoins_23 : decode cX3_findJoins 23 = .ok (.iconst 0, 1) := dk_3 (dk_at dksX3_findJoins_0 23 rfl rfl)
theorem dX3_findJoins_24 : decode cX3_findJoins 24 = .ok (.istore_n 2, 1) := dk_61 (dk_at dksX3_findJoins_1 0 rfl rfl)
theorem dX3_findJoins_25 : decode cX3_findJoins 25 = .ok (.iload_n 2, 1) := dk_28 (dk_at dksX3_findJoins_1 1 rfl rfl)
theorem dX3_findJoins_26 : decode cX3_findJoins 26 = .ok (.sipush 3125, 3) := dk_17 12 53 (dk_at dksX3_findJoins_1 2 rfl rfl)
theorem dX3_findJoins_29 : decode cX3_findJoins 29 = .ok (.if_icmp .ge 51, 3) := dk_162 0 51 (dk_at dksX3_findJoins_1 5 rfl rfl)
theorem dX3_findJoins_32 : decode cX3_findJoins 32 = .ok (.aload_n 0, 1) := dk_42 (dk_at dksX3_findJoins_1 8 rfl rfl)
theorem dX3_findJoins_33 : decode cX3_findJoins 33 = .ok (.iload_n 2, 1) := dk_28 (dk_at dksX3_findJoins_1 9 rfl rfl)
theorem dX3_findJoins_34 : decode cX3_findJoins 34 = .ok (.invokevirtual 207, 3) := dk_182 0 207 (dk_at dksX3_findJoins_1 10 rfl rfl)
theorem dX3_findJoins_37 : decode cX3_findJoins 37 = .ok (.ifCond .eq 37, 3) := dk_153 0 37 (dk_at dksX3_findJoins_1 13 rfl rfl)
theorem dX3_findJoins_40 : decode cX3_findJoins 40 = .ok (.iinc 1 1, 3) := dk_132 1 1 (dk_at dksX3_findJoins_1 16 rfl rfl)
theorem dX3_findJoins_43 : decode cX3_findJoins 43 = .ok (.iconst 0, 1) := dk_3 (dk_at dksX3_findJoins_1 19 rfl rfl)
theorem dX3_findJoins_44 : decode cX3_findJoins 44 = .ok (.istore_n 3, 1) := dk_62 (dk_at dksX3_findJoins_1 20 rfl rfl)
theorem dX3_findJoins_45 : decode cX3_findJoins 45 = .ok (.iload_n 3, 1) := dk_29 (dk_at dksX3_findJoins_1 21 rfl rfl)
theorem dX3_findJoins_46 : decode cX3_findJoins 46 = .ok (.iconst 5, 1) := dk_8 (dk_at dksX3_findJoins_1 22 rfl rfl)
theorem dX3_findJoins_47 : decode cX3_findJoins 47 = .ok (.if_icmp .ge 27, 3) := dk_162 0 27 (dk_at dksX3_findJoins_2 0 rfl rfl)
theorem dX3_findJoins_50 : decode cX3_findJoins 50 = .ok (.aload_n 0, 1) := dk_42 (dk_at dksX3_findJoins_2 3 rfl rfl)
theorem dX3_findJoins_51 : decode cX3_findJoins 51 = .ok (.getfield 28, 3) := dk_180 0 28 (dk_at dksX3_findJoins_2 4 rfl rfl)
theorem dX3_findJoins_54 : decode cX3_findJoins 54 = .ok (.iconst 5, 1) := dk_8 (dk_at dksX3_findJoins_2 7 rfl rfl)
theorem dX3_findJoins_55 : decode cX3_findJoins 55 = .ok (.iload_n 3, 1) := dk_29 (dk_at dksX3_findJoins_2 8 rfl rfl)
theorem dX3_findJoins_56 : decode cX3_findJoins 56 = .ok (.imul, 1) := dk_104 (dk_at dksX3_findJoins_2 9 rfl rfl)
theorem dX3_findJoins_57 : decode cX3_findJoins 57 = .ok (.iload_n 2, 1) := dk_28 (dk_at dksX3_findJoins_2 10 rfl rfl)
theorem dX3_findJoins_58 : decode cX3_findJoins 58 = .ok (.iload_n 3, 1) := dk_29 (dk_at dksX3_findJoins_2 11 rfl rfl)
theorem dX3_findJoins_59 : decode cX3_findJoins 59 = .ok (.invokestatic 204, 3) := dk_184 0 204 (dk_at dksX3_findJoins_2 12 rfl rfl)
theorem dX3_findJoins_62 : decode cX3_findJoins 62 = .ok (.iadd, 1) := dk_96 (dk_at dksX3_findJoins_2 15 rfl rfl)
theorem dX3_findJoins_63 : decode cX3_findJoins 63 = .ok (.dup2, 1) := dk_92 (dk_at dksX3_findJoins_2 16 rfl rfl)
theorem dX3_findJoins_64 : decode cX3_findJoins 64 = .ok (.iaload, 1) := dk_46 (dk_at dksX3_findJoins_2 17 rfl rfl)
theorem dX3_findJoins_65 : decode cX3_findJoins 65 = .ok (.iconst 1, 1) := dk_4 (dk_at dksX3_findJoins_2 18 rfl rfl)
theorem dX3_findJoins_66 : decode cX3_findJoins 66 = .ok (.iadd, 1) := dk_96 (dk_at dksX3_findJoins_2 19 rfl rfl)
theorem dX3_findJoins_67 : decode cX3_findJoins 67 = .ok (.iastore, 1) := dk_79 (dk_at dksX3_findJoins_2 20 rfl rfl)
theorem dX3_findJoins_68 : decode cX3_findJoins 68 = .ok (.iinc 3 1, 3) := dk_132 3 1 (dk_at dksX3_findJoins_2 21 rfl rfl)
theorem dX3_findJoins_71 : decode cX3_findJoins 71 = .ok (.goto (-26), 3) := dk_167 255 230 (dk_at dksX3_findJoins_3 0 rfl rfl)
theorem dX3_findJoins_74 : decode cX3_findJoins 74 = .ok (.iinc 2 1, 3) := dk_132 2 1 (dk_at dksX3_findJoins_3 3 rfl rfl)
theorem dX3_findJoins_77 : decode cX3_findJoins 77 = .ok (.goto (-52), 3) := dk_167 255 204 (dk_at dksX3_findJoins_3 6 rfl rfl)
theorem dX3_findJoins_80 : decode cX3_findJoins 80 = .ok (.iload_n 1, 1) := dk_27 (dk_at dksX3_findJoins_3 9 rfl rfl)
theorem dX3_findJoins_81 : decode cX3_findJoins 81 = .ok (.ireturn, 1) := dk_172 (dk_at dksX3_findJoins_3 10 rfl rfl)
abbrev cX3_holdsJoin : ByteArray := prog_22_method_55_code
def yX3_holdsJoin : MethodName := ⟨RX3, "holdsJoin", "(I)Z"⟩
def dkwX3_holdsJoin_4 : List UInt8 := [62, 132, 4, 1, 167, 255, 199, 29, 172]
abbrev dktX3_holdsJoin_4 : List UInt8 := dkwX3_holdsJoin_4 ++ []
def dkwX3_holdsJoin_3 : List UInt8 := [184, 0, 204, 42, 180, 0, 9, 16, 6, 21, 4, 96, 46, 16, 10, 112, 160, 0, 7, 4, 167, 0, 4, 3]
abbrev dktX3_holdsJoin_3 : List UInt8 := dkwX3_holdsJoin_3 ++ dktX3_holdsJoin_4
def dkwX3_holdsJoin_2 : List UInt8 := [7, 46, 162, 0, 52, 29, 153, 0, 48, 27, 42, 180, 0, 9, 16, 6, 21, 4, 96, 46, 16, 10, 108]
abbrev dktX3_holdsJoin_2 : List UInt8 := dkwX3_holdsJoin_2 ++ dktX3_holdsJoin_3
def dkwX3_holdsJoin_1 : List UInt8 := [167, 255, 238, 28, 16, 31, 160, 0, 7, 4, 167, 0, 4, 3, 62, 3, 54, 4, 21, 4, 42, 180, 0, 9]
abbrev dktX3_holdsJoin_1 : List UInt8 := dkwX3_holdsJoin_1 ++ dktX3_holdsJoin_2
def dkwX3_holdsJoin_0 : List UInt8 := [3, 61, 3, 62, 29, 8, 162, 0, 19, 28, 4, 27, 29, 184, 0, 204, 120, 128, 61, 132, 3, 1]
abbrev dktX3_holdsJoin_0 : List UInt8 := dkwX3_holdsJoin_0 ++ dktX3_holdsJoin_1
theorem dksX3_holdsJoin_0 : cX3_holdsJoin.data.toList.drop 0 = dktX3_holdsJoin_0 := by decide +kernel
theorem dksX3_holdsJoin_1 : cX3_holdsJoin.data.toList.drop 22 = dktX3_holdsJoin_1 := dk_seg dksX3_holdsJoin_0 22 rfl rfl
theorem dksX3_holdsJoin_2 : cX3_holdsJoin.data.toList.drop 46 = dktX3_holdsJoin_2 := dk_seg dksX3_holdsJoin_1 24 rfl rfl
theorem dksX3_holdsJoin_3 : cX3_holdsJoin.data.toList.drop 69 = dktX3_holdsJoin_3 := dk_seg dksX3_holdsJoin_2 23 rfl rfl
theorem dksX3_holdsJoin_4 : cX3_holdsJoin.data.toList.drop 93 = dktX3_holdsJoin_4 := dk_seg dksX3_holdsJoin_3 24 rfl rfl
theorem dX3_holdsJoin_0 : decode cX3_holdsJoin 0 = .ok (.iconst 0, 1) := dk_3 (dk_at dksX3_holdsJoin_0 0 rfl rfl)
theorem dX3_holdsJoin_1 : decode cX3_holdsJoin 1 = .ok (.istore_n 2, 1) := dk_61 (dk_at dksX3_holdsJoin_0 1 rfl rfl)
theorem dX3_holdsJoin_2 : decode cX3_holdsJoin 2 = .ok (.iconst 0, 1) := dk_3 (dk_at dksX3_holdsJoin_0 2 rfl rfl)
theorem dX3_holdsJoin_3 : decode cX3_holdsJoin 3 = .ok (.istore_n 3, 1) := dk_62 (dk_at dksX3_holdsJoin_0 3 rfl rfl)
theorem dX3_holdsJoin_4 : decode cX3_holdsJoin 4 = .ok (.iload_n 3, 1) := dk_29 (dk_at dksX3_holdsJoin_0 4 rfl rfl)
theorem dX3_holdsJoin_5 : decode cX3_holdsJoin 5 = .ok (.iconst 5, 1) := dk_8 (dk_at dksX3_holdsJoin_0 5 rfl rfl)
theorem dX3_holdsJoin_6 : decode cX3_holdsJoin 6 = .ok (.if_icmp .ge 19, 3) := dk_162 0 19 (dk_at dksX3_holdsJoin_0 6 rfl rfl)
theorem dX3_holdsJoin_9 : decode cX3_holdsJoin 9 = .ok (.iload_n 2, 1) := dk_28 (dk_at dksX3_holdsJoin_0 9 rfl rfl)
theorem dX3_holdsJoin_10 : decode cX3_holdsJoin 10 = .ok (.iconst 1, 1) := dk_4 (dk_at dksX3_holdsJoin_0 10 rfl rfl)
theorem dX3_holdsJoin_11 : decode cX3_holdsJoin 11 = .ok (.iload_n 1, 1) := dk_27 (dk_at dksX3_holdsJoin_0 11 rfl rfl)
theorem dX3_holdsJoin_12 : decode cX3_holdsJoin 12 = .ok (.iload_n 3, 1) := dk_29 (dk_at dksX3_holdsJoin_0 12 rfl rfl)
theorem dX3_holdsJoin_13 : decode cX3_holdsJoin 13 = .ok (.invokestatic 204, 3) := dk_184 0 204 (dk_at dksX3_holdsJoin_0 13 rfl rfl)
theorem dX3_holdsJoin_16 : decode cX3_holdsJoin 16 = .ok (.ishl, 1) := dk_120 (dk_at dksX3_holdsJoin_0 16 rfl rfl)
theorem dX3_holdsJoin_17 : decode cX3_holdsJoin 17 = .ok (.ior, 1) := dk_128 (dk_at dksX3_holdsJoin_0 17 rfl rfl)
theorem dX3_holdsJoin_18 : decode cX3_holdsJoin 18 = .ok (.istore_n 2, 1) := dk_61 (dk_at dksX3_holdsJoin_0 18 rfl rfl)
theorem dX3_holdsJoin_19 : decode cX3_holdsJoin 19 = .ok (.iinc 3 1, 3) := dk_132 3 1 (dk_at dksX3_holdsJoin_0 19 rfl rfl)
theorem dX3_holdsJoin_22 : decode cX3_holdsJoin 22 = .ok (.goto (-18), 3) := dk_167 255 238 (dk_at dksX3_holdsJoin_1 0 rfl rfl)
theorem dX3_holdsJoin_25 : decode cX3_holdsJoin 25 = .ok (.iload_n 2, 1) := dk_28 (dk_at dksX3_holdsJoin_1 3 rfl rfl)
theorem dX3_holdsJoin_26 : decode cX3_holdsJoin 26 = .ok (.bipush 31, 2) := dk_16 31 (dk_at dksX3_holdsJoin_1 4 rfl rfl)
theorem dX3_holdsJoin_28 : decode cX3_holdsJoin 28 = .ok (.if_icmp .ne 7, 3) := dk_160 0 7 (dk_at dksX3_holdsJoin_1 6 rfl rfl)
theorem dX3_holdsJoin_31 : decode cX3_holdsJoin 31 = .ok (.iconst 1, 1) := dk_4 (dk_at dksX3_holdsJoin_1 9 rfl rfl)
theorem dX3_holdsJoin_32 : decode cX3_holdsJoin 32 = .ok (.goto 4, 3) := dk_167 0 4 (dk_at dksX3_holdsJoin_1 10 rfl rfl)
theorem dX3_holdsJoin_35 : decode cX3_holdsJoin 35 = .ok (.iconst 0, 1) := dk_3 (dk_at dksX3_holdsJoin_1 13 rfl rfl)
theorem dX3_holdsJoin_36 : decode cX3_holdsJoin 36 = .ok (.istore_n 3, 1) := dk_62 (dk_at dksX3_holdsJoin_1 14 rfl rfl)
theorem dX3_holdsJoin_37 : decode cX3_holdsJoin 37 = .ok (.iconst 0, 1) := dk_3 (dk_at dksX3_holdsJoin_1 15 rfl rfl)
theorem dX3_holdsJoin_38 : decode cX3_holdsJoin 38 = .ok (.istore 4, 2) := dk_54 4 (dk_at dksX3_holdsJoin_1 16 rfl rfl)
theorem dX3_holdsJoin_40 : decode cX3_holdsJoin 40 = .ok (.iload 4, 2) := dk_21 4 (dk_at dksX3_holdsJoin_1 18 rfl rfl)
theorem dX3_holdsJoin_42 : decode cX3_holdsJoin 42 = .ok (.aload_n 0, 1) := dk_42 (dk_at dksX3_holdsJoin_1 20 rfl rfl)
theorem dX3_holdsJoin_43 : decode cX3_holdsJoin 43 = .ok (.getfield 9, 3) := dk_180 0 9 (dk_at dksX3_holdsJoin_1 21 rfl rfl)
theorem dX3_holdsJoin_46 : decode cX3_holdsJoin 46 = .ok (.iconst 4, 1) := dk_7 (dk_at dksX3_holdsJoin_2 0 rfl rfl)
theorem dX3_holdsJoin_47 : decode cX3_holdsJoin 47 = .ok (.iaload, 1) := dk_46 (dk_at dksX3_holdsJoin_2 1 rfl rfl)
theorem dX3_holdsJoin_48 : decode cX3_holdsJoin 48 = .ok (.if_icmp .ge 52, 3) := dk_162 0 52 (dk_at dksX3_holdsJoin_2 2 rfl rfl)
theorem dX3_holdsJoin_51 : decode cX3_holdsJoin 51 = .ok (.iload_n 3, 1) := dk_29 (dk_at dksX3_holdsJoin_2 5 rfl rfl)
theorem dX3_holdsJoin_52 : decode cX3_holdsJoin 52 = .ok (.ifCond .eq 48, 3) := dk_153 0 48 (dk_at dksX3_holdsJoin_2 6 rfl rfl)
theorem dX3_holdsJoin_55 : decode cX3_holdsJoin 55 = .ok (.iload_n 1, 1) := dk_27 (dk_at dksX3_holdsJoin_2 9 rfl rfl)
theorem dX3_holdsJoin_56 : decode cX3_holdsJoin 56 = .ok (.aload_n 0, 1) := dk_42 (dk_at dksX3_holdsJoin_2 10 rfl rfl)
theorem dX3_holdsJoin_57 : decode cX3_holdsJoin 57 = .ok (.getfield 9, 3) := dk_180 0 9 (dk_at dksX3_holdsJoin_2 11 rfl rfl)
theorem dX3_holdsJoin_60 : decode cX3_holdsJoin 60 = .ok (.bipush 6, 2) := dk_16 6 (dk_at dksX3_holdsJoin_2 14 rfl rfl)
theorem dX3_holdsJoin_62 : decode cX3_holdsJoin 62 = .ok (.iload 4, 2) := dk_21 4 (dk_at dksX3_holdsJoin_2 16 rfl rfl)
theorem dX3_holdsJoin_64 : decode cX3_holdsJoin 64 = .ok (.iadd, 1) := dk_96 (dk_at dksX3_holdsJoin_2 18 rfl rfl)
theorem dX3_holdsJoin_65 : decode cX3_holdsJoin 65 = .ok (.iaload, 1) := dk_46 (dk_at dksX3_holdsJoin_2 19 rfl rfl)
theorem dX3_holdsJoin_66 : decode cX3_holdsJoin 66 = .ok (.bipush 10, 2) := dk_16 10 (dk_at dksX3_holdsJoin_2 20 rfl rfl)
theorem dX3_holdsJoin_68 : decode cX3_holdsJoin 68 = .ok (.idiv, 1) := dk_108 (dk_at dksX3_holdsJoin_2 22 rfl rfl)
theorem dX3_holdsJoin_69 : decode cX3_holdsJoin 69 = .ok (.invokestatic 204, 3) := dk_184 0 204 (dk_at dksX3_holdsJoin_3 0 rfl rfl)
theorem dX3_holdsJoin_72 : decode cX3_holdsJoin 72 = .ok (.aload_n 0, 1) := dk_42 (dk_at dksX3_holdsJoin_3 3 rfl rfl)
theorem dX3_holdsJoin_73 : decode cX3_holdsJoin 73 = .ok (.getfield 9, 3) := dk_180 0 9 (dk_at dksX3_holdsJoin_3 4 rfl rfl)
theorem dX3_holdsJoin_76 : decode cX3_holdsJoin 76 = .ok (.bipush 6, 2) := dk_16 6 (dk_at dksX3_holdsJoin_3 7 rfl rfl)
theorem dX3_holdsJoin_78 : decode cX3_holdsJoin 78 = .ok (.iload 4, 2) := dk_21 4 (dk_at dksX3_holdsJoin_3 9 rfl rfl)
theorem dX3_holdsJoin_80 : decode cX3_holdsJoin 80 = .ok (.iadd, 1) := dk_96 (dk_at dksX3_holdsJoin_3 11 rfl rfl)
theorem dX3_holdsJoin_81 : decode cX3_holdsJoin 81 = .ok (.iaload, 1) := dk_46 (dk_at dksX3_holdsJoin_3 12 rfl rfl)
theorem dX3_holdsJoin_82 : decode cX3_holdsJoin 82 = .ok (.bipush 10, 2) := dk_16 10 (dk_at dksX3_holdsJoin_3 13 rfl rfl)
theorem dX3_holdsJoin_84 : decode cX3_holdsJoin 84 = .ok (.irem, 1) := dk_112 (dk_at dksX3_holdsJoin_3 15 rfl rfl)
theorem dX3_holdsJoin_85 : decode cX3_holdsJoin 85 = .ok (.if_icmp .ne 7, 3) := dk_160 0 7 (dk_at dksX3_holdsJoin_3 16 rfl rfl)
theorem dX3_holdsJoin_88 : decode cX3_holdsJoin 88 = .ok (.iconst 1, 1) := dk_4 (dk_at dksX3_holdsJoin_3 19 rfl rfl)
theorem dX3_holdsJoin_89 : decode cX3_holdsJoin 89 = .ok (.goto 4, 3) := dk_167 0 4 (dk_at dksX3_holdsJoin_3 20 rfl rfl)
theorem dX3_holdsJoin_92 : decode cX3_holdsJoin 92 = .ok (.iconst 0, 1) := dk_3 (dk_at dksX3_holdsJoin_3 23 rfl rfl)
theorem dX3_holdsJoin_93 : decode cX3_holdsJoin 93 = .ok (.istore_n 3, 1) := dk_62 (dk_at dksX3_holdsJoin_4 0 rfl rfl)
theorem dX3_holdsJoin_94 : decode cX3_holdsJoin 94 = .ok (.iinc 4 1, 3) := dk_132 4 1 (dk_at dksX3_holdsJoin_4 1 rfl rfl)
theorem dX3_holdsJoin_97 : decode cX3_holdsJoin 97 = .ok (.goto (-57), 3) := dk_167 255 199 (dk_at dksX3_holdsJoin_4 4 rfl rfl)
theorem dX3_holdsJoin_100 : decode cX3_holdsJoin 100 = .ok (.iload_n 3, 1) := dk_29 (dk_at dksX3_holdsJoin_4 7 rfl rfl)
theorem dX3_holdsJoin_101 : decode cX3_holdsJoin 101 = .ok (.ireturn, 1) := dk_172 (dk_at dksX3_holdsJoin_4 8 rfl rfl)
abbrev cX3_gives : ByteArray := prog_22_method_54_code
def yX3_gives : MethodName := ⟨RX3, "gives", "(II)I"⟩
def dkwX3_gives_0 : List UInt8 := [26, 178, 0, 201, 27, 46, 108, 8, 112, 172]
abbrev dktX3_gives_0 : List UInt8 := dkwX3_gives_0 ++ []
theorem dksX3_gives_0 : cX3_gives.data.toList.drop 0 = dktX3_gives_0 := by decide +kernel
theorem dX3_gives_0 : decode cX3_gives 0 = .ok (.iload_n 0, 1) := dk_26 (dk_at dksX3_gives_0 0 rfl rfl)
theorem dX3_gives_1 : decode cX3_gives 1 = .ok (.getstatic 201, 3) := dk_178 0 201 (dk_at dksX3_gives_0 1 rfl rfl)
theorem dX3_gives_4 : decode cX3_gives 4 = .ok (.iload_n 1, 1) := dk_27 (dk_at dksX3_gives_0 4 rfl rfl)
theorem dX3_gives_5 : decode cX3_gives 5 = .ok (.iaload, 1) := dk_46 (dk_at dksX3_gives_0 5 rfl rfl)
theorem dX3_gives_6 : decode cX3_gives 6 = .ok (.idiv, 1) := dk_108 (dk_at dksX3_gives_0 6 rfl rfl)
theorem dX3_gives_7 : decode cX3_gives 7 = .ok (.iconst 5, 1) := dk_8 (dk_at dksX3_gives_0 7 rfl rfl)
theorem dX3_gives_8 : decode cX3_gives 8 = .ok (.irem, 1) := dk_112 (dk_at dksX3_gives_0 8 rfl rfl)
theorem dX3_gives_9 : decode cX3_gives 9 = .ok (.ireturn, 1) := dk_172 (dk_at dksX3_gives_0 9 rfl rfl)
abbrev cX3_sure : ByteArray := prog_22_method_58_code
def yX3_sure : MethodName := ⟨RX3, "sure", "(I)I"⟩
def dkwX3_sure_2 : List UInt8 := [167, 0, 4, 29, 62, 132, 4, 1, 167, 255, 221, 29, 172]
abbrev dktX3_sure_2 : List UInt8 := dkwX3_sure_2 ++ []
def dkwX3_sure_1 : List UInt8 := [162, 0, 35, 28, 158, 0, 31, 42, 180, 0, 28, 8, 27, 104, 21, 4, 96, 46, 28, 160, 0, 8, 21, 4]
abbrev dktX3_sure_1 : List UInt8 := dkwX3_sure_1 ++ dktX3_sure_2
def dkwX3_sure_0 : List UInt8 := [27, 184, 0, 198, 154, 0, 6, 18, 93, 172, 42, 182, 0, 210, 61, 18, 84, 62, 3, 54, 4, 21, 4, 8]
abbrev dktX3_sure_0 : List UInt8 := dkwX3_sure_0 ++ dktX3_sure_1
theorem dksX3_sure_0 : cX3_sure.data.toList.drop 0 = dktX3_sure_0 := by decide +kernel
theorem dksX3_sure_1 : cX3_sure.data.toList.drop 24 = dktX3_sure_1 := dk_seg dksX3_sure_0 24 rfl rfl
theorem dksX3_sure_2 : cX3_sure.data.toList.drop 48 = dktX3_sure_2 := dk_seg dksX3_sure_1 24 rfl rfl
theorem dX3_sure_0 : decode cX3_sure 0 = .ok (.iload_n 1, 1) := dk_27 (dk_at dksX3_sure_0 0 rfl rfl)
theorem dX3_sure_1 : decode cX3_sure 1 = .ok (.invokestatic 198, 3) := dk_184 0 198 (dk_at dksX3_sure_0 1 rfl rfl)
theorem dX3_sure_4 : decode cX3_sure 4 = .ok (.ifCond .ne 6, 3) := dk_154 0 6 (dk_at dksX3_sure_0 4 rfl rfl)
theorem dX3_sure_7 : decode cX3_sure 7 = .ok (.ldc 93, 2) := dk_18 93 (dk_at dksX3_sure_0 7 rfl rfl)
theorem dX3_sure_9 : decode cX3_sure 9 = .ok (.ireturn, 1) := dk_172 (dk_at dksX3_sure_0 9 rfl rfl)
theorem dX3_sure_10 : decode cX3_sure 10 = .ok (.aload_n 0, 1) := dk_42 (dk_at dksX3_sure_0 10 rfl rfl)
theorem dX3_sure_11 : decode cX3_sure 11 = .ok (.invokevirtual 210, 3) := dk_182 0 210 (dk_at dksX3_sure_0 11 rfl rfl)
theorem dX3_sure_14 : decode cX3_sure 14 = .ok (.istore_n 2, 1) := dk_61 (dk_at dksX3_sure_0 14 rfl rfl)
theorem dX3_sure_15 : decode cX3_sure 15 = .ok (.ldc 84, 2) := dk_18 84 (dk_at dksX3_sure_0 15 rfl rfl)
theorem dX3_sure_17 : decode cX3_sure 17 = .ok (.istore_n 3, 1) := dk_62 (dk_at dksX3_sure_0 17 rfl rfl)
theorem dX3_sure_18 : decode cX3_sure 18 = .ok (.iconst 0, 1) := dk_3 (dk_at dksX3_sure_0 18 rfl rfl)
theorem dX3_sure_19 : decode cX3_sure 19 = .ok (.istore 4, 2) := dk_54 4 (dk_at dksX3_sure_0 19 rfl rfl)
theorem dX3_sure_21 : decode cX3_sure 21 = .ok (.iload 4, 2) := dk_21 4 (dk_at dksX3_sure_0 21 rfl rfl)
theorem dX3_sure_23 : decode cX3_sure 23 = .ok (.iconst 5, 1) := dk_8 (dk_at dksX3_sure_0 23 rfl rfl)
theorem dX3_sure_24 : decode cX3_sure 24 = .ok (.if_icmp .ge 35, 3) := dk_162 0 35 (dk_at dksX3_sure_1 0 rfl rfl)
theorem dX3_sure_27 : decode cX3_sure 27 = .ok (.iload_n 2, 1) := dk_28 (dk_at dksX3_sure_1 3 rfl rfl)
theorem dX3_sure_28 : decode cX3_sure 28 = .ok (.ifCond .le 31, 3) := dk_158 0 31 (dk_at dksX3_sure_1 4 rfl rfl)
theorem dX3_sure_31 : decode cX3_sure 31 = .ok (.aload_n 0, 1) := dk_42 (dk_at dksX3_sure_1 7 rfl rfl)
theorem dX3_sure_32 : decode cX3_sure 32 = .ok (.getfield 28, 3) := dk_180 0 28 (dk_at dksX3_sure_1 8 rfl rfl)
theorem dX3_sure_35 : decode cX3_sure 35 = .ok (.iconst 5, 1) := dk_8 (dk_at dksX3_sure_1 11 rfl rfl)
theorem dX3_sure_36 : decode cX3_sure 36 = .ok (.iload_n 1, 1) := dk_27 (dk_at dksX3_sure_1 12 rfl rfl)
theorem dX3_sure_37 : decode cX3_sure 37 = .ok (.imul, 1) := dk_104 (dk_at dksX3_sure_1 13 rfl rfl)
theorem dX3_sure_38 : decode cX3_sure 38 = .ok (.iload 4, 2) := dk_21 4 (dk_at dksX3_sure_1 14 rfl rfl)
theorem dX3_sure_40 : decode cX3_sure 40 = .ok (.iadd, 1) := dk_96 (dk_at dksX3_sure_1 16 rfl rfl)
theorem dX3_sure_41 : decode cX3_sure 41 = .ok (.iaload, 1) := dk_46 (dk_at dksX3_sure_1 17 rfl rfl)
theorem dX3_sure_42 : decode cX3_sure 42 = .ok (.iload_n 2, 1) := dk_28 (dk_at dksX3_sure_1 18 rfl rfl)
theorem dX3_sure_43 : decode cX3_sure 43 = .ok (.if_icmp .ne 8, 3) := dk_160 0 8 (dk_at dksX3_sure_1 19 rfl rfl)
theorem dX3_sure_46 : decode cX3_sure 46 = .ok (.iload 4, 2) := dk_21 4 (dk_at dksX3_sure_1 22 rfl rfl)
theorem dX3_sure_48 : decode cX3_sure 48 = .ok (.goto 4, 3) := dk_167 0 4 (dk_at dksX3_sure_2 0 rfl rfl)
theorem dX3_sure_51 : decode cX3_sure 51 = .ok (.iload_n 3, 1) := dk_29 (dk_at dksX3_sure_2 3 rfl rfl)
theorem dX3_sure_52 : decode cX3_sure 52 = .ok (.istore_n 3, 1) := dk_62 (dk_at dksX3_sure_2 4 rfl rfl)
theorem dX3_sure_53 : decode cX3_sure 53 = .ok (.iinc 4 1, 3) := dk_132 4 1 (dk_at dksX3_sure_2 5 rfl rfl)
theorem dX3_sure_56 : decode cX3_sure 56 = .ok (.goto (-35), 3) := dk_167 255 221 (dk_at dksX3_sure_2 8 rfl rfl)
theorem dX3_sure_59 : decode cX3_sure 59 = .ok (.iload_n 3, 1) := dk_29 (dk_at dksX3_sure_2 11 rfl rfl)
theorem dX3_sure_60 : decode cX3_sure 60 = .ok (.ireturn, 1) := dk_172 (dk_at dksX3_sure_2 12 rfl rfl)
abbrev cX3_better : ByteArray := prog_22_method_59_code
def yX3_better : MethodName := ⟨RX3, "better", "(I)I"⟩
def dkwX3_better_5 : List UInt8 := [132, 4, 1, 167, 255, 163, 27, 154, 0, 7, 28, 167, 0, 4, 29, 172]
abbrev dktX3_better_5 : List UInt8 := dkwX3_better_5 ++ []
def dkwX3_better_4 : List UInt8 := [162, 0, 8, 21, 4, 167, 0, 4, 28, 61, 28, 21, 4, 160, 0, 8, 21, 5, 167, 0, 4, 29, 62]
abbrev dktX3_better_4 : List UInt8 := dkwX3_better_4 ++ dktX3_better_5
def dkwX3_better_3 : List UInt8 := [21, 6, 96, 46, 167, 0, 5, 21, 5, 54, 5, 132, 6, 1, 167, 255, 211, 28, 155, 0, 9, 21, 5, 29]
abbrev dktX3_better_3 : List UInt8 := dkwX3_better_3 ++ dktX3_better_4
def dkwX3_better_2 : List UInt8 := [180, 0, 28, 8, 21, 4, 104, 21, 6, 96, 46, 21, 5, 164, 0, 18, 42, 180, 0, 28, 8, 21, 4, 104]
abbrev dktX3_better_2 : List UInt8 := dkwX3_better_2 ++ dktX3_better_3
def dkwX3_better_1 : List UInt8 := [3, 62, 3, 54, 4, 21, 4, 8, 162, 0, 93, 3, 54, 5, 3, 54, 6, 21, 6, 8, 162, 0, 45, 42]
abbrev dktX3_better_1 : List UInt8 := dkwX3_better_1 ++ dktX3_better_2
def dkwX3_better_0 : List UInt8 := [27, 3, 4, 184, 0, 85, 154, 0, 6, 18, 93, 172, 42, 182, 0, 210, 154, 0, 6, 18, 84, 172, 2, 61]
abbrev dktX3_better_0 : List UInt8 := dkwX3_better_0 ++ dktX3_better_1
theorem dksX3_better_0 : cX3_better.data.toList.drop 0 = dktX3_better_0 := by decide +kernel
theorem dksX3_better_1 : cX3_better.data.toList.drop 24 = dktX3_better_1 := dk_seg dksX3_better_0 24 rfl rfl
theorem dksX3_better_2 : cX3_better.data.toList.drop 48 = dktX3_better_2 := dk_seg dksX3_better_1 24 rfl rfl
theorem dksX3_better_3 : cX3_better.data.toList.drop 72 = dktX3_better_3 := dk_seg dksX3_better_2 24 rfl rfl
theorem dksX3_better_4 : cX3_better.data.toList.drop 96 = dktX3_better_4 := dk_seg dksX3_better_3 24 rfl rfl
theorem dksX3_better_5 : cX3_better.data.toList.drop 119 = dktX3_better_5 := dk_seg dksX3_better_4 23 rfl rfl
theorem dX3_better_0 : decode cX3_better 0 = .ok (.iload_n 1, 1) := dk_27 (dk_at dksX3_better_0 0 rfl rfl)
theorem dX3_better_1 : decode cX3_better 1 = .ok (.iconst 0, 1) := dk_3 (dk_at dksX3_better_0 1 rfl rfl)
theorem dX3_better_2 : decode cX3_better 2 = .ok (.iconst 1, 1) := dk_4 (dk_at dksX3_better_0 2 rfl rfl)
theorem dX3_better_3 : decode cX3_better 3 = .ok (.invokestatic 85, 3) := dk_184 0 85 (dk_at dksX3_better_0 3 rfl rfl)
theorem dX3_better_6 : decode cX3_better 6 = .ok (.ifCond .ne 6, 3) := dk_154 0 6 (dk_at dksX3_better_0 6 rfl rfl)
theorem dX3_better_9 : decode cX3_better 9 = .ok (.ldc 93, 2) := dk_18 93 (dk_at dksX3_better_0 9 rfl rfl)
theorem dX3_better_11 : decode cX3_better 11 = .ok (.ireturn, 1) := dk_172 (dk_at dksX3_better_0 11 rfl rfl)
theorem dX3_better_12 : decode cX3_better 12 = .ok (.aload_n 0, 1) := dk_42 (dk_at dksX3_better_0 12 rfl rfl)
theorem dX3_better_13 : decode cX3_better 13 = .ok (.invokevirtual 210, 3) := dk_182 0 210 (dk_at dksX3_better_0 13 rfl rfl)
theorem dX3_better_16 : decode cX3_better 16 = .ok (.ifCond .ne 6, 3) := dk_154 0 6 (dk_at dksX3_better_0 16 rfl rfl)
theorem dX3_better_19 : decode cX3_better 19 = .ok (.ldc 84, 2) := dk_18 84 (dk_at dksX3_better_0 19 rfl rfl)
theorem dX3_better_21 : decode cX3_better 21 = .ok (.ireturn, 1) := dk_172 (dk_at dksX3_better_0 21 rfl rfl)
theorem dX3_better_22 : decode cX3_better 22 = .ok (.iconst (-1), 1) := dk_2 (dk_at dksX3_better_0 22 rfl rfl)
theorem dX3_better_23 : decode cX3_better 23 = .ok (.istore_n 2, 1) := dk_61 (dk_at dksX3_better_0 23 rfl rfl)
theorem dX3_better_24 : decode cX3_better 24 = .ok (.iconst 0, 1) := dk_3 (dk_at dksX3_better_1 0 rfl rfl)
theorem dX3_better_25 : decode cX3_better 25 = .ok (.istore_n 3, 1) := dk_62 (dk_at dksX3_better_1 1 rfl rfl)
theorem dX3_better_26 : decode cX3_better 26 = .ok (.iconst 0, 1) := dk_3 (dk_at dksX3_better_1 2 rfl rfl)
theorem dX3_better_27 : decode cX3_better 27 = .ok (.istore 4, 2) := dk_54 4 (dk_at dksX3_better_1 3 rfl rfl)
theorem dX3_better_29 : decode cX3_better 29 = .ok (.iload 4, 2) := dk_21 4 (dk_at dksX3_better_1 5 rfl rfl)
theorem dX3_better_31 : decode cX3_better 31 = .ok (.iconst 5, 1) := dk_8 (dk_at dksX3_better_1 7 rfl rfl)
theorem dX3_better_32 : decode cX3_better 32 = .ok (.if_icmp .ge 93, 3) := dk_162 0 93 (dk_at dksX3_better_1 8 rfl rfl)
theorem dX3_better_35 : decode cX3_better 35 = .ok (.iconst 0, 1) := dk_3 (dk_at dksX3_better_1 11 rfl rfl)
theorem dX3_better_36 : decode cX3_better 36 = .ok (.istore 5, 2) := dk_54 5 (dk_at dksX3_better_1 12 rfl rfl)
theorem dX3_better_38 : decode cX3_better 38 = .ok (.iconst 0, 1) := dk_3 (dk_at dksX3_better_1 14 rfl rfl)
theorem dX3_better_39 : decode cX3_better 39 = .ok (.istore 6, 2) := dk_54 6 (dk_at dksX3_better_1 15 rfl rfl)
theorem dX3_better_41 : decode cX3_better 41 = .ok (.iload 6, 2) := dk_21 6 (dk_at dksX3_better_1 17 rfl rfl)
theorem dX3_better_43 : decode cX3_better 43 = .ok (.iconst 5, 1) := dk_8 (dk_at dksX3_better_1 19 rfl rfl)
theorem dX3_better_44 : decode cX3_better 44 = .ok (.if_icmp .ge 45, 3) := dk_162 0 45 (dk_at dksX3_better_1 20 rfl rfl)
theorem dX3_better_47 : decode cX3_better 47 = .ok (.aload_n 0, 1) := dk_42 (dk_at dksX3_better_1 23 rfl rfl)
theorem dX3_better_48 : decode cX3_better 48 = .ok (.getfield 28, 3) := dk_180 0 28 (dk_at dksX3_better_2 0 rfl rfl)
theorem dX3_better_51 : decode cX3_better 51 = .ok (.iconst 5, 1) := dk_8 (dk_at dksX3_better_2 3 rfl rfl)
theorem dX3_better_52 : decode cX3_better 52 = .ok (.iload 4, 2) := dk_21 4 (dk_at dksX3_better_2 4 rfl rfl)
theorem dX3_better_54 : decode cX3_better 54 = .ok (.imul, 1) := dk_104 (dk_at dksX3_better_2 6 rfl rfl)
theorem dX3_better_55 : decode cX3_better 55 = .ok (.iload 6, 2) := dk_21 6 (dk_at dksX3_better_2 7 rfl rfl)
theorem dX3_better_57 : decode cX3_better 57 = .ok (.iadd, 1) := dk_96 (dk_at dksX3_better_2 9 rfl rfl)
theorem dX3_better_58 : decode cX3_better 58 = .ok (.iaload, 1) := dk_46 (dk_at dksX3_better_2 10 rfl rfl)
theorem dX3_better_59 : decode cX3_better 59 = .ok (.iload 5, 2) := dk_21 5 (dk_at dksX3_better_2 11 rfl rfl)
theorem dX3_better_61 : decode cX3_better 61 = .ok (.if_icmp .le 18, 3) := dk_164 0 18 (dk_at dksX3_better_2 13 rfl rfl)
theorem dX3_better_64 : decode cX3_better 64 = .ok (.aload_n 0, 1) := dk_42 (dk_at dksX3_better_2 16 rfl rfl)
theorem dX3_better_65 : decode cX3_better 65 = .ok (.getfield 28, 3) := dk_180 0 28 (dk_at dksX3_better_2 17 rfl rfl)
theorem dX3_better_68 : decode cX3_better 68 = .ok (.iconst 5, 1) := dk_8 (dk_at dksX3_better_2 20 rfl rfl)
theorem dX3_better_69 : decode cX3_better 69 = .ok (.iload 4, 2) := dk_21 4 (dk_at dksX3_better_2 21 rfl rfl)
theorem dX3_better_71 : decode cX3_better 71 = .ok (.imul, 1) := dk_104 (dk_at dksX3_better_2 23 rfl rfl)
theorem dX3_better_72 : decode cX3_better 72 = .ok (.iload 6, 2) := dk_21 6 (dk_at dksX3_better_3 0 rfl rfl)
theorem dX3_better_74 : decode cX3_better 74 = .ok (.iadd, 1) := dk_96 (dk_at dksX3_better_3 2 rfl rfl)
theorem dX3_better_75 : decode cX3_better 75 = .ok (.iaload, 1) := dk_46 (dk_at dksX3_better_3 3 rfl rfl)
theorem dX3_better_76 : decode cX3_better 76 = .ok (.goto 5, 3) := dk_167 0 5 (dk_at dksX3_better_3 4 rfl rfl)
theorem dX3_better_79 : decode cX3_better 79 = .ok (.iload 5, 2) := dk_21 5 (dk_at dksX3_better_3 7 rfl rfl)
theorem dX3_better_81 : decode cX3_better 81 = .ok (.istore 5, 2) := dk_54 5 (dk_at dksX3_better_3 9 rfl rfl)
theorem dX3_better_83 : decode cX3_better 83 = .ok (.iinc 6 1, 3) := dk_132 6 1 (dk_at dksX3_better_3 11 rfl rfl)
theorem dX3_better_86 : decode cX3_better 86 = .ok (.goto (-45), 3) := dk_167 255 211 (dk_at dksX3_better_3 14 rfl rfl)
theorem dX3_better_89 : decode cX3_better 89 = .ok (.iload_n 2, 1) := dk_28 (dk_at dksX3_better_3 17 rfl rfl)
theorem dX3_better_90 : decode cX3_better 90 = .ok (.ifCond .lt 9, 3) := dk_155 0 9 (dk_at dksX3_better_3 18 rfl rfl)
theorem dX3_better_93 : decode cX3_better 93 = .ok (.iload 5, 2) := dk_21 5 (dk_at dksX3_better_3 21 rfl rfl)
theorem dX3_better_95 : decode cX3_better 95 = .ok (.iload_n 3, 1) := dk_29 (dk_at dksX3_better_3 23 rfl rfl)
theorem dX3_better_96 : decode cX3_better 96 = .ok (.if_icmp .ge 8, 3) := dk_162 0 8 (dk_at dksX3_better_4 0 rfl rfl)
theorem dX3_better_99 : decode cX3_better 99 = .ok (.iload 4, 2) := dk_21 4 (dk_at dksX3_better_4 3 rfl rfl)
theorem dX3_better_101 : decode cX3_better 101 = .ok (.goto 4, 3) := dk_167 0 4 (dk_at dksX3_better_4 5 rfl rfl)
theorem dX3_better_104 : decode cX3_better 104 = .ok (.iload_n 2, 1) := dk_28 (dk_at dksX3_better_4 8 rfl rfl)
theorem dX3_better_105 : decode cX3_better 105 = .ok (.istore_n 2, 1) := dk_61 (dk_at dksX3_better_4 9 rfl rfl)
theorem dX3_better_106 : decode cX3_better 106 = .ok (.iload_n 2, 1) := dk_28 (dk_at dksX3_better_4 10 rfl rfl)
theorem dX3_better_107 : decode cX3_better 107 = .ok (.iload 4, 2) := dk_21 4 (dk_at dksX3_better_4 11 rfl rfl)
theorem dX3_better_109 : decode cX3_better 109 = .ok (.if_icmp .ne 8, 3) := dk_160 0 8 (dk_at dksX3_better_4 13 rfl rfl)
theorem dX3_better_112 : decode cX3_better 112 = .ok (.iload 5, 2) := dk_21 5 (dk_at dksX3_better_4 16 rfl rfl)
theorem dX3_better_114 : decode cX3_better 114 = .ok (.goto 4, 3) := dk_167 0 4 (dk_at dksX3_better_4 18 rfl rfl)
theorem dX3_better_117 : decode cX3_better 117 = .ok (.iload_n 3, 1) := dk_29 (dk_at dksX3_better_4 21 rfl rfl)
theorem dX3_better_118 : decode cX3_better 118 = .ok (.istore_n 3, 1) := dk_62 (dk_at dksX3_better_4 22 rfl rfl)
theorem dX3_better_119 : decode cX3_better 119 = .ok (.iinc 4 1, 3) := dk_132 4 1 (dk_at dksX3_better_5 0 rfl rfl)
theorem dX3_better_122 : decode cX3_better 122 = .ok (.goto (-93), 3) := dk_167 255 163 (dk_at dksX3_better_5 3 rfl rfl)
theorem dX3_better_125 : decode cX3_better 125 = .ok (.iload_n 1, 1) := dk_27 (dk_at dksX3_better_5 6 rfl rfl)
theorem dX3_better_126 : decode cX3_better 126 = .ok (.ifCond .ne 7, 3) := dk_154 0 7 (dk_at dksX3_better_5 7 rfl rfl)
theorem dX3_better_129 : decode cX3_better 129 = .ok (.iload_n 2, 1) := dk_28 (dk_at dksX3_better_5 10 rfl rfl)
theorem dX3_better_130 : decode cX3_better 130 = .ok (.goto 4, 3) := dk_167 0 4 (dk_at dksX3_better_5 11 rfl rfl)
theorem dX3_better_133 : decode cX3_better 133 = .ok (.iload_n 3, 1) := dk_29 (dk_at dksX3_better_5 14 rfl rfl)
theorem dX3_better_134 : decode cX3_better 134 = .ok (.ireturn, 1) := dk_172 (dk_at dksX3_better_5 15 rfl rfl)
abbrev cX3_feed : ByteArray := prog_22_method_60_code
def yX3_feed : MethodName := ⟨RX3, "feed", "(III)I"⟩
def dkwX3_feed_4 : List UInt8 := [181, 0, 213, 42, 180, 0, 213, 172]
abbrev dktX3_feed_4 : List UInt8 := dkwX3_feed_4 ++ []
def dkwX3_feed_3 : List UInt8 := [104, 100, 122, 17, 0, 255, 126, 79, 132, 4, 1, 167, 255, 193, 42, 89, 180, 0, 213, 16, 12, 96]
abbrev dktX3_feed_3 : List UInt8 := dkwX3_feed_3 ++ dktX3_feed_4
def dkwX3_feed_2 : List UInt8 := [29, 54, 5, 42, 180, 0, 31, 42, 180, 0, 213, 21, 4, 96, 21, 5, 16, 24, 16, 8, 21, 4, 7, 112]
abbrev dktX3_feed_2 : List UInt8 := dkwX3_feed_2 ++ dktX3_feed_3
def dkwX3_feed_1 : List UInt8 := [162, 0, 62, 21, 4, 7, 162, 0, 7, 27, 167, 0, 15, 21, 4, 16, 8, 162, 0, 7, 28, 167, 0, 4]
abbrev dktX3_feed_1 : List UInt8 := dkwX3_feed_1 ++ dktX3_feed_2
def dkwX3_feed_0 : List UInt8 := [42, 180, 0, 213, 16, 12, 96, 16, 96, 164, 0, 6, 18, 94, 172, 3, 54, 4, 21, 4, 16, 12]
abbrev dktX3_feed_0 : List UInt8 := dkwX3_feed_0 ++ dktX3_feed_1
theorem dksX3_feed_0 : cX3_feed.data.toList.drop 0 = dktX3_feed_0 := by decide +kernel
theorem dksX3_feed_1 : cX3_feed.data.toList.drop 22 = dktX3_feed_1 := dk_seg dksX3_feed_0 22 rfl rfl
theorem dksX3_feed_2 : cX3_feed.data.toList.drop 46 = dktX3_feed_2 := dk_seg dksX3_feed_1 24 rfl rfl
theorem dksX3_feed_3 : cX3_feed.data.toList.drop 70 = dktX3_feed_3 := dk_seg dksX3_feed_2 24 rfl rfl
theorem dksX3_feed_4 : cX3_feed.data.toList.drop 92 = dktX3_feed_4 := dk_seg dksX3_feed_3 22 rfl rfl
theorem dX3_feed_0 : decode cX3_feed 0 = .ok (.aload_n 0, 1) := dk_42 (dk_at dksX3_feed_0 0 rfl rfl)
theorem dX3_feed_1 : decode cX3_feed 1 = .ok (.getfield 213, 3) := dk_180 0 213 (dk_at dksX3_feed_0 1 rfl rfl)
theorem dX3_feed_4 : decode cX3_feed 4 = .ok (.bipush 12, 2) := dk_16 12 (dk_at dksX3_feed_0 4 rfl rfl)
theorem dX3_feed_6 : decode cX3_feed 6 = .ok (.iadd, 1) := dk_96 (dk_at dksX3_feed_0 6 rfl rfl)
theorem dX3_feed_7 : decode cX3_feed 7 = .ok (.bipush 96, 2) := dk_16 96 (dk_at dksX3_feed_0 7 rfl rfl)
theorem dX3_feed_9 : decode cX3_feed 9 = .ok (.if_icmp .le 6, 3) := dk_164 0 6 (dk_at dksX3_feed_0 9 rfl rfl)
theorem dX3_feed_12 : decode cX3_feed 12 = .ok (.ldc 94, 2) := dk_18 94 (dk_at dksX3_feed_0 12 rfl rfl)
theorem dX3_feed_14 : decode cX3_feed 14 = .ok (.ireturn, 1) := dk_172 (dk_at dksX3_feed_0 14 rfl rfl)
theorem dX3_feed_15 : decode cX3_feed 15 = .ok (.iconst 0, 1) := dk_3 (dk_at dksX3_feed_0 15 rfl rfl)
theorem dX3_feed_16 : decode cX3_feed 16 = .ok (.istore 4, 2) := dk_54 4 (dk_at dksX3_feed_0 16 rfl rfl)
theorem dX3_feed_18 : decode cX3_feed 18 = .ok (.iload 4, 2) := dk_21 4 (dk_at dksX3_feed_0 18 rfl rfl)
theorem dX3_feed_20 : decode cX3_feed 20 = .ok (.bipush 12, 2) := dk_16 12 (dk_at dksX3_feed_0 20 rfl rfl)
theorem dX3_feed_22 : decode cX3_feed 22 = .ok (.if_icmp .ge 62, 3) := dk_162 0 62 (dk_at dksX3_feed_1 0 rfl rfl)
theorem dX3_feed_25 : decode cX3_feed 25 = .ok (.iload 4, 2) := dk_21 4 (dk_at dksX3_feed_1 3 rfl rfl)
theorem dX3_feed_27 : decode cX3_feed 27 = .ok (.iconst 4, 1) := dk_7 (dk_at dksX3_feed_1 5 rfl rfl)
theorem dX3_feed_28 : decode cX3_feed 28 = .ok (.if_icmp .ge 7, 3) := dk_162 0 7 (dk_at dksX3_feed_1 6 rfl rfl)
theorem dX3_feed_31 : decode cX3_feed 31 = .ok (.iload_n 1, 1) := dk_27 (dk_at dksX3_feed_1 9 rfl rfl)
theorem dX3_feed_32 : decode cX3_feed 32 = .ok (.goto 15, 3) := dk_167 0 15 (dk_at dksX3_feed_1 10 rfl rfl)
theorem dX3_feed_35 : decode cX3_feed 35 = .ok (.iload 4, 2) := dk_21 4 (dk_at dksX3_feed_1 13 rfl rfl)
theorem dX3_feed_37 : decode cX3_feed 37 = .ok (.bipush 8, 2) := dk_16 8 (dk_at dksX3_feed_1 15 rfl rfl)
theorem dX3_feed_39 : decode cX3_feed 39 = .ok (.if_icmp .ge 7, 3) := dk_162 0 7 (dk_at dksX3_feed_1 17 rfl rfl)
theorem dX3_feed_42 : decode cX3_feed 42 = .ok (.iload_n 2, 1) := dk_28 (dk_at dksX3_feed_1 20 rfl rfl)
theorem dX3_feed_43 : decode cX3_feed 43 = .ok (.goto 4, 3) := dk_167 0 4 (dk_at dksX3_feed_1 21 rfl rfl)
theorem dX3_feed_46 : decode cX3_feed 46 = .ok (.iload_n 3, 1) := dk_29 (dk_at dksX3_feed_2 0 rfl rfl)
theorem dX3_feed_47 : decode cX3_feed 47 = .ok (.istore 5, 2) := dk_54 5 (dk_at dksX3_feed_2 1 rfl rfl)
theorem dX3_feed_49 : decode cX3_feed 49 = .ok (.aload_n 0, 1) := dk_42 (dk_at dksX3_feed_2 3 rfl rfl)
theorem dX3_feed_50 : decode cX3_feed 50 = .ok (.getfield 31, 3) := dk_180 0 31 (dk_at dksX3_feed_2 4 rfl rfl)
theorem dX3_feed_53 : decode cX3_feed 53 = .ok (.aload_n 0, 1) := dk_42 (dk_at dksX3_feed_2 7 rfl rfl)
theorem dX3_feed_54 : decode cX3_feed 54 = .ok (.getfield 213, 3) := dk_180 0 213 (dk_at dksX3_feed_2 8 rfl rfl)
theorem dX3_feed_57 : decode cX3_feed 57 = .ok (.iload 4, 2) := dk_21 4 (dk_at dksX3_feed_2 11 rfl rfl)
theorem dX3_feed_59 : decode cX3_feed 59 = .ok (.iadd, 1) := dk_96 (dk_at dksX3_feed_2 13 rfl rfl)
theorem dX3_feed_60 : decode cX3_feed 60 = .ok (.iload 5, 2) := dk_21 5 (dk_at dksX3_feed_2 14 rfl rfl)
theorem dX3_feed_62 : decode cX3_feed 62 = .ok (.bipush 24, 2) := dk_16 24 (dk_at dksX3_feed_2 16 rfl rfl)
theorem dX3_feed_64 : decode cX3_feed 64 = .ok (.bipush 8, 2) := dk_16 8 (dk_at dksX3_feed_2 18 rfl rfl)
theorem dX3_feed_66 : decode cX3_feed 66 = .ok (.iload 4, 2) := dk_21 4 (dk_at dksX3_feed_2 20 rfl rfl)
theorem dX3_feed_68 : decode cX3_feed 68 = .ok (.iconst 4, 1) := dk_7 (dk_at dksX3_feed_2 22 rfl rfl)
theorem dX3_feed_69 : decode cX3_feed 69 = .ok (.irem, 1) := dk_112 (dk_at dksX3_feed_2 23 rfl rfl)
theorem dX3_feed_70 : decode cX3_feed 70 = .ok (.imul, 1) := dk_104 (dk_at dksX3_feed_3 0 rfl rfl)
theorem dX3_feed_71 : decode cX3_feed 71 = .ok (.isub, 1) := dk_100 (dk_at dksX3_feed_3 1 rfl rfl)
theorem dX3_feed_72 : decode cX3_feed 72 = .ok (.ishr, 1) := dk_122 (dk_at dksX3_feed_3 2 rfl rfl)
theorem dX3_feed_73 : decode cX3_feed 73 = .ok (.sipush 255, 3) := dk_17 0 255 (dk_at dksX3_feed_3 3 rfl rfl)
theorem dX3_feed_76 : decode cX3_feed 76 = .ok (.iand, 1) := dk_126 (dk_at dksX3_feed_3 6 rfl rfl)
theorem dX3_feed_77 : decode cX3_feed 77 = .ok (.iastore, 1) := dk_79 (dk_at dksX3_feed_3 7 rfl rfl)
theorem dX3_feed_78 : decode cX3_feed 78 = .ok (.iinc 4 1, 3) := dk_132 4 1 (dk_at dksX3_feed_3 8 rfl rfl)
theorem dX3_feed_81 : decode cX3_feed 81 = .ok (.goto (-63), 3) := dk_167 255 193 (dk_at dksX3_feed_3 11 rfl rfl)
theorem dX3_feed_84 : decode cX3_feed 84 = .ok (.aload_n 0, 1) := dk_42 (dk_at dksX3_feed_3 14 rfl rfl)
theorem dX3_feed_85 : decode cX3_feed 85 = .ok (.dup, 1) := dk_89 (dk_at dksX3_feed_3 15 rfl rfl)
theorem dX3_feed_86 : decode cX3_feed 86 = .ok (.getfield 213, 3) := dk_180 0 213 (dk_at dksX3_feed_3 16 rfl rfl)
theorem dX3_feed_89 : decode cX3_feed 89 = .ok (.bipush 12, 2) := dk_16 12 (dk_at dksX3_feed_3 19 rfl rfl)
theorem dX3_feed_91 : decode cX3_feed 91 = .ok (.iadd, 1) := dk_96 (dk_at dksX3_feed_3 21 rfl rfl)
theorem dX3_feed_92 : decode cX3_feed 92 = .ok (.putfield 213, 3) := dk_181 0 213 (dk_at dksX3_feed_4 0 rfl rfl)
theorem dX3_feed_95 : decode cX3_feed 95 = .ok (.aload_n 0, 1) := dk_42 (dk_at dksX3_feed_4 3 rfl rfl)
theorem dX3_feed_96 : decode cX3_feed 96 = .ok (.getfield 213, 3) := dk_180 0 213 (dk_at dksX3_feed_4 4 rfl rfl)
theorem dX3_feed_99 : decode cX3_feed 99 = .ok (.ireturn, 1) := dk_172 (dk_at dksX3_feed_4 7 rfl rfl)
abbrev cX3_trim : ByteArray := prog_22_method_61_code
def yX3_trim : MethodName := ⟨RX3, "trim", "(I)I"⟩
def dkwX3_trim_0 : List UInt8 := [27, 3, 42, 180, 0, 213, 184, 0, 85, 154, 0, 6, 18, 93, 172, 42, 27, 181, 0, 213, 27, 172]
abbrev dktX3_trim_0 : List UInt8 := dkwX3_trim_0 ++ []
theorem dksX3_trim_0 : cX3_trim.data.toList.drop 0 = dktX3_trim_0 := by decide +kernel
theorem dX3_trim_0 : decode cX3_trim 0 = .ok (.iload_n 1, 1) := dk_27 (dk_at dksX3_trim_0 0 rfl rfl)
theorem dX3_trim_1 : decode cX3_trim 1 = .ok (.iconst 0, 1) := dk_3 (dk_at dksX3_trim_0 1 rfl rfl)
theorem dX3_trim_2 : decode cX3_trim 2 = .ok (.aload_n 0, 1) := dk_42 (dk_at dksX3_trim_0 2 rfl rfl)
theorem dX3_trim_3 : decode cX3_trim 3 = .ok (.getfield 213, 3) := dk_180 0 213 (dk_at dksX3_trim_0 3 rfl rfl)
theorem dX3_trim_6 : decode cX3_trim 6 = .ok (.invokestatic 85, 3) := dk_184 0 85 (dk_at dksX3_trim_0 6 rfl rfl)
theorem dX3_trim_9 : decode cX3_trim 9 = .ok (.ifCond .ne 6, 3) := dk_154 0 6 (dk_at dksX3_trim_0 9 rfl rfl)
theorem dX3_trim_12 : decode cX3_trim 12 = .ok (.ldc 93, 2) := dk_18 93 (dk_at dksX3_trim_0 12 rfl rfl)
theorem dX3_trim_14 : decode cX3_trim 14 = .ok (.ireturn, 1) := dk_172 (dk_at dksX3_trim_0 14 rfl rfl)
theorem dX3_trim_15 : decode cX3_trim 15 = .ok (.aload_n 0, 1) := dk_42 (dk_at dksX3_trim_0 15 rfl rfl)
theorem dX3_trim_16 : decode cX3_trim 16 = .ok (.iload_n 1, 1) := dk_27 (dk_at dksX3_trim_0 16 rfl rfl)
theorem dX3_trim_17 : decode cX3_trim 17 = .ok (.putfield 213, 3) := dk_181 0 213 (dk_at dksX3_trim_0 17 rfl rfl)
theorem dX3_trim_20 : decode cX3_trim 20 = .ok (.iload_n 1, 1) := dk_27 (dk_at dksX3_trim_0 20 rfl rfl)
theorem dX3_trim_21 : decode cX3_trim 21 = .ok (.ireturn, 1) := dk_172 (dk_at dksX3_trim_0 21 rfl rfl)
abbrev cX3_text : ByteArray := prog_22_method_73_code
def yX3_text : MethodName := ⟨RX3, "text", "()I"⟩
def dkwX3_text_6 : List UInt8 := [46, 79, 132, 3, 1, 167, 255, 225, 42, 180, 0, 9, 8, 92, 46, 4, 96, 79, 28, 172]
abbrev dktX3_text_6 : List UInt8 := dkwX3_text_6 ++ []
def dkwX3_text_5 : List UInt8 := [180, 0, 250, 162, 0, 29, 42, 180, 0, 9, 16, 104, 16, 96, 28, 104, 96, 29, 96, 42, 180, 0, 41, 29]
abbrev dktX3_text_5 : List UInt8 := dkwX3_text_5 ++ dktX3_text_6
def dkwX3_text_4 : List UInt8 := [96, 79, 42, 180, 0, 9, 16, 76, 5, 28, 104, 96, 4, 96, 42, 180, 1, 0, 79, 3, 62, 29, 42]
abbrev dktX3_text_4 : List UInt8 := dkwX3_text_4 ++ dktX3_text_5
def dkwX3_text_3 : List UInt8 := [46, 61, 42, 180, 0, 9, 16, 76, 5, 28, 104, 96, 17, 3, 232, 42, 180, 0, 238, 104, 42, 180, 0, 250]
abbrev dktX3_text_3 : List UInt8 := dkwX3_text_3 ++ dktX3_text_4
def dkwX3_text_2 : List UInt8 := [180, 0, 220, 100, 172, 42, 180, 0, 9, 8, 46, 16, 14, 160, 0, 6, 18, 94, 172, 42, 180, 0, 9, 8]
abbrev dktX3_text_2 : List UInt8 := dkwX3_text_2 ++ dktX3_text_3
def dkwX3_text_1 : List UInt8 := [182, 1, 20, 153, 0, 7, 4, 167, 0, 4, 3, 60, 42, 3, 181, 0, 213, 27, 154, 0, 11, 16, 156, 42]
abbrev dktX3_text_1 : List UInt8 := dkwX3_text_1 ++ dktX3_text_2
def dkwX3_text_0 : List UInt8 := [42, 3, 181, 0, 217, 42, 2, 181, 0, 223, 42, 182, 0, 241, 42, 182, 1, 17, 153, 0, 14, 42]
abbrev dktX3_text_0 : List UInt8 := dkwX3_text_0 ++ dktX3_text_1
theorem dksX3_text_0 : cX3_text.data.toList.drop 0 = dktX3_text_0 := by decide +kernel
theorem dksX3_text_1 : cX3_text.data.toList.drop 22 = dktX3_text_1 := dk_seg dksX3_text_0 22 rfl rfl
theorem dksX3_text_2 : cX3_text.data.toList.drop 46 = dktX3_text_2 := dk_seg dksX3_text_1 24 rfl rfl
theorem dksX3_text_3 : cX3_text.data.toList.drop 70 = dktX3_text_3 := dk_seg dksX3_text_2 24 rfl rfl
theorem dksX3_text_4 : cX3_text.data.toList.drop 94 = dktX3_text_4 := dk_seg dksX3_text_3 24 rfl rfl
theorem dksX3_text_5 : cX3_text.data.toList.drop 117 = dktX3_text_5 := dk_seg dksX3_text_4 23 rfl rfl
theorem dksX3_text_6 : cX3_text.data.toList.drop 141 = dktX3_text_6 := dk_seg dksX3_text_5 24 rfl rfl
theorem dX3_text_0 : decode cX3_text 0 = .ok (.aload_n 0, 1) := dk_42 (dk_at dksX3_text_0 0 rfl rfl)
theorem dX3_text_1 : decode cX3_text 1 = .ok (.iconst 0, 1) := dk_3 (dk_at dksX3_text_0 1 rfl rfl)
theorem dX3_text_2 : decode cX3_text 2 = .ok (.putfield 217, 3) := dk_181 0 217 (dk_at dksX3_text_0 2 rfl rfl)
theorem dX3_text_5 : decode cX3_text 5 = .ok (.aload_n 0, 1) := dk_42 (dk_at dksX3_text_0 5 rfl rfl)
theorem dX3_text_6 : decode cX3_text 6 = .ok (.iconst (-1), 1) := dk_2 (dk_at dksX3_text_0 6 rfl rfl)
theorem dX3_text_7 : decode cX3_text 7 = .ok (.putfield 223, 3) := dk_181 0 223 (dk_at dksX3_text_0 7 rfl rfl)
theorem dX3_text_10 : decode cX3_text 10 = .ok (.aload_n 0, 1) := dk_42 (dk_at dksX3_text_0 10 rfl rfl)
theorem dX3_text_11 : decode cX3_text 11 = .ok (.invokevirtual 241, 3) := dk_182 0 241 (dk_at dksX3_text_0 11 rfl rfl)
theorem dX3_text_14 : decode cX3_text 14 = .ok (.aload_n 0, 1) := dk_42 (dk_at dksX3_text_0 14 rfl rfl)
theorem dX3_text_15 : decode cX3_text 15 = .ok (.invokevirtual 273, 3) := dk_182 1 17 (dk_at dksX3_text_0 15 rfl rfl)
theorem dX3_text_18 : decode cX3_text 18 = .ok (.ifCond .eq 14, 3) := dk_153 0 14 (dk_at dksX3_text_0 18 rfl rfl)
theorem dX3_text_21 : decode cX3_text 21 = .ok (.aload_n 0, 1) := dk_42 (dk_at dksX3_text_0 21 rfl rfl)
theorem dX3_text_22 : decode cX3_text 22 = .ok (.invokevirtual 276, 3) := dk_182 1 20 (dk_at dksX3_text_1 0 rfl rfl)
theorem dX3_text_25 : decode cX3_text 25 = .ok (.ifCond .eq 7, 3) := dk_153 0 7 (dk_at dksX3_text_1 3 rfl rfl)
theorem dX3_text_28 : decode cX3_text 28 = .ok (.iconst 1, 1) := dk_4 (dk_at dksX3_text_1 6 rfl rfl)
theorem dX3_text_29 : decode cX3_text 29 = .ok (.goto 4, 3) := dk_167 0 4 (dk_at dksX3_text_1 7 rfl rfl)
theorem dX3_text_32 : decode cX3_text 32 = .ok (.iconst 0, 1) := dk_3 (dk_at dksX3_text_1 10 rfl rfl)
theorem dX3_text_33 : decode cX3_text 33 = .ok (.istore_n 1, 1) := dk_60 (dk_at dksX3_text_1 11 rfl rfl)
theorem dX3_text_34 : decode cX3_text 34 = .ok (.aload_n 0, 1) := dk_42 (dk_at dksX3_text_1 12 rfl rfl)
theorem dX3_text_35 : decode cX3_text 35 = .ok (.iconst 0, 1) := dk_3 (dk_at dksX3_text_1 13 rfl rfl)
theorem dX3_text_36 : decode cX3_text 36 = .ok (.putfield 213, 3) := dk_181 0 213 (dk_at dksX3_text_1 14 rfl rfl)
theorem dX3_text_39 : decode cX3_text 39 = .ok (.iload_n 1, 1) := dk_27 (dk_at dksX3_text_1 17 rfl rfl)
theorem dX3_text_40 : decode cX3_text 40 = .ok (.ifCond .ne 11, 3) := dk_154 0 11 (dk_at dksX3_text_1 18 rfl rfl)
theorem dX3_text_43 : decode cX3_text 43 = .ok (.bipush (-100), 2) := dk_16 156 (dk_at dksX3_text_1 21 rfl rfl)
theorem dX3_text_45 : decode cX3_text 45 = .ok (.aload_n 0, 1) := dk_42 (dk_at dksX3_text_1 23 rfl rfl)
theorem dX3_text_46 : decode cX3_text 46 = .ok (.getfield 220, 3) := dk_180 0 220 (dk_at dksX3_text_2 0 rfl rfl)
theorem dX3_text_49 : decode cX3_text 49 = .ok (.isub, 1) := dk_100 (dk_at dksX3_text_2 3 rfl rfl)
theorem dX3_text_50 : decode cX3_text 50 = .ok (.ireturn, 1) := dk_172 (dk_at dksX3_text_2 4 rfl rfl)
theorem dX3_text_51 : decode cX3_text 51 = .ok (.aload_n 0, 1) := dk_42 (dk_at dksX3_text_2 5 rfl rfl)
theorem dX3_text_52 : decode cX3_text 52 = .ok (.getfield 9, 3) := dk_180 0 9 (dk_at dksX3_text_2 6 rfl rfl)
theorem dX3_text_55 : decode cX3_text 55 = .ok (.iconst 5, 1) := dk_8 (dk_at dksX3_text_2 9 rfl rfl)
theorem dX3_text_56 : decode cX3_text 56 = .ok (.iaload, 1) := dk_46 (dk_at dksX3_text_2 10 rfl rfl)
theorem dX3_text_57 : decode cX3_text 57 = .ok (.bipush 14, 2) := dk_16 14 (dk_at dksX3_text_2 11 rfl rfl)
theorem dX3_text_59 : decode cX3_text 59 = .ok (.if_icmp .ne 6, 3) := dk_160 0 6 (dk_at dksX3_text_2 13 rfl rfl)
theorem dX3_text_62 : decode cX3_text 62 = .ok (.ldc 94, 2) := dk_18 94 (dk_at dksX3_text_2 16 rfl rfl)
theorem dX3_text_64 : decode cX3_text 64 = .ok (.ireturn, 1) := dk_172 (dk_at dksX3_text_2 18 rfl rfl)
theorem dX3_text_65 : decode cX3_text 65 = .ok (.aload_n 0, 1) := dk_42 (dk_at dksX3_text_2 19 rfl rfl)
theorem dX3_text_66 : decode cX3_text 66 = .ok (.getfield 9, 3) := dk_180 0 9 (dk_at dksX3_text_2 20 rfl rfl)
theorem dX3_text_69 : decode cX3_text 69 = .ok (.iconst 5, 1) := dk_8 (dk_at dksX3_text_2 23 rfl rfl)
theorem dX3_text_70 : decode cX3_text 70 = .ok (.iaload, 1) := dk_46 (dk_at dksX3_text_3 0 rfl rfl)
theorem dX3_text_71 : decode cX3_text 71 = .ok (.istore_n 2, 1) := dk_61 (dk_at dksX3_text_3 1 rfl rfl)
theorem dX3_text_72 : decode cX3_text 72 = .ok (.aload_n 0, 1) := dk_42 (dk_at dksX3_text_3 2 rfl rfl)
theorem dX3_text_73 : decode cX3_text 73 = .ok (.getfield 9, 3) := dk_180 0 9 (dk_at dksX3_text_3 3 rfl rfl)
theorem dX3_text_76 : decode cX3_text 76 = .ok (.bipush 76, 2) := dk_16 76 (dk_at dksX3_text_3 6 rfl rfl)
theorem dX3_text_78 : decode cX3_text 78 = .ok (.iconst 2, 1) := dk_5 (dk_at dksX3_text_3 8 rfl rfl)
theorem dX3_text_79 : decode cX3_text 79 = .ok (.iload_n 2, 1) := dk_28 (dk_at dksX3_text_3 9 rfl rfl)
theorem dX3_text_80 : decode cX3_text 80 = .ok (.imul, 1) := dk_104 (dk_at dksX3_text_3 10 rfl rfl)
theorem dX3_text_81 : decode cX3_text 81 = .ok (.iadd, 1) := dk_96 (dk_at dksX3_text_3 11 rfl rfl)
theorem dX3_text_82 : decode cX3_text 82 = .ok (.sipush 1000, 3) := dk_17 3 232 (dk_at dksX3_text_3 12 rfl rfl)
theorem dX3_text_85 : decode cX3_text 85 = .ok (.aload_n 0, 1) := dk_42 (dk_at dksX3_text_3 15 rfl rfl)
theorem dX3_text_86 : decode cX3_text 86 = .ok (.getfield 238, 3) := dk_180 0 238 (dk_at dksX3_text_3 16 rfl rfl)
theorem dX3_text_89 : decode cX3_text 89 = .ok (.imul, 1) := dk_104 (dk_at dksX3_text_3 19 rfl rfl)
theorem dX3_text_90 : decode cX3_text 90 = .ok (.aload_n 0, 1) := dk_42 (dk_at dksX3_text_3 20 rfl rfl)
theorem dX3_text_91 : decode cX3_text 91 = .ok (.getfield 250, 3) := dk_180 0 250 (dk_at dksX3_text_3 21 rfl rfl)
theorem dX3_text_94 : decode cX3_text 94 = .ok (.iadd, 1) := dk_96 (dk_at dksX3_text_4 0 rfl rfl)
theorem dX3_text_95 : decode cX3_text 95 = .ok (.iastore, 1) := dk_79 (dk_at dksX3_text_4 1 rfl rfl)
theorem dX3_text_96 : decode cX3_text 96 = .ok (.aload_n 0, 1) := dk_42 (dk_at dksX3_text_4 2 rfl rfl)
theorem dX3_text_97 : decode cX3_text 97 = .ok (.getfield 9, 3) := dk_180 0 9 (dk_at dksX3_text_4 3 rfl rfl)
theorem dX3_text_100 : decode cX3_text 100 = .ok (.bipush 76, 2) := dk_16 76 (dk_at dksX3_text_4 6 rfl rfl)
theorem dX3_text_102 : decode cX3_text 102 = .ok (.iconst 2, 1) := dk_5 (dk_at dksX3_text_4 8 rfl rfl)
theorem dX3_text_103 : decode cX3_text 103 = .ok (.iload_n 2, 1) := dk_28 (dk_at dksX3_text_4 9 rfl rfl)
theorem dX3_text_104 : decode cX3_text 104 = .ok (.imul, 1) := dk_104 (dk_at dksX3_text_4 10 rfl rfl)
theorem dX3_text_105 : decode cX3_text 105 = .ok (.iadd, 1) := dk_96 (dk_at dksX3_text_4 11 rfl rfl)
theorem dX3_text_106 : decode cX3_text 106 = .ok (.iconst 1, 1) := dk_4 (dk_at dksX3_text_4 12 rfl rfl)
theorem dX3_text_107 : decode cX3_text 107 = .ok (.iadd, 1) := dk_96 (dk_at dksX3_text_4 13 rfl rfl)
theorem dX3_text_108 : decode cX3_text 108 = .ok (.aload_n 0, 1) := dk_42 (dk_at dksX3_text_4 14 rfl rfl)
theorem dX3_text_109 : decode cX3_text 109 = .ok (.getfield 256, 3) := dk_180 1 0 (dk_at dksX3_text_4 15 rfl rfl)
theorem dX3_text_112 : decode cX3_text 112 = .ok (.iastore, 1) := dk_79 (dk_at dksX3_text_4 18 rfl rfl)
theorem dX3_text_113 : decode cX3_text 113 = .ok (.iconst 0, 1) := dk_3 (dk_at dksX3_text_4 19 rfl rfl)
theorem dX3_text_114 : decode cX3_text 114 = .ok (.istore_n 3, 1) := dk_62 (dk_at dksX3_text_4 20 rfl rfl)
theorem dX3_text_115 : decode cX3_text 115 = .ok (.iload_n 3, 1) := dk_29 (dk_at dksX3_text_4 21 rfl rfl)
theorem dX3_text_116 : decode cX3_text 116 = .ok (.aload_n 0, 1) := dk_42 (dk_at dksX3_text_4 22 rfl rfl)
theorem dX3_text_117 : decode cX3_text 117 = .ok (.getfield 250, 3) := dk_180 0 250 (dk_at dksX3_text_5 0 rfl rfl)
theorem dX3_text_120 : decode cX3_text 120 = .ok (.if_icmp .ge 29, 3) := dk_162 0 29 (dk_at dksX3_text_5 3 rfl rfl)
theorem dX3_text_123 : decode cX3_text 123 = .ok (.aload_n 0, 1) := dk_42 (dk_at dksX3_text_5 6 rfl rfl)
theorem dX3_text_124 : decode cX3_text 124 = .ok (.getfield 9, 3) := dk_180 0 9 (dk_at dksX3_text_5 7 rfl rfl)
theorem dX3_text_127 : decode cX3_text 127 = .ok (.bipush 104, 2) := dk_16 104 (dk_at dksX3_text_5 10 rfl rfl)
theorem dX3_text_129 : decode cX3_text 129 = .ok (.bipush 96, 2) := dk_16 96 (dk_at dksX3_text_5 12 rfl rfl)
theorem dX3_text_131 : decode cX3_text 131 = .ok (.iload_n 2, 1) := dk_28 (dk_at dksX3_text_5 14 rfl rfl)
theorem dX3_text_132 : decode cX3_text 132 = .ok (.imul, 1) := dk_104 (dk_at dksX3_text_5 15 rfl rfl)
theorem dX3_text_133 : decode cX3_text 133 = .ok (.iadd, 1) := dk_96 (dk_at dksX3_text_5 16 rfl rfl)
theorem dX3_text_134 : decode cX3_text 134 = .ok (.iload_n 3, 1) := dk_29 (dk_at dksX3_text_5 17 rfl rfl)
theorem dX3_text_135 : decode cX3_text 135 = .ok (.iadd, 1) := dk_96 (dk_at dksX3_text_5 18 rfl rfl)
theorem dX3_text_136 : decode cX3_text 136 = .ok (.aload_n 0, 1) := dk_42 (dk_at dksX3_text_5 19 rfl rfl)
theorem dX3_text_137 : decode cX3_text 137 = .ok (.getfield 41, 3) := dk_180 0 41 (dk_at dksX3_text_5 20 rfl rfl)
theorem dX3_text_140 : decode cX3_text 140 = .ok (.iload_n 3, 1) := dk_29 (dk_at dksX3_text_5 23 rfl rfl)
theorem dX3_text_141 : decode cX3_text 141 = .ok (.iaload, 1) := dk_46 (dk_at dksX3_text_6 0 rfl rfl)
theorem dX3_text_142 : decode cX3_text 142 = .ok (.iastore, 1) := dk_79 (dk_at dksX3_text_6 1 rfl rfl)
theorem dX3_text_143 : decode cX3_text 143 = .ok (.iinc 3 1, 3) := dk_132 3 1 (dk_at dksX3_text_6 2 rfl rfl)
theorem dX3_text_146 : decode cX3_text 146 = .ok (.goto (-31), 3) := dk_167 255 225 (dk_at dksX3_text_6 5 rfl rfl)
theorem dX3_text_149 : decode cX3_text 149 = .ok (.aload_n 0, 1) := dk_42 (dk_at dksX3_text_6 8 rfl rfl)
theorem dX3_text_150 : decode cX3_text 150 = .ok (.getfield 9, 3) := dk_180 0 9 (dk_at dksX3_text_6 9 rfl rfl)
theorem dX3_text_153 : decode cX3_text 153 = .ok (.iconst 5, 1) := dk_8 (dk_at dksX3_text_6 12 rfl rfl)
theorem dX3_text_154 : decode cX3_text 154 = .ok (.dup2, 1) := dk_92 (dk_at dksX3_text_6 13 rfl rfl)
theorem dX3_text_155 : decode cX3_text 155 = .ok (.iaload, 1) := dk_46 (dk_at dksX3_text_6 14 rfl rfl)
theorem dX3_text_156 : decode cX3_text 156 = .ok (.iconst 1, 1) := dk_4 (dk_at dksX3_text_6 15 rfl rfl)
theorem dX3_text_157 : decode cX3_text 157 = .ok (.iadd, 1) := dk_96 (dk_at dksX3_text_6 16 rfl rfl)
theorem dX3_text_158 : decode cX3_text 158 = .ok (.iastore, 1) := dk_79 (dk_at dksX3_text_6 17 rfl rfl)
theorem dX3_text_159 : decode cX3_text 159 = .ok (.iload_n 2, 1) := dk_28 (dk_at dksX3_text_6 18 rfl rfl)
theorem dX3_text_160 : decode cX3_text 160 = .ok (.ireturn, 1) := dk_172 (dk_at dksX3_text_6 19 rfl rfl)
abbrev cX3_go : ByteArray := prog_22_method_64_code
def yX3_go : MethodName := ⟨RX3, "go", "()V"⟩
def dkwX3_go_13 : List UInt8 := [181, 0, 217, 177]
abbrev dktX3_go_13 : List UInt8 := dkwX3_go_13 ++ []
def dkwX3_go_12 : List UInt8 := [181, 0, 226, 42, 42, 180, 0, 31, 42, 180, 0, 220, 46, 181, 0, 232, 42, 89, 180, 0, 217, 4, 96]
abbrev dktX3_go_12 : List UInt8 := dkwX3_go_12 ++ dktX3_go_13
def dkwX3_go_11 : List UInt8 := [164, 0, 7, 7, 167, 0, 4, 5, 181, 0, 226, 42, 42, 180, 0, 217, 181, 0, 223, 167, 0, 31, 42, 6]
abbrev dktX3_go_11 : List UInt8 := dkwX3_go_11 ++ dktX3_go_12
def dkwX3_go_10 : List UInt8 := [96, 181, 0, 217, 167, 255, 191, 42, 27, 154, 0, 16, 42, 180, 0, 217, 42, 180, 0, 220, 100, 7]
abbrev dktX3_go_10 : List UInt8 := dkwX3_go_10 ++ dktX3_go_11
def dkwX3_go_9 : List UInt8 := [180, 0, 217, 46, 96, 16, 48, 100, 167, 0, 7, 42, 180, 0, 232, 181, 0, 232, 42, 89, 180, 0, 217, 4]
abbrev dktX3_go_9 : List UInt8 := dkwX3_go_9 ++ dktX3_go_10
def dkwX3_go_8 : List UInt8 := [180, 0, 217, 42, 180, 0, 220, 100, 7, 162, 0, 26, 16, 10, 42, 180, 0, 232, 104, 42, 180, 0, 31, 42]
abbrev dktX3_go_8 : List UInt8 := dkwX3_go_8 ++ dktX3_go_9
def dkwX3_go_7 : List UInt8 := [182, 0, 235, 153, 0, 113, 42, 3, 181, 0, 232, 42, 42, 180, 0, 217, 182, 0, 235, 153, 0, 60, 42, 42]
abbrev dktX3_go_7 : List UInt8 := dkwX3_go_7 ++ dktX3_go_8
def dkwX3_go_6 : List UInt8 := [180, 0, 220, 46, 181, 0, 232, 42, 42, 180, 0, 217, 181, 0, 223, 167, 0, 152, 42, 42, 180, 0, 220]
abbrev dktX3_go_6 : List UInt8 := dkwX3_go_6 ++ dktX3_go_7
def dkwX3_go_5 : List UInt8 := [167, 255, 235, 42, 27, 153, 0, 7, 7, 167, 0, 4, 4, 181, 0, 226, 42, 42, 180, 0, 31, 42]
abbrev dktX3_go_5 : List UInt8 := dkwX3_go_5 ++ dktX3_go_6
def dkwX3_go_4 : List UInt8 := [153, 0, 64, 42, 42, 180, 0, 217, 182, 0, 229, 153, 0, 16, 42, 89, 180, 0, 217, 4, 96, 181, 0, 217]
abbrev dktX3_go_4 : List UInt8 := dkwX3_go_4 ++ dktX3_go_5
def dkwX3_go_3 : List UInt8 := [180, 0, 213, 160, 0, 11, 42, 3, 181, 0, 226, 167, 0, 224, 42, 42, 180, 0, 220, 182, 0, 229]
abbrev dktX3_go_3 : List UInt8 := dkwX3_go_3 ++ dktX3_go_4
def dkwX3_go_2 : List UInt8 := [42, 180, 0, 220, 42, 180, 0, 223, 160, 0, 7, 4, 167, 0, 4, 3, 60, 42, 180, 0, 220, 42]
abbrev dktX3_go_2 : List UInt8 := dkwX3_go_2 ++ dktX3_go_3
def dkwX3_go_1 : List UInt8 := [160, 0, 16, 42, 89, 180, 0, 217, 4, 96, 181, 0, 217, 167, 255, 221, 42, 42, 180, 0, 217, 181, 0, 220]
abbrev dktX3_go_1 : List UInt8 := dkwX3_go_1 ++ dktX3_go_2
def dkwX3_go_0 : List UInt8 := [42, 180, 0, 217, 42, 180, 0, 213, 162, 0, 30, 42, 180, 0, 31, 42, 180, 0, 217, 46, 16, 32]
abbrev dktX3_go_0 : List UInt8 := dkwX3_go_0 ++ dktX3_go_1
theorem dksX3_go_0 : cX3_go.data.toList.drop 0 = dktX3_go_0 := by decide +kernel
theorem dksX3_go_1 : cX3_go.data.toList.drop 22 = dktX3_go_1 := dk_seg dksX3_go_0 22 rfl rfl
theorem dksX3_go_2 : cX3_go.data.toList.drop 46 = dktX3_go_2 := dk_seg dksX3_go_1 24 rfl rfl
theorem dksX3_go_3 : cX3_go.data.toList.drop 68 = dktX3_go_3 := dk_seg dksX3_go_2 22 rfl rfl
theorem dksX3_go_4 : cX3_go.data.toList.drop 90 = dktX3_go_4 := dk_seg dksX3_go_3 22 rfl rfl
theorem dksX3_go_5 : cX3_go.data.toList.drop 114 = dktX3_go_5 := dk_seg dksX3_go_4 24 rfl rfl
theorem dksX3_go_6 : cX3_go.data.toList.drop 136 = dktX3_go_6 := dk_seg dksX3_go_5 22 rfl rfl
theorem dksX3_go_7 : cX3_go.data.toList.drop 159 = dktX3_go_7 := dk_seg dksX3_go_6 23 rfl rfl
theorem dksX3_go_8 : cX3_go.data.toList.drop 183 = dktX3_go_8 := dk_seg dksX3_go_7 24 rfl rfl
theorem dksX3_go_9 : cX3_go.data.toList.drop 207 = dktX3_go_9 := dk_seg dksX3_go_8 24 rfl rfl
theorem dksX3_go_10 : cX3_go.data.toList.drop 231 = dktX3_go_10 := dk_seg dksX3_go_9 24 rfl rfl
theorem dksX3_go_11 : cX3_go.data.toList.drop 253 = dktX3_go_11 := dk_seg dksX3_go_10 22 rfl rfl
theorem dksX3_go_12 : cX3_go.data.toList.drop 277 = dktX3_go_12 := dk_seg dksX3_go_11 24 rfl rfl
theorem dksX3_go_13 : cX3_go.data.toList.drop 300 = dktX3_go_13 := dk_seg dksX3_go_12 23 rfl rfl
theorem dX3_go_0 : decode cX3_go 0 = .ok (.aload_n 0, 1) := dk_42 (dk_at dksX3_go_0 0 rfl rfl)
theorem dX3_go_1 : decode cX3_go 1 = .ok (.getfield 217, 3) := dk_180 0 217 (dk_at dksX3_go_0 1 rfl rfl)
theorem dX3_go_4 : decode cX3_go 4 = .ok (.aload_n 0, 1) := dk_42 (dk_at dksX3_go_0 4 rfl rfl)
theorem dX3_go_5 : decode cX3_go 5 = .ok (.getfield 213, 3) := dk_180 0 213 (dk_at dksX3_go_0 5 rfl rfl)
theorem dX3_go_8 : decode cX3_go 8 = .ok (.if_icmp .ge 30, 3) := dk_162 0 30 (dk_at dksX3_go_0 8 rfl rfl)
theorem dX3_go_11 : decode cX3_go 11 = .ok (.aload_n 0, 1) := dk_42 (dk_at dksX3_go_0 11 rfl rfl)
theorem dX3_go_12 : decode cX3_go 12 = .ok (.getfield 31, 3) := dk_180 0 31 (dk_at dksX3_go_0 12 rfl rfl)
theorem dX3_go_15 : decode cX3_go 15 = .ok (.aload_n 0, 1) := dk_42 (dk_at dksX3_go_0 15 rfl rfl)
theorem dX3_go_16 : decode cX3_go 16 = .ok (.getfield 217, 3) := dk_180 0 217 (dk_at dksX3_go_0 16 rfl rfl)
theorem dX3_go_19 : decode cX3_go 19 = .ok (.iaload, 1) := dk_46 (dk_at dksX3_go_0 19 rfl rfl)
theorem dX3_go_20 : decode cX3_go 20 = .ok (.bipush 32, 2) := dk_16 32 (dk_at dksX3_go_0 20 rfl rfl)
theorem dX3_go_22 : decode cX3_go 22 = .ok (.if_icmp .ne 16, 3) := dk_160 0 16 (dk_at dksX3_go_1 0 rfl rfl)
theorem dX3_go_25 : decode cX3_go 25 = .ok (.aload_n 0, 1) := dk_42 (dk_at dksX3_go_1 3 rfl rfl)
theorem dX3_go_26 : decode cX3_go 26 = .ok (.dup, 1) := dk_89 (dk_at dksX3_go_1 4 rfl rfl)
theorem dX3_go_27 : decode cX3_go 27 = .ok (.getfield 217, 3) := dk_180 0 217 (dk_at dksX3_go_1 5 rfl rfl)
theorem dX3_go_30 : decode cX3_go 30 = .ok (.iconst 1, 1) := dk_4 (dk_at dksX3_go_1 8 rfl rfl)
theorem dX3_go_31 : decode cX3_go 31 = .ok (.iadd, 1) := dk_96 (dk_at dksX3_go_1 9 rfl rfl)
theorem dX3_go_32 : decode cX3_go 32 = .ok (.putfield 217, 3) := dk_181 0 217 (dk_at dksX3_go_1 10 rfl rfl)
theorem dX3_go_35 : decode cX3_go 35 = .ok (.goto (-35), 3) := dk_167 255 221 (dk_at dksX3_go_1 13 rfl rfl)
theorem dX3_go_38 : decode cX3_go 38 = .ok (.aload_n 0, 1) := dk_42 (dk_at dksX3_go_1 16 rfl rfl)
theorem dX3_go_39 : decode cX3_go 39 = .ok (.aload_n 0, 1) := dk_42 (dk_at dksX3_go_1 17 rfl rfl)
theorem dX3_go_40 : decode cX3_go 40 = .ok (.getfield 217, 3) := dk_180 0 217 (dk_at dksX3_go_1 18 rfl rfl)
theorem dX3_go_43 : decode cX3_go 43 = .ok (.putfield 220, 3) := dk_181 0 220 (dk_at dksX3_go_1 21 rfl rfl)
theorem dX3_go_46 : decode cX3_go 46 = .ok (.aload_n 0, 1) := dk_42 (dk_at dksX3_go_2 0 rfl rfl)
theorem dX3_go_47 : decode cX3_go 47 = .ok (.getfield 220, 3) := dk_180 0 220 (dk_at dksX3_go_2 1 rfl rfl)
theorem dX3_go_50 : decode cX3_go 50 = .ok (.aload_n 0, 1) := dk_42 (dk_at dksX3_go_2 4 rfl rfl)
theorem dX3_go_51 : decode cX3_go 51 = .ok (.getfield 223, 3) := dk_180 0 223 (dk_at dksX3_go_2 5 rfl rfl)
theorem dX3_go_54 : decode cX3_go 54 = .ok (.if_icmp .ne 7, 3) := dk_160 0 7 (dk_at dksX3_go_2 8 rfl rfl)
theorem dX3_go_57 : decode cX3_go 57 = .ok (.iconst 1, 1) := dk_4 (dk_at dksX3_go_2 11 rfl rfl)
theorem dX3_go_58 : decode cX3_go 58 = .ok (.goto 4, 3) := dk_167 0 4 (dk_at dksX3_go_2 12 rfl rfl)
theorem dX3_go_61 : decode cX3_go 61 = .ok (.iconst 0, 1) := dk_3 (dk_at dksX3_go_2 15 rfl rfl)
theorem dX3_go_62 : decode cX3_go 62 = .ok (.istore_n 1, 1) := dk_60 (dk_at dksX3_go_2 16 rfl rfl)
theorem dX3_go_63 : decode cX3_go 63 = .ok (.aload_n 0, 1) := dk_42 (dk_at dksX3_go_2 17 rfl rfl)
theorem dX3_go_64 : decode cX3_go 64 = .ok (.getfield 220, 3) := dk_180 0 220 (dk_at dksX3_go_2 18 rfl rfl)
theorem dX3_go_67 : decode cX3_go 67 = .ok (.aload_n 0, 1) := dk_42 (dk_at dksX3_go_2 21 rfl rfl)
theorem dX3_go_68 : decode cX3_go 68 = .ok (.getfield 213, 3) := dk_180 0 213 (dk_at dksX3_go_3 0 rfl rfl)
theorem dX3_go_71 : decode cX3_go 71 = .ok (.if_icmp .ne 11, 3) := dk_160 0 11 (dk_at dksX3_go_3 3 rfl rfl)
theorem dX3_go_74 : decode cX3_go 74 = .ok (.aload_n 0, 1) := dk_42 (dk_at dksX3_go_3 6 rfl rfl)
theorem dX3_go_75 : decode cX3_go 75 = .ok (.iconst 0, 1) := dk_3 (dk_at dksX3_go_3 7 rfl rfl)
theorem dX3_go_76 : decode cX3_go 76 = .ok (.putfield 226, 3) := dk_181 0 226 (dk_at dksX3_go_3 8 rfl rfl)
theorem dX3_go_79 : decode cX3_go 79 = .ok (.goto 224, 3) := dk_167 0 224 (dk_at dksX3_go_3 11 rfl rfl)
theorem dX3_go_82 : decode cX3_go 82 = .ok (.aload_n 0, 1) := dk_42 (dk_at dksX3_go_3 14 rfl rfl)
theorem dX3_go_83 : decode cX3_go 83 = .ok (.aload_n 0, 1) := dk_42 (dk_at dksX3_go_3 15 rfl rfl)
theorem dX3_go_84 : decode cX3_go 84 = .ok (.getfield 220, 3) := dk_180 0 220 (dk_at dksX3_go_3 16 rfl rfl)
theorem dX3_go_87 : decode cX3_go 87 = .ok (.invokevirtual 229, 3) := dk_182 0 229 (dk_at dksX3_go_3 19 rfl rfl)
theorem dX3_go_90 : decode cX3_go 90 = .ok (.ifCond .eq 64, 3) := dk_153 0 64 (dk_at dksX3_go_4 0 rfl rfl)
theorem dX3_go_93 : decode cX3_go 93 = .ok (.aload_n 0, 1) := dk_42 (dk_at dksX3_go_4 3 rfl rfl)
theorem dX3_go_94 : decode cX3_go 94 = .ok (.aload_n 0, 1) := dk_42 (dk_at dksX3_go_4 4 rfl rfl)
theorem dX3_go_95 : decode cX3_go 95 = .ok (.getfield 217, 3) := dk_180 0 217 (dk_at dksX3_go_4 5 rfl rfl)
theorem dX3_go_98 : decode cX3_go 98 = .ok (.invokevirtual 229, 3) := dk_182 0 229 (dk_at dksX3_go_4 8 rfl rfl)
theorem dX3_go_101 : decode cX3_go 101 = .ok (.ifCond .eq 16, 3) := dk_153 0 16 (dk_at dksX3_go_4 11 rfl rfl)
theorem dX3_go_104 : decode cX3_go 104 = .ok (.aload_n 0, 1) := dk_42 (dk_at dksX3_go_4 14 rfl rfl)
theorem dX3_go_105 : decode cX3_go 105 = .ok (.dup, 1) := dk_89 (dk_at dksX3_go_4 15 rfl rfl)
theorem dX3_go_106 : decode cX3_go 106 = .ok (.getfield 217, 3) := dk_180 0 217 (dk_at dksX3_go_4 16 rfl rfl)
theorem dX3_go_109 : decode cX3_go 109 = .ok (.iconst 1, 1) := dk_4 (dk_at dksX3_go_4 19 rfl rfl)
theorem dX3_go_110 : decode cX3_go 110 = .ok (.iadd, 1) := dk_96 (dk_at dksX3_go_4 20 rfl rfl)
theorem dX3_go_111 : decode cX3_go 111 = .ok (.putfield 217, 3) := dk_181 0 217 (dk_at dksX3_go_4 21 rfl rfl)
theorem dX3_go_114 : decode cX3_go 114 = .ok (.goto (-21), 3) := dk_167 255 235 (dk_at dksX3_go_5 0 rfl rfl)
theorem dX3_go_117 : decode cX3_go 117 = .ok (.aload_n 0, 1) := dk_42 (dk_at dksX3_go_5 3 rfl rfl)
theorem dX3_go_118 : decode cX3_go 118 = .ok (.iload_n 1, 1) := dk_27 (dk_at dksX3_go_5 4 rfl rfl)
theorem dX3_go_119 : decode cX3_go 119 = .ok (.ifCond .eq 7, 3) := dk_153 0 7 (dk_at dksX3_go_5 5 rfl rfl)
theorem dX3_go_122 : decode cX3_go 122 = .ok (.iconst 4, 1) := dk_7 (dk_at dksX3_go_5 8 rfl rfl)
theorem dX3_go_123 : decode cX3_go 123 = .ok (.goto 4, 3) := dk_167 0 4 (dk_at dksX3_go_5 9 rfl rfl)
theorem dX3_go_126 : decode cX3_go 126 = .ok (.iconst 1, 1) := dk_4 (dk_at dksX3_go_5 12 rfl rfl)
theorem dX3_go_127 : decode cX3_go 127 = .ok (.putfield 226, 3) := dk_181 0 226 (dk_at dksX3_go_5 13 rfl rfl)
theorem dX3_go_130 : decode cX3_go 130 = .ok (.aload_n 0, 1) := dk_42 (dk_at dksX3_go_5 16 rfl rfl)
theorem dX3_go_131 : decode cX3_go 131 = .ok (.aload_n 0, 1) := dk_42 (dk_at dksX3_go_5 17 rfl rfl)
theorem dX3_go_132 : decode cX3_go 132 = .ok (.getfield 31, 3) := dk_180 0 31 (dk_at dksX3_go_5 18 rfl rfl)
theorem dX3_go_135 : decode cX3_go 135 = .ok (.aload_n 0, 1) := dk_42 (dk_at dksX3_go_5 21 rfl rfl)
theorem dX3_go_136 : decode cX3_go 136 = .ok (.getfield 220, 3) := dk_180 0 220 (dk_at dksX3_go_6 0 rfl rfl)
theorem dX3_go_139 : decode cX3_go 139 = .ok (.iaload, 1) := dk_46 (dk_at dksX3_go_6 3 rfl rfl)
theorem dX3_go_140 : decode cX3_go 140 = .ok (.putfield 232, 3) := dk_181 0 232 (dk_at dksX3_go_6 4 rfl rfl)
theorem dX3_go_143 : decode cX3_go 143 = .ok (.aload_n 0, 1) := dk_42 (dk_at dksX3_go_6 7 rfl rfl)
theorem dX3_go_144 : decode cX3_go 144 = .ok (.aload_n 0, 1) := dk_42 (dk_at dksX3_go_6 8 rfl rfl)
theorem dX3_go_145 : decode cX3_go 145 = .ok (.getfield 217, 3) := dk_180 0 217 (dk_at dksX3_go_6 9 rfl rfl)
theorem dX3_go_148 : decode cX3_go 148 = .ok (.putfield 223, 3) := dk_181 0 223 (dk_at dksX3_go_6 12 rfl rfl)
theorem dX3_go_151 : decode cX3_go 151 = .ok (.goto 152, 3) := dk_167 0 152 (dk_at dksX3_go_6 15 rfl rfl)
theorem dX3_go_154 : decode cX3_go 154 = .ok (.aload_n 0, 1) := dk_42 (dk_at dksX3_go_6 18 rfl rfl)
theorem dX3_go_155 : decode cX3_go 155 = .ok (.aload_n 0, 1) := dk_42 (dk_at dksX3_go_6 19 rfl rfl)
theorem dX3_go_156 : decode cX3_go 156 = .ok (.getfield 220, 3) := dk_180 0 220 (dk_at dksX3_go_6 20 rfl rfl)
theorem dX3_go_159 : decode cX3_go 159 = .ok (.invokevirtual 235, 3) := dk_182 0 235 (dk_at dksX3_go_7 0 rfl rfl)
theorem dX3_go_162 : decode cX3_go 162 = .ok (.ifCond .eq 113, 3) := dk_153 0 113 (dk_at dksX3_go_7 3 rfl rfl)
theorem dX3_go_165 : decode cX3_go 165 = .ok (.aload_n 0, 1) := dk_42 (dk_at dksX3_go_7 6 rfl rfl)
theorem dX3_go_166 : decode cX3_go 166 = .ok (.iconst 0, 1) := dk_3 (dk_at dksX3_go_7 7 rfl rfl)
theorem dX3_go_167 : decode cX3_go 167 = .ok (.putfield 232, 3) := dk_181 0 232 (dk_at dksX3_go_7 8 rfl rfl)
theorem dX3_go_170 : decode cX3_go 170 = .ok (.aload_n 0, 1) := dk_42 (dk_at dksX3_go_7 11 rfl rfl)
theorem dX3_go_171 : decode cX3_go 171 = .ok (.aload_n 0, 1) := dk_42 (dk_at dksX3_go_7 12 rfl rfl)
theorem dX3_go_172 : decode cX3_go 172 = .ok (.getfield 217, 3) := dk_180 0 217 (dk_at dksX3_go_7 13 rfl rfl)
theorem dX3_go_175 : decode cX3_go 175 = .ok (.invokevirtual 235, 3) := dk_182 0 235 (dk_at dksX3_go_7 16 rfl rfl)
theorem dX3_go_178 : decode cX3_go 178 = .ok (.ifCond .eq 60, 3) := dk_153 0 60 (dk_at dksX3_go_7 19 rfl rfl)
theorem dX3_go_181 : decode cX3_go 181 = .ok (.aload_n 0, 1) := dk_42 (dk_at dksX3_go_7 22 rfl rfl)
theorem dX3_go_182 : decode cX3_go 182 = .ok (.aload_n 0, 1) := dk_42 (dk_at dksX3_go_7 23 rfl rfl)
theorem dX3_go_183 : decode cX3_go 183 = .ok (.getfield 217, 3) := dk_180 0 217 (dk_at dksX3_go_8 0 rfl rfl)
theorem dX3_go_186 : decode cX3_go 186 = .ok (.aload_n 0, 1) := dk_42 (dk_at dksX3_go_8 3 rfl rfl)
theorem dX3_go_187 : decode cX3_go 187 = .ok (.getfield 220, 3) := dk_180 0 220 (dk_at dksX3_go_8 4 rfl rfl)
theorem dX3_go_190 : decode cX3_go 190 = .ok (.isub, 1) := dk_100 (dk_at dksX3_go_8 7 rfl rfl)
theorem dX3_go_191 : decode cX3_go 191 = .ok (.iconst 4, 1) := dk_7 (dk_at dksX3_go_8 8 rfl rfl)
theorem dX3_go_192 : decode cX3_go 192 = .ok (.if_icmp .ge 26, 3) := dk_162 0 26 (dk_at dksX3_go_8 9 rfl rfl)
theorem dX3_go_195 : decode cX3_go 195 = .ok (.bipush 10, 2) := dk_16 10 (dk_at dksX3_go_8 12 rfl rfl)
theorem dX3_go_197 : decode cX3_go 197 = .ok (.aload_n 0, 1) := dk_42 (dk_at dksX3_go_8 14 rfl rfl)
theorem dX3_go_198 : decode cX3_go 198 = .ok (.getfield 232, 3) := dk_180 0 232 (dk_at dksX3_go_8 15 rfl rfl)
theorem dX3_go_201 : decode cX3_go 201 = .ok (.imul, 1) := dk_104 (dk_at dksX3_go_8 18 rfl rfl)
theorem dX3_go_202 : decode cX3_go 202 = .ok (.aload_n 0, 1) := dk_42 (dk_at dksX3_go_8 19 rfl rfl)
theorem dX3_go_203 : decode cX3_go 203 = .ok (.getfield 31, 3) := dk_180 0 31 (dk_at dksX3_go_8 20 rfl rfl)
theorem dX3_go_206 : decode cX3_go 206 = .ok (.aload_n 0, 1) := dk_42 (dk_at dksX3_go_8 23 rfl rfl)
theorem dX3_go_207 : decode cX3_go 207 = .ok (.getfield 217, 3) := dk_180 0 217 (dk_at dksX3_go_9 0 rfl rfl)
theorem dX3_go_210 : decode cX3_go 210 = .ok (.iaload, 1) := dk_46 (dk_at dksX3_go_9 3 rfl rfl)
theorem dX3_go_211 : decode cX3_go 211 = .ok (.iadd, 1) := dk_96 (dk_at dksX3_go_9 4 rfl rfl)
theorem dX3_go_212 : decode cX3_go 212 = .ok (.bipush 48, 2) := dk_16 48 (dk_at dksX3_go_9 5 rfl rfl)
theorem dX3_go_214 : decode cX3_go 214 = .ok (.isub, 1) := dk_100 (dk_at dksX3_go_9 7 rfl rfl)
theorem dX3_go_215 : decode cX3_go 215 = .ok (.goto 7, 3) := dk_167 0 7 (dk_at dksX3_go_9 8 rfl rfl)
theorem dX3_go_218 : decode cX3_go 218 = .ok (.aload_n 0, 1) := dk_42 (dk_at dksX3_go_9 11 rfl rfl)
theorem dX3_go_219 : decode cX3_go 219 = .ok (.getfield 232, 3) := dk_180 0 232 (dk_at dksX3_go_9 12 rfl rfl)
theorem dX3_go_222 : decode cX3_go 222 = .ok (.putfield 232, 3) := dk_181 0 232 (dk_at dksX3_go_9 15 rfl rfl)
theorem dX3_go_225 : decode cX3_go 225 = .ok (.aload_n 0, 1) := dk_42 (dk_at dksX3_go_9 18 rfl rfl)
theorem dX3_go_226 : decode cX3_go 226 = .ok (.dup, 1) := dk_89 (dk_at dksX3_go_9 19 rfl rfl)
theorem dX3_go_227 : decode cX3_go 227 = .ok (.getfield 217, 3) := dk_180 0 217 (dk_at dksX3_go_9 20 rfl rfl)
theorem dX3_go_230 : decode cX3_go 230 = .ok (.iconst 1, 1) := dk_4 (dk_at dksX3_go_9 23 rfl rfl)
theorem dX3_go_231 : decode cX3_go 231 = .ok (.iadd, 1) := dk_96 (dk_at dksX3_go_10 0 rfl rfl)
theorem dX3_go_232 : decode cX3_go 232 = .ok (.putfield 217, 3) := dk_181 0 217 (dk_at dksX3_go_10 1 rfl rfl)
theorem dX3_go_235 : decode cX3_go 235 = .ok (.goto (-65), 3) := dk_167 255 191 (dk_at dksX3_go_10 4 rfl rfl)
theorem dX3_go_238 : decode cX3_go 238 = .ok (.aload_n 0, 1) := dk_42 (dk_at dksX3_go_10 7 rfl rfl)
theorem dX3_go_239 : decode cX3_go 239 = .ok (.iload_n 1, 1) := dk_27 (dk_at dksX3_go_10 8 rfl rfl)
theorem dX3_go_240 : decode cX3_go 240 = .ok (.ifCond .ne 16, 3) := dk_154 0 16 (dk_at dksX3_go_10 9 rfl rfl)
theorem dX3_go_243 : decode cX3_go 243 = .ok (.aload_n 0, 1) := dk_42 (dk_at dksX3_go_10 12 rfl rfl)
theorem dX3_go_244 : decode cX3_go 244 = .ok (.getfield 217, 3) := dk_180 0 217 (dk_at dksX3_go_10 13 rfl rfl)
theorem dX3_go_247 : decode cX3_go 247 = .ok (.aload_n 0, 1) := dk_42 (dk_at dksX3_go_10 16 rfl rfl)
theorem dX3_go_248 : decode cX3_go 248 = .ok (.getfield 220, 3) := dk_180 0 220 (dk_at dksX3_go_10 17 rfl rfl)
theorem dX3_go_251 : decode cX3_go 251 = .ok (.isub, 1) := dk_100 (dk_at dksX3_go_10 20 rfl rfl)
theorem dX3_go_252 : decode cX3_go 252 = .ok (.iconst 4, 1) := dk_7 (dk_at dksX3_go_10 21 rfl rfl)
theorem dX3_go_253 : decode cX3_go 253 = .ok (.if_icmp .le 7, 3) := dk_164 0 7 (dk_at dksX3_go_11 0 rfl rfl)
theorem dX3_go_256 : decode cX3_go 256 = .ok (.iconst 4, 1) := dk_7 (dk_at dksX3_go_11 3 rfl rfl)
theorem dX3_go_257 : decode cX3_go 257 = .ok (.goto 4, 3) := dk_167 0 4 (dk_at dksX3_go_11 4 rfl rfl)
theorem dX3_go_260 : decode cX3_go 260 = .ok (.iconst 2, 1) := dk_5 (dk_at dksX3_go_11 7 rfl rfl)
theorem dX3_go_261 : decode cX3_go 261 = .ok (.putfield 226, 3) := dk_181 0 226 (dk_at dksX3_go_11 8 rfl rfl)
theorem dX3_go_264 : decode cX3_go 264 = .ok (.aload_n 0, 1) := dk_42 (dk_at dksX3_go_11 11 rfl rfl)
theorem dX3_go_265 : decode cX3_go 265 = .ok (.aload_n 0, 1) := dk_42 (dk_at dksX3_go_11 12 rfl rfl)
theorem dX3_go_266 : decode cX3_go 266 = .ok (.getfield 217, 3) := dk_180 0 217 (dk_at dksX3_go_11 13 rfl rfl)
theorem dX3_go_269 : decode cX3_go 269 = .ok (.putfield 223, 3) := dk_181 0 223 (dk_at dksX3_go_11 16 rfl rfl)
theorem dX3_go_272 : decode cX3_go 272 = .ok (.goto 31, 3) := dk_167 0 31 (dk_at dksX3_go_11 19 rfl rfl)
theorem dX3_go_275 : decode cX3_go 275 = .ok (.aload_n 0, 1) := dk_42 (dk_at dksX3_go_11 22 rfl rfl)
theorem dX3_go_276 : decode cX3_go 276 = .ok (.iconst 3, 1) := dk_6 (dk_at dksX3_go_11 23 rfl rfl)
theorem dX3_go_277 : decode cX3_go 277 = .ok (.putfield 226, 3) := dk_181 0 226 (dk_at dksX3_go_12 0 rfl rfl)
theorem dX3_go_280 : decode cX3_go 280 = .ok (.aload_n 0, 1) := dk_42 (dk_at dksX3_go_12 3 rfl rfl)
theorem dX3_go_281 : decode cX3_go 281 = .ok (.aload_n 0, 1) := dk_42 (dk_at dksX3_go_12 4 rfl rfl)
theorem dX3_go_282 : decode cX3_go 282 = .ok (.getfield 31, 3) := dk_180 0 31 (dk_at dksX3_go_12 5 rfl rfl)
theorem dX3_go_285 : decode cX3_go 285 = .ok (.aload_n 0, 1) := dk_42 (dk_at dksX3_go_12 8 rfl rfl)
theorem dX3_go_286 : decode cX3_go 286 = .ok (.getfield 220, 3) := dk_180 0 220 (dk_at dksX3_go_12 9 rfl rfl)
theorem dX3_go_289 : decode cX3_go 289 = .ok (.iaload, 1) := dk_46 (dk_at dksX3_go_12 12 rfl rfl)
theorem dX3_go_290 : decode cX3_go 290 = .ok (.putfield 232, 3) := dk_181 0 232 (dk_at dksX3_go_12 13 rfl rfl)
theorem dX3_go_293 : decode cX3_go 293 = .ok (.aload_n 0, 1) := dk_42 (dk_at dksX3_go_12 16 rfl rfl)
theorem dX3_go_294 : decode cX3_go 294 = .ok (.dup, 1) := dk_89 (dk_at dksX3_go_12 17 rfl rfl)
theorem dX3_go_295 : decode cX3_go 295 = .ok (.getfield 217, 3) := dk_180 0 217 (dk_at dksX3_go_12 18 rfl rfl)
theorem dX3_go_298 : decode cX3_go 298 = .ok (.iconst 1, 1) := dk_4 (dk_at dksX3_go_12 21 rfl rfl)
theorem dX3_go_299 : decode cX3_go 299 = .ok (.iadd, 1) := dk_96 (dk_at dksX3_go_12 22 rfl rfl)
theorem dX3_go_300 : decode cX3_go 300 = .ok (.putfield 217, 3) := dk_181 0 217 (dk_at dksX3_go_13 0 rfl rfl)
theorem dX3_go_303 : decode cX3_go 303 = .ok (.return_, 1) := dk_177 (dk_at dksX3_go_13 3 rfl rfl)
abbrev cX3_isLetter : ByteArray := prog_22_method_62_code
def yX3_isLetter : MethodName := ⟨RX3, "isLetter", "(I)Z"⟩
def dkwX3_isLetter_1 : List UInt8 := [46, 16, 122, 163, 0, 7, 4, 167, 0, 4, 3, 172]
abbrev dktX3_isLetter_1 : List UInt8 := dkwX3_isLetter_1 ++ []
def dkwX3_isLetter_0 : List UInt8 := [27, 42, 180, 0, 213, 162, 0, 29, 42, 180, 0, 31, 27, 46, 16, 97, 161, 0, 18, 42, 180, 0, 31, 27]
abbrev dktX3_isLetter_0 : List UInt8 := dkwX3_isLetter_0 ++ dktX3_isLetter_1
theorem dksX3_isLetter_0 : cX3_isLetter.data.toList.drop 0 = dktX3_isLetter_0 := by decide +kernel
theorem dksX3_isLetter_1 : cX3_isLetter.data.toList.drop 24 = dktX3_isLetter_1 := dk_seg dksX3_isLetter_0 24 rfl rfl
theorem dX3_isLetter_0 : decode cX3_isLetter 0 = .ok (.iload_n 1, 1) := dk_27 (dk_at dksX3_isLetter_0 0 rfl rfl)
theorem dX3_isLetter_1 : decode cX3_isLetter 1 = .ok (.aload_n 0, 1) := dk_42 (dk_at dksX3_isLetter_0 1 rfl rfl)
theorem dX3_isLetter_2 : decode cX3_isLetter 2 = .ok (.getfield 213, 3) := dk_180 0 213 (dk_at dksX3_isLetter_0 2 rfl rfl)
theorem dX3_isLetter_5 : decode cX3_isLetter 5 = .ok (.if_icmp .ge 29, 3) := dk_162 0 29 (dk_at dksX3_isLetter_0 5 rfl rfl)
theorem dX3_isLetter_8 : decode cX3_isLetter 8 = .ok (.aload_n 0, 1) := dk_42 (dk_at dksX3_isLetter_0 8 rfl rfl)
theorem dX3_isLetter_9 : decode cX3_isLetter 9 = .ok (.getfield 31, 3) := dk_180 0 31 (dk_at dksX3_isLetter_0 9 rfl rfl)
theorem dX3_isLetter_12 : decode cX3_isLetter 12 = .ok (.iload_n 1, 1) := dk_27 (dk_at dksX3_isLetter_0 12 rfl rfl)
theorem dX3_isLetter_13 : decode cX3_isLetter 13 = .ok (.iaload, 1) := dk_46 (dk_at dksX3_isLetter_0 13 rfl rfl)
theorem dX3_isLetter_14 : decode cX3_isLetter 14 = .ok (.bipush 97, 2) := dk_16 97 (dk_at dksX3_isLetter_0 14 rfl rfl)
theorem dX3_isLetter_16 : decode cX3_isLetter 16 = .ok (.if_icmp .lt 18, 3) := dk_161 0 18 (dk_at dksX3_isLetter_0 16 rfl rfl)
theorem dX3_isLetter_19 : decode cX3_isLetter 19 = .ok (.aload_n 0, 1) := dk_42 (dk_at dksX3_isLetter_0 19 rfl rfl)
theorem dX3_isLetter_20 : decode cX3_isLetter 20 = .ok (.getfield 31, 3) := dk_180 0 31 (dk_at dksX3_isLetter_0 20 rfl rfl)
theorem dX3_isLetter_23 : decode cX3_isLetter 23 = .ok (.iload_n 1, 1) := dk_27 (dk_at dksX3_isLetter_0 23 rfl rfl)
theorem dX3_isLetter_24 : decode cX3_isLetter 24 = .ok (.iaload, 1) := dk_46 (dk_at dksX3_isLetter_1 0 rfl rfl)
theorem dX3_isLetter_25 : decode cX3_isLetter 25 = .ok (.bipush 122, 2) := dk_16 122 (dk_at dksX3_isLetter_1 1 rfl rfl)
theorem dX3_isLetter_27 : decode cX3_isLetter 27 = .ok (.if_icmp .gt 7, 3) := dk_163 0 7 (dk_at dksX3_isLetter_1 3 rfl rfl)
theorem dX3_isLetter_30 : decode cX3_isLetter 30 = .ok (.iconst 1, 1) := dk_4 (dk_at dksX3_isLetter_1 6 rfl rfl)
theorem dX3_isLetter_31 : decode cX3_isLetter 31 = .ok (.goto 4, 3) := dk_167 0 4 (dk_at dksX3_isLetter_1 7 rfl rfl)
theorem dX3_isLetter_34 : decode cX3_isLetter 34 = .ok (.iconst 0, 1) := dk_3 (dk_at dksX3_isLetter_1 10 rfl rfl)
theorem dX3_isLetter_35 : decode cX3_isLetter 35 = .ok (.ireturn, 1) := dk_172 (dk_at dksX3_isLetter_1 11 rfl rfl)
abbrev cX3_isFigure : ByteArray := prog_22_method_63_code
def yX3_isFigure : MethodName := ⟨RX3, "isFigure", "(I)Z"⟩
def dkwX3_isFigure_1 : List UInt8 := [46, 16, 57, 163, 0, 7, 4, 167, 0, 4, 3, 172]
abbrev dktX3_isFigure_1 : List UInt8 := dkwX3_isFigure_1 ++ []
def dkwX3_isFigure_0 : List UInt8 := [27, 42, 180, 0, 213, 162, 0, 29, 42, 180, 0, 31, 27, 46, 16, 48, 161, 0, 18, 42, 180, 0, 31, 27]
abbrev dktX3_isFigure_0 : List UInt8 := dkwX3_isFigure_0 ++ dktX3_isFigure_1
theorem dksX3_isFigure_0 : cX3_isFigure.data.toList.drop 0 = dktX3_isFigure_0 := by decide +kernel
theorem dksX3_isFigure_1 : cX3_isFigure.data.toList.drop 24 = dktX3_isFigure_1 := dk_seg dksX3_isFigure_0 24 rfl rfl
theorem dX3_isFigure_0 : decode cX3_isFigure 0 = .ok (.iload_n 1, 1) := dk_27 (dk_at dksX3_isFigure_0 0 rfl rfl)
theorem dX3_isFigure_1 : decode cX3_isFigure 1 = .ok (.aload_n 0, 1) := dk_42 (dk_at dksX3_isFigure_0 1 rfl rfl)
theorem dX3_isFigure_2 : decode cX3_isFigure 2 = .ok (.getfield 213, 3) := dk_180 0 213 (dk_at dksX3_isFigure_0 2 rfl rfl)
theorem dX3_isFigure_5 : decode cX3_isFigure 5 = .ok (.if_icmp .ge 29, 3) := dk_162 0 29 (dk_at dksX3_isFigure_0 5 rfl rfl)
theorem dX3_isFigure_8 : decode cX3_isFigure 8 = .ok (.aload_n 0, 1) := dk_42 (dk_at dksX3_isFigure_0 8 rfl rfl)
theorem dX3_isFigure_9 : decode cX3_isFigure 9 = .ok (.getfield 31, 3) := dk_180 0 31 (dk_at dksX3_isFigure_0 9 rfl rfl)
theorem dX3_isFigure_12 : decode cX3_isFigure 12 = .ok (.iload_n 1, 1) := dk_27 (dk_at dksX3_isFigure_0 12 rfl rfl)
theorem dX3_isFigure_13 : decode cX3_isFigure 13 = .ok (.iaload, 1) := dk_46 (dk_at dksX3_isFigure_0 13 rfl rfl)
theorem dX3_isFigure_14 : decode cX3_isFigure 14 = .ok (.bipush 48, 2) := dk_16 48 (dk_at dksX3_isFigure_0 14 rfl rfl)
theorem dX3_isFigure_16 : decode cX3_isFigure 16 = .ok (.if_icmp .lt 18, 3) := dk_161 0 18 (dk_at dksX3_isFigure_0 16 rfl rfl)
theorem dX3_isFigure_19 : decode cX3_isFigure 19 = .ok (.aload_n 0, 1) := dk_42 (dk_at dksX3_isFigure_0 19 rfl rfl)
theorem dX3_isFigure_20 : decode cX3_isFigure 20 = .ok (.getfield 31, 3) := dk_180 0 31 (dk_at dksX3_isFigure_0 20 rfl rfl)
theorem dX3_isFigure_23 : decode cX3_isFigure 23 = .ok (.iload_n 1, 1) := dk_27 (dk_at dksX3_isFigure_0 23 rfl rfl)
theorem dX3_isFigure_24 : decode cX3_isFigure 24 = .ok (.iaload, 1) := dk_46 (dk_at dksX3_isFigure_1 0 rfl rfl)
theorem dX3_isFigure_25 : decode cX3_isFigure 25 = .ok (.bipush 57, 2) := dk_16 57 (dk_at dksX3_isFigure_1 1 rfl rfl)
theorem dX3_isFigure_27 : decode cX3_isFigure 27 = .ok (.if_icmp .gt 7, 3) := dk_163 0 7 (dk_at dksX3_isFigure_1 3 rfl rfl)
theorem dX3_isFigure_30 : decode cX3_isFigure 30 = .ok (.iconst 1, 1) := dk_4 (dk_at dksX3_isFigure_1 6 rfl rfl)
theorem dX3_isFigure_31 : decode cX3_isFigure 31 = .ok (.goto 4, 3) := dk_167 0 4 (dk_at dksX3_isFigure_1 7 rfl rfl)
theorem dX3_isFigure_34 : decode cX3_isFigure 34 = .ok (.iconst 0, 1) := dk_3 (dk_at dksX3_isFigure_1 10 rfl rfl)
theorem dX3_isFigure_35 : decode cX3_isFigure 35 = .ok (.ireturn, 1) := dk_172 (dk_at dksX3_isFigure_1 11 rfl rfl)
abbrev cX3_takesKey : ByteArray := prog_22_method_65_code
def yX3_takesKey : MethodName := ⟨RX3, "takesKey", "()Z"⟩
def dkwX3_takesKey_5 : List UInt8 := [182, 0, 241, 4, 172, 132, 1, 1, 167, 255, 144, 3, 172]
abbrev dktX3_takesKey_5 : List UInt8 := dkwX3_takesKey_5 ++ []
def dkwX3_takesKey_4 : List UInt8 := [4, 167, 0, 4, 3, 62, 132, 4, 1, 167, 255, 208, 29, 153, 0, 14, 42, 27, 181, 0, 238, 42]
abbrev dktX3_takesKey_4 : List UInt8 := dkwX3_takesKey_4 ++ dktX3_takesKey_5
def dkwX3_takesKey_3 : List UInt8 := [180, 0, 220, 21, 4, 96, 46, 42, 180, 0, 34, 42, 180, 0, 38, 27, 46, 21, 4, 96, 52, 160, 0, 7]
abbrev dktX3_takesKey_3 : List UInt8 := dkwX3_takesKey_3 ++ dktX3_takesKey_4
def dkwX3_takesKey_2 : List UInt8 := [167, 0, 4, 3, 62, 3, 54, 4, 21, 4, 28, 162, 0, 48, 29, 153, 0, 44, 42, 180, 0, 31, 42]
abbrev dktX3_takesKey_2 : List UInt8 := dkwX3_takesKey_2 ++ dktX3_takesKey_3
def dkwX3_takesKey_1 : List UInt8 := [46, 42, 180, 0, 38, 27, 46, 100, 61, 28, 42, 180, 0, 217, 42, 180, 0, 220, 100, 160, 0, 7, 4]
abbrev dktX3_takesKey_1 : List UInt8 := dkwX3_takesKey_1 ++ dktX3_takesKey_2
def dkwX3_takesKey_0 : List UInt8 := [42, 180, 0, 226, 4, 159, 0, 5, 3, 172, 3, 60, 27, 6, 162, 0, 113, 42, 180, 0, 38, 27, 4, 96]
abbrev dktX3_takesKey_0 : List UInt8 := dkwX3_takesKey_0 ++ dktX3_takesKey_1
theorem dksX3_takesKey_0 : cX3_takesKey.data.toList.drop 0 = dktX3_takesKey_0 := by decide +kernel
theorem dksX3_takesKey_1 : cX3_takesKey.data.toList.drop 24 = dktX3_takesKey_1 := dk_seg dksX3_takesKey_0 24 rfl rfl
theorem dksX3_takesKey_2 : cX3_takesKey.data.toList.drop 47 = dktX3_takesKey_2 := dk_seg dksX3_takesKey_1 23 rfl rfl
theorem dksX3_takesKey_3 : cX3_takesKey.data.toList.drop 70 = dktX3_takesKey_3 := dk_seg dksX3_takesKey_2 23 rfl rfl
theorem dksX3_takesKey_4 : cX3_takesKey.data.toList.drop 94 = dktX3_takesKey_4 := dk_seg dksX3_takesKey_3 24 rfl rfl
theorem dksX3_takesKey_5 : cX3_takesKey.data.toList.drop 116 = dktX3_takesKey_5 := dk_seg dksX3_takesKey_4 22 rfl rfl
theorem dX3_takesKey_0 : decode cX3_takesKey 0 = .ok (.aload_n 0, 1) := dk_42 (dk_at dksX3_takesKey_0 0 rfl rfl)
theorem dX3_takesKey_1 : decode cX3_takesKey 1 = .ok (.getfield 226, 3) := dk_180 0 226 (dk_at dksX3_takesKey_0 1 rfl rfl)
theorem dX3_takesKey_4 : decode cX3_takesKey 4 = .ok (.iconst 1, 1) := dk_4 (dk_at dksX3_takesKey_0 4 rfl rfl)
theorem dX3_takesKey_5 : decode cX3_takesKey 5 = .ok (.if_icmp .eq 5, 3) := dk_159 0 5 (dk_at dksX3_takesKey_0 5 rfl rfl)
theorem dX3_takesKey_8 : decode cX3_takesKey 8 = .ok (.iconst 0, 1) := dk_3 (dk_at dksX3_takesKey_0 8 rfl rfl)
theorem dX3_takesKey_9 : decode cX3_takesKey 9 = .ok (.ireturn, 1) := dk_172 (dk_at dksX3_takesKey_0 9 rfl rfl)
theorem dX3_takesKey_10 : decode cX3_takesKey 10 = .ok (.iconst 0, 1) := dk_3 (dk_at dksX3_takesKey_0 10 rfl rfl)
theorem dX3_takesKey_11 : decode cX3_takesKey 11 = .ok (.istore_n 1, 1) := dk_60 (dk_at dksX3_takesKey_0 11 rfl rfl)
theorem dX3_takesKey_12 : decode cX3_takesKey 12 = .ok (.iload_n 1, 1) := dk_27 (dk_at dksX3_takesKey_0 12 rfl rfl)
theorem dX3_takesKey_13 : decode cX3_takesKey 13 = .ok (.iconst 3, 1) := dk_6 (dk_at dksX3_takesKey_0 13 rfl rfl)
theorem dX3_takesKey_14 : decode cX3_takesKey 14 = .ok (.if_icmp .ge 113, 3) := dk_162 0 113 (dk_at dksX3_takesKey_0 14 rfl rfl)
theorem dX3_takesKey_17 : decode cX3_takesKey 17 = .ok (.aload_n 0, 1) := dk_42 (dk_at dksX3_takesKey_0 17 rfl rfl)
theorem dX3_takesKey_18 : decode cX3_takesKey 18 = .ok (.getfield 38, 3) := dk_180 0 38 (dk_at dksX3_takesKey_0 18 rfl rfl)
theorem dX3_takesKey_21 : decode cX3_takesKey 21 = .ok (.iload_n 1, 1) := dk_27 (dk_at dksX3_takesKey_0 21 rfl rfl)
theorem dX3_takesKey_22 : decode cX3_takesKey 22 = .ok (.iconst 1, 1) := dk_4 (dk_at dksX3_takesKey_0 22 rfl rfl)
theorem dX3_takesKey_23 : decode cX3_takesKey 23 = .ok (.iadd, 1) := dk_96 (dk_at dksX3_takesKey_0 23 rfl rfl)
theorem dX3_takesKey_24 : decode cX3_takesKey 24 = .ok (.iaload, 1) := dk_46 (dk_at dksX3_takesKey_1 0 rfl rfl)
theorem dX3_takesKey_25 : decode cX3_takesKey 25 = .ok (.aload_n 0, 1) := dk_42 (dk_at dksX3_takesKey_1 1 rfl rfl)
theorem dX3_takesKey_26 : decode cX3_takesKey 26 = .ok (.getfield 38, 3) := dk_180 0 38 (dk_at dksX3_takesKey_1 2 rfl rfl)
theorem dX3_takesKey_29 : decode cX3_takesKey 29 = .ok (.iload_n 1, 1) := dk_27 (dk_at dksX3_takesKey_1 5 rfl rfl)
theorem dX3_takesKey_30 : decode cX3_takesKey 30 = .ok (.iaload, 1) := dk_46 (dk_at dksX3_takesKey_1 6 rfl rfl)
theorem dX3_takesKey_31 : decode cX3_takesKey 31 = .ok (.isub, 1) := dk_100 (dk_at dksX3_takesKey_1 7 rfl rfl)
theorem dX3_takesKey_32 : decode cX3_takesKey 32 = .ok (.istore_n 2, 1) := dk_61 (dk_at dksX3_takesKey_1 8 rfl rfl)
theorem dX3_takesKey_33 : decode cX3_takesKey 33 = .ok (.iload_n 2, 1) := dk_28 (dk_at dksX3_takesKey_1 9 rfl rfl)
theorem dX3_takesKey_34 : decode cX3_takesKey 34 = .ok (.aload_n 0, 1) := dk_42 (dk_at dksX3_takesKey_1 10 rfl rfl)
theorem dX3_takesKey_35 : decode cX3_takesKey 35 = .ok (.getfield 217, 3) := dk_180 0 217 (dk_at dksX3_takesKey_1 11 rfl rfl)
theorem dX3_takesKey_38 : decode cX3_takesKey 38 = .ok (.aload_n 0, 1) := dk_42 (dk_at dksX3_takesKey_1 14 rfl rfl)
theorem dX3_takesKey_39 : decode cX3_takesKey 39 = .ok (.getfield 220, 3) := dk_180 0 220 (dk_at dksX3_takesKey_1 15 rfl rfl)
theorem dX3_takesKey_42 : decode cX3_takesKey 42 = .ok (.isub, 1) := dk_100 (dk_at dksX3_takesKey_1 18 rfl rfl)
theorem dX3_takesKey_43 : decode cX3_takesKey 43 = .ok (.if_icmp .ne 7, 3) := dk_160 0 7 (dk_at dksX3_takesKey_1 19 rfl rfl)
theorem dX3_takesKey_46 : decode cX3_takesKey 46 = .ok (.iconst 1, 1) := dk_4 (dk_at dksX3_takesKey_1 22 rfl rfl)
theorem dX3_takesKey_47 : decode cX3_takesKey 47 = .ok (.goto 4, 3) := dk_167 0 4 (dk_at dksX3_takesKey_2 0 rfl rfl)
theorem dX3_takesKey_50 : decode cX3_takesKey 50 = .ok (.iconst 0, 1) := dk_3 (dk_at dksX3_takesKey_2 3 rfl rfl)
theorem dX3_takesKey_51 : decode cX3_takesKey 51 = .ok (.istore_n 3, 1) := dk_62 (dk_at dksX3_takesKey_2 4 rfl rfl)
theorem dX3_takesKey_52 : decode cX3_takesKey 52 = .ok (.iconst 0, 1) := dk_3 (dk_at dksX3_takesKey_2 5 rfl rfl)
theorem dX3_takesKey_53 : decode cX3_takesKey 53 = .ok (.istore 4, 2) := dk_54 4 (dk_at dksX3_takesKey_2 6 rfl rfl)
theorem dX3_takesKey_55 : decode cX3_takesKey 55 = .ok (.iload 4, 2) := dk_21 4 (dk_at dksX3_takesKey_2 8 rfl rfl)
theorem dX3_takesKey_57 : decode cX3_takesKey 57 = .ok (.iload_n 2, 1) := dk_28 (dk_at dksX3_takesKey_2 10 rfl rfl)
theorem dX3_takesKey_58 : decode cX3_takesKey 58 = .ok (.if_icmp .ge 48, 3) := dk_162 0 48 (dk_at dksX3_takesKey_2 11 rfl rfl)
theorem dX3_takesKey_61 : decode cX3_takesKey 61 = .ok (.iload_n 3, 1) := dk_29 (dk_at dksX3_takesKey_2 14 rfl rfl)
theorem dX3_takesKey_62 : decode cX3_takesKey 62 = .ok (.ifCond .eq 44, 3) := dk_153 0 44 (dk_at dksX3_takesKey_2 15 rfl rfl)
theorem dX3_takesKey_65 : decode cX3_takesKey 65 = .ok (.aload_n 0, 1) := dk_42 (dk_at dksX3_takesKey_2 18 rfl rfl)
theorem dX3_takesKey_66 : decode cX3_takesKey 66 = .ok (.getfield 31, 3) := dk_180 0 31 (dk_at dksX3_takesKey_2 19 rfl rfl)
theorem dX3_takesKey_69 : decode cX3_takesKey 69 = .ok (.aload_n 0, 1) := dk_42 (dk_at dksX3_takesKey_2 22 rfl rfl)
theorem dX3_takesKey_70 : decode cX3_takesKey 70 = .ok (.getfield 220, 3) := dk_180 0 220 (dk_at dksX3_takesKey_3 0 rfl rfl)
theorem dX3_takesKey_73 : decode cX3_takesKey 73 = .ok (.iload 4, 2) := dk_21 4 (dk_at dksX3_takesKey_3 3 rfl rfl)
theorem dX3_takesKey_75 : decode cX3_takesKey 75 = .ok (.iadd, 1) := dk_96 (dk_at dksX3_takesKey_3 5 rfl rfl)
theorem dX3_takesKey_76 : decode cX3_takesKey 76 = .ok (.iaload, 1) := dk_46 (dk_at dksX3_takesKey_3 6 rfl rfl)
theorem dX3_takesKey_77 : decode cX3_takesKey 77 = .ok (.aload_n 0, 1) := dk_42 (dk_at dksX3_takesKey_3 7 rfl rfl)
theorem dX3_takesKey_78 : decode cX3_takesKey 78 = .ok (.getfield 34, 3) := dk_180 0 34 (dk_at dksX3_takesKey_3 8 rfl rfl)
theorem dX3_takesKey_81 : decode cX3_takesKey 81 = .ok (.aload_n 0, 1) := dk_42 (dk_at dksX3_takesKey_3 11 rfl rfl)
theorem dX3_takesKey_82 : decode cX3_takesKey 82 = .ok (.getfield 38, 3) := dk_180 0 38 (dk_at dksX3_takesKey_3 12 rfl rfl)
theorem dX3_takesKey_85 : decode cX3_takesKey 85 = .ok (.iload_n 1, 1) := dk_27 (dk_at dksX3_takesKey_3 15 rfl rfl)
theorem dX3_takesKey_86 : decode cX3_takesKey 86 = .ok (.iaload, 1) := dk_46 (dk_at dksX3_takesKey_3 16 rfl rfl)
theorem dX3_takesKey_87 : decode cX3_takesKey 87 = .ok (.iload 4, 2) := dk_21 4 (dk_at dksX3_takesKey_3 17 rfl rfl)
theorem dX3_takesKey_89 : decode cX3_takesKey 89 = .ok (.iadd, 1) := dk_96 (dk_at dksX3_takesKey_3 19 rfl rfl)
theorem dX3_takesKey_90 : decode cX3_takesKey 90 = .ok (.caload, 1) := dk_52 (dk_at dksX3_takesKey_3 20 rfl rfl)
theorem dX3_takesKey_91 : decode cX3_takesKey 91 = .ok (.if_icmp .ne 7, 3) := dk_160 0 7 (dk_at dksX3_takesKey_3 21 rfl rfl)
theorem dX3_takesKey_94 : decode cX3_takesKey 94 = .ok (.iconst 1, 1) := dk_4 (dk_at dksX3_takesKey_4 0 rfl rfl)
theorem dX3_takesKey_95 : decode cX3_takesKey 95 = .ok (.goto 4, 3) := dk_167 0 4 (dk_at dksX3_takesKey_4 1 rfl rfl)
theorem dX3_takesKey_98 : decode cX3_takesKey 98 = .ok (.iconst 0, 1) := dk_3 (dk_at dksX3_takesKey_4 4 rfl rfl)
theorem dX3_takesKey_99 : decode cX3_takesKey 99 = .ok (.istore_n 3, 1) := dk_62 (dk_at dksX3_takesKey_4 5 rfl rfl)
theorem dX3_takesKey_100 : decode cX3_takesKey 100 = .ok (.iinc 4 1, 3) := dk_132 4 1 (dk_at dksX3_takesKey_4 6 rfl rfl)
theorem dX3_takesKey_103 : decode cX3_takesKey 103 = .ok (.goto (-48), 3) := dk_167 255 208 (dk_at dksX3_takesKey_4 9 rfl rfl)
theorem dX3_takesKey_106 : decode cX3_takesKey 106 = .ok (.iload_n 3, 1) := dk_29 (dk_at dksX3_takesKey_4 12 rfl rfl)
theorem dX3_takesKey_107 : decode cX3_takesKey 107 = .ok (.ifCond .eq 14, 3) := dk_153 0 14 (dk_at dksX3_takesKey_4 13 rfl rfl)
theorem dX3_takesKey_110 : decode cX3_takesKey 110 = .ok (.aload_n 0, 1) := dk_42 (dk_at dksX3_takesKey_4 16 rfl rfl)
theorem dX3_takesKey_111 : decode cX3_takesKey 111 = .ok (.iload_n 1, 1) := dk_27 (dk_at dksX3_takesKey_4 17 rfl rfl)
theorem dX3_takesKey_112 : decode cX3_takesKey 112 = .ok (.putfield 238, 3) := dk_181 0 238 (dk_at dksX3_takesKey_4 18 rfl rfl)
theorem dX3_takesKey_115 : decode cX3_takesKey 115 = .ok (.aload_n 0, 1) := dk_42 (dk_at dksX3_takesKey_4 21 rfl rfl)
theorem dX3_takesKey_116 : decode cX3_takesKey 116 = .ok (.invokevirtual 241, 3) := dk_182 0 241 (dk_at dksX3_takesKey_5 0 rfl rfl)
theorem dX3_takesKey_119 : decode cX3_takesKey 119 = .ok (.iconst 1, 1) := dk_4 (dk_at dksX3_takesKey_5 3 rfl rfl)
theorem dX3_takesKey_120 : decode cX3_takesKey 120 = .ok (.ireturn, 1) := dk_172 (dk_at dksX3_takesKey_5 4 rfl rfl)
theorem dX3_takesKey_121 : decode cX3_takesKey 121 = .ok (.iinc 1 1, 3) := dk_132 1 1 (dk_at dksX3_takesKey_5 5 rfl rfl)
theorem dX3_takesKey_124 : decode cX3_takesKey 124 = .ok (.goto (-112), 3) := dk_167 255 144 (dk_at dksX3_takesKey_5 8 rfl rfl)
theorem dX3_takesKey_127 : decode cX3_takesKey 127 = .ok (.iconst 0, 1) := dk_3 (dk_at dksX3_takesKey_5 11 rfl rfl)
theorem dX3_takesKey_128 : decode cX3_takesKey 128 = .ok (.ireturn, 1) := dk_172 (dk_at dksX3_takesKey_5 12 rfl rfl)
abbrev cX3_takesE : ByteArray := prog_22_method_71_code
def yX3_takesE : MethodName := ⟨RX3, "takesE", "()Z"⟩
def dkwX3_takesE_15 : List UInt8 := [182, 1, 3, 27, 154, 0, 7, 4, 167, 0, 4, 3, 172]
abbrev dktX3_takesE_15 : List UInt8 := dkwX3_takesE_15 ++ []
def dkwX3_takesE_14 : List UInt8 := [79, 42, 89, 180, 0, 244, 4, 96, 181, 0, 244, 4, 62, 42, 182, 0, 241, 167, 254, 198, 42, 3]
abbrev dktX3_takesE_14 : List UInt8 := dkwX3_takesE_14 ++ dktX3_takesE_15
def dkwX3_takesE_13 : List UInt8 := [167, 0, 4, 3, 84, 42, 21, 4, 184, 0, 247, 182, 1, 3, 42, 180, 0, 44, 42, 180, 0, 244, 21, 4]
abbrev dktX3_takesE_13 : List UInt8 := dkwX3_takesE_13 ++ dktX3_takesE_14
def dkwX3_takesE_12 : List UInt8 := [6, 159, 0, 21, 21, 4, 184, 0, 247, 6, 164, 0, 16, 42, 180, 0, 47, 27, 51, 153, 0, 7, 4]
abbrev dktX3_takesE_12 : List UInt8 := dkwX3_takesE_12 ++ dktX3_takesE_13
def dkwX3_takesE_11 : List UInt8 := [160, 0, 14, 42, 180, 0, 47, 27, 51, 153, 0, 5, 3, 172, 42, 180, 0, 47, 27, 21, 4, 184, 0, 247]
abbrev dktX3_takesE_11 : List UInt8 := dkwX3_takesE_11 ++ dktX3_takesE_12
def dkwX3_takesE_10 : List UInt8 := [182, 0, 241, 167, 255, 50, 42, 182, 1, 14, 54, 4, 21, 4, 153, 0, 21, 21, 4, 184, 0, 247, 6]
abbrev dktX3_takesE_10 : List UInt8 := dkwX3_takesE_10 ++ dktX3_takesE_11
def dkwX3_takesE_9 : List UInt8 := [180, 0, 244, 4, 100, 181, 0, 244, 132, 1, 255, 42, 16, 6, 182, 1, 3, 42, 182, 1, 11, 61, 42]
abbrev dktX3_takesE_9 : List UInt8 := dkwX3_takesE_9 ++ dktX3_takesE_10
def dkwX3_takesE_8 : List UInt8 := [160, 0, 52, 42, 180, 0, 232, 16, 41, 160, 0, 43, 27, 158, 0, 39, 42, 3, 182, 1, 3, 42, 89]
abbrev dktX3_takesE_8 : List UInt8 := dkwX3_takesE_8 ++ dktX3_takesE_9
def dkwX3_takesE_7 : List UInt8 := [153, 0, 8, 3, 62, 167, 0, 5, 3, 172, 42, 182, 1, 11, 61, 167, 255, 107, 42, 180, 0, 226, 6]
abbrev dktX3_takesE_7 : List UInt8 := dkwX3_takesE_7 ++ dktX3_takesE_8
def dkwX3_takesE_6 : List UInt8 := [181, 0, 244, 132, 1, 1, 42, 180, 0, 47, 27, 3, 84, 42, 182, 0, 241, 167, 0, 17, 42, 182, 1, 7]
abbrev dktX3_takesE_6 : List UInt8 := dkwX3_takesE_6 ++ dktX3_takesE_7
def dkwX3_takesE_5 : List UInt8 := [16, 8, 162, 0, 41, 42, 180, 0, 44, 42, 180, 0, 244, 16, 245, 79, 42, 89, 180, 0, 244, 4, 96]
abbrev dktX3_takesE_5 : List UInt8 := dkwX3_takesE_5 ++ dktX3_takesE_6
def dkwX3_takesE_4 : List UInt8 := [182, 0, 241, 167, 0, 78, 42, 180, 0, 226, 6, 160, 0, 56, 42, 180, 0, 232, 16, 40, 160, 0, 47, 27]
abbrev dktX3_takesE_4 : List UInt8 := dkwX3_takesE_4 ++ dktX3_takesE_5
def dkwX3_takesE_3 : List UInt8 := [180, 0, 44, 42, 180, 0, 244, 16, 246, 79, 42, 89, 180, 0, 244, 4, 96, 181, 0, 244, 132, 2, 1, 42]
abbrev dktX3_takesE_3 : List UInt8 := dkwX3_takesE_3 ++ dktX3_takesE_4
def dkwX3_takesE_2 : List UInt8 := [180, 0, 226, 6, 160, 0, 49, 42, 180, 0, 232, 16, 33, 160, 0, 40, 28, 16, 8, 162, 0, 34, 42]
abbrev dktX3_takesE_2 : List UInt8 := dkwX3_takesE_2 ++ dktX3_takesE_3
def dkwX3_takesE_1 : List UInt8 := [180, 0, 47, 3, 3, 84, 29, 154, 0, 10, 42, 180, 0, 226, 153, 1, 53, 29, 153, 0, 140, 42]
abbrev dktX3_takesE_1 : List UInt8 := dkwX3_takesE_1 ++ dktX3_takesE_2
def dkwX3_takesE_0 : List UInt8 := [3, 60, 3, 61, 4, 62, 42, 3, 181, 0, 250, 42, 3, 181, 1, 0, 42, 3, 181, 0, 244, 42]
abbrev dktX3_takesE_0 : List UInt8 := dkwX3_takesE_0 ++ dktX3_takesE_1
theorem dksX3_takesE_0 : cX3_takesE.data.toList.drop 0 = dktX3_takesE_0 := by decide +kernel
theorem dksX3_takesE_1 : cX3_takesE.data.toList.drop 22 = dktX3_takesE_1 := dk_seg dksX3_takesE_0 22 rfl rfl
theorem dksX3_takesE_2 : cX3_takesE.data.toList.drop 44 = dktX3_takesE_2 := dk_seg dksX3_takesE_1 22 rfl rfl
theorem dksX3_takesE_3 : cX3_takesE.data.toList.drop 67 = dktX3_takesE_3 := dk_seg dksX3_takesE_2 23 rfl rfl
theorem dksX3_takesE_4 : cX3_takesE.data.toList.drop 91 = dktX3_takesE_4 := dk_seg dksX3_takesE_3 24 rfl rfl
theorem dksX3_takesE_5 : cX3_takesE.data.toList.drop 115 = dktX3_takesE_5 := dk_seg dksX3_takesE_4 24 rfl rfl
theorem dksX3_takesE_6 : cX3_takesE.data.toList.drop 138 = dktX3_takesE_6 := dk_seg dksX3_takesE_5 23 rfl rfl
theorem dksX3_takesE_7 : cX3_takesE.data.toList.drop 162 = dktX3_takesE_7 := dk_seg dksX3_takesE_6 24 rfl rfl
theorem dksX3_takesE_8 : cX3_takesE.data.toList.drop 185 = dktX3_takesE_8 := dk_seg dksX3_takesE_7 23 rfl rfl
theorem dksX3_takesE_9 : cX3_takesE.data.toList.drop 208 = dktX3_takesE_9 := dk_seg dksX3_takesE_8 23 rfl rfl
theorem dksX3_takesE_10 : cX3_takesE.data.toList.drop 231 = dktX3_takesE_10 := dk_seg dksX3_takesE_9 23 rfl rfl
theorem dksX3_takesE_11 : cX3_takesE.data.toList.drop 254 = dktX3_takesE_11 := dk_seg dksX3_takesE_10 23 rfl rfl
theorem dksX3_takesE_12 : cX3_takesE.data.toList.drop 278 = dktX3_takesE_12 := dk_seg dksX3_takesE_11 24 rfl rfl
theorem dksX3_takesE_13 : cX3_takesE.data.toList.drop 301 = dktX3_takesE_13 := dk_seg dksX3_takesE_12 23 rfl rfl
theorem dksX3_takesE_14 : cX3_takesE.data.toList.drop 325 = dktX3_takesE_14 := dk_seg dksX3_takesE_13 24 rfl rfl
theorem dksX3_takesE_15 : cX3_takesE.data.toList.drop 347 = dktX3_takesE_15 := dk_seg dksX3_takesE_14 22 rfl rfl
theorem dX3_takesE_0 : decode cX3_takesE 0 = .ok (.iconst 0, 1) := dk_3 (dk_at dksX3_takesE_0 0 rfl rfl)
theorem dX3_takesE_1 : decode cX3_takesE 1 = .ok (.istore_n 1, 1) := dk_60 (dk_at dksX3_takesE_0 1 rfl rfl)
theorem dX3_takesE_2 : decode cX3_takesE 2 = .ok (.iconst 0, 1) := dk_3 (dk_at dksX3_takesE_0 2 rfl rfl)
theorem dX3_takesE_3 : decode cX3_takesE 3 = .ok (.istore_n 2, 1) := dk_61 (dk_at dksX3_takesE_0 3 rfl rfl)
theorem dX3_takesE_4 : decode cX3_takesE 4 = .ok (.iconst 1, 1) := dk_4 (dk_at dksX3_takesE_0 4 rfl rfl)
theorem dX3_takesE_5 : decode cX3_takesE 5 = .ok (.istore_n 3, 1) := dk_62 (dk_at dksX3_takesE_0 5 rfl rfl)
theorem dX3_takesE_6 : decode cX3_takesE 6 = .ok (.aload_n 0, 1) := dk_42 (dk_at dksX3_takesE_0 6 rfl rfl)
theorem dX3_takesE_7 : decode cX3_takesE 7 = .ok (.iconst 0, 1) := dk_3 (dk_at dksX3_takesE_0 7 rfl rfl)
theorem dX3_takesE_8 : decode cX3_takesE 8 = .ok (.putfield 250, 3) := dk_181 0 250 (dk_at dksX3_takesE_0 8 rfl rfl)
theorem dX3_takesE_11 : decode cX3_takesE 11 = .ok (.aload_n 0, 1) := dk_42 (dk_at dksX3_takesE_0 11 rfl rfl)
theorem dX3_takesE_12 : decode cX3_takesE 12 = .ok (.iconst 0, 1) := dk_3 (dk_at dksX3_takesE_0 12 rfl rfl)
theorem dX3_takesE_13 : decode cX3_takesE 13 = .ok (.putfield 256, 3) := dk_181 1 0 (dk_at dksX3_takesE_0 13 rfl rfl)
theorem dX3_takesE_16 : decode cX3_takesE 16 = .ok (.aload_n 0, 1) := dk_42 (dk_at dksX3_takesE_0 16 rfl rfl)
theorem dX3_takesE_17 : decode cX3_takesE 17 = .ok (.iconst 0, 1) := dk_3 (dk_at dksX3_takesE_0 17 rfl rfl)
theorem dX3_takesE_18 : decode cX3_takesE 18 = .ok (.putfield 244, 3) := dk_181 0 244 (dk_at dksX3_takesE_0 18 rfl rfl)
theorem dX3_takesE_21 : decode cX3_takesE 21 = .ok (.aload_n 0, 1) := dk_42 (dk_at dksX3_takesE_0 21 rfl rfl)
theorem dX3_takesE_22 : decode cX3_takesE 22 = .ok (.getfield 47, 3) := dk_180 0 47 (dk_at dksX3_takesE_1 0 rfl rfl)
theorem dX3_takesE_25 : decode cX3_takesE 25 = .ok (.iconst 0, 1) := dk_3 (dk_at dksX3_takesE_1 3 rfl rfl)
theorem dX3_takesE_26 : decode cX3_takesE 26 = .ok (.iconst 0, 1) := dk_3 (dk_at dksX3_takesE_1 4 rfl rfl)
theorem dX3_takesE_27 : decode cX3_takesE 27 = .ok (.bastore, 1) := dk_84 (dk_at dksX3_takesE_1 5 rfl rfl)
theorem dX3_takesE_28 : decode cX3_takesE 28 = .ok (.iload_n 3, 1) := dk_29 (dk_at dksX3_takesE_1 6 rfl rfl)
theorem dX3_takesE_29 : decode cX3_takesE 29 = .ok (.ifCond .ne 10, 3) := dk_154 0 10 (dk_at dksX3_takesE_1 7 rfl rfl)
theorem dX3_takesE_32 : decode cX3_takesE 32 = .ok (.aload_n 0, 1) := dk_42 (dk_at dksX3_takesE_1 10 rfl rfl)
theorem dX3_takesE_33 : decode cX3_takesE 33 = .ok (.getfield 226, 3) := dk_180 0 226 (dk_at dksX3_takesE_1 11 rfl rfl)
theorem dX3_takesE_36 : decode cX3_takesE 36 = .ok (.ifCond .eq 309, 3) := dk_153 1 53 (dk_at dksX3_takesE_1 14 rfl rfl)
theorem dX3_takesE_39 : decode cX3_takesE 39 = .ok (.iload_n 3, 1) := dk_29 (dk_at dksX3_takesE_1 17 rfl rfl)
theorem dX3_takesE_40 : decode cX3_takesE 40 = .ok (.ifCond .eq 140, 3) := dk_153 0 140 (dk_at dksX3_takesE_1 18 rfl rfl)
theorem dX3_takesE_43 : decode cX3_takesE 43 = .ok (.aload_n 0, 1) := dk_42 (dk_at dksX3_takesE_1 21 rfl rfl)
theorem dX3_takesE_44 : decode cX3_takesE 44 = .ok (.getfield 226, 3) := dk_180 0 226 (dk_at dksX3_takesE_2 0 rfl rfl)
theorem dX3_takesE_47 : decode cX3_takesE 47 = .ok (.iconst 3, 1) := dk_6 (dk_at dksX3_takesE_2 3 rfl rfl)
theorem dX3_takesE_48 : decode cX3_takesE 48 = .ok (.if_icmp .ne 49, 3) := dk_160 0 49 (dk_at dksX3_takesE_2 4 rfl rfl)
theorem dX3_takesE_51 : decode cX3_takesE 51 = .ok (.aload_n 0, 1) := dk_42 (dk_at dksX3_takesE_2 7 rfl rfl)
theorem dX3_takesE_52 : decode cX3_takesE 52 = .ok (.getfield 232, 3) := dk_180 0 232 (dk_at dksX3_takesE_2 8 rfl rfl)
theorem dX3_takesE_55 : decode cX3_takesE 55 = .ok (.bipush 33, 2) := dk_16 33 (dk_at dksX3_takesE_2 11 rfl rfl)
theorem dX3_takesE_57 : decode cX3_takesE 57 = .ok (.if_icmp .ne 40, 3) := dk_160 0 40 (dk_at dksX3_takesE_2 13 rfl rfl)
theorem dX3_takesE_60 : decode cX3_takesE 60 = .ok (.iload_n 2, 1) := dk_28 (dk_at dksX3_takesE_2 16 rfl rfl)
theorem dX3_takesE_61 : decode cX3_takesE 61 = .ok (.bipush 8, 2) := dk_16 8 (dk_at dksX3_takesE_2 17 rfl rfl)
theorem dX3_takesE_63 : decode cX3_takesE 63 = .ok (.if_icmp .ge 34, 3) := dk_162 0 34 (dk_at dksX3_takesE_2 19 rfl rfl)
theorem dX3_takesE_66 : decode cX3_takesE 66 = .ok (.aload_n 0, 1) := dk_42 (dk_at dksX3_takesE_2 22 rfl rfl)
theorem dX3_takesE_67 : decode cX3_takesE 67 = .ok (.getfield 44, 3) := dk_180 0 44 (dk_at dksX3_takesE_3 0 rfl rfl)
theorem dX3_takesE_70 : decode cX3_takesE 70 = .ok (.aload_n 0, 1) := dk_42 (dk_at dksX3_takesE_3 3 rfl rfl)
theorem dX3_takesE_71 : decode cX3_takesE 71 = .ok (.getfield 244, 3) := dk_180 0 244 (dk_at dksX3_takesE_3 4 rfl rfl)
theorem dX3_takesE_74 : decode cX3_takesE 74 = .ok (.bipush (-10), 2) := dk_16 246 (dk_at dksX3_takesE_3 7 rfl rfl)
theorem dX3_takesE_76 : decode cX3_takesE 76 = .ok (.iastore, 1) := dk_79 (dk_at dksX3_takesE_3 9 rfl rfl)
theorem dX3_takesE_77 : decode cX3_takesE 77 = .ok (.aload_n 0, 1) := dk_42 (dk_at dksX3_takesE_3 10 rfl rfl)
theorem dX3_takesE_78 : decode cX3_takesE 78 = .ok (.dup, 1) := dk_89 (dk_at dksX3_takesE_3 11 rfl rfl)
theorem dX3_takesE_79 : decode cX3_takesE 79 = .ok (.getfield 244, 3) := dk_180 0 244 (dk_at dksX3_takesE_3 12 rfl rfl)
theorem dX3_takesE_82 : decode cX3_takesE 82 = .ok (.iconst 1, 1) := dk_4 (dk_at dksX3_takesE_3 15 rfl rfl)
theorem dX3_takesE_83 : decode cX3_takesE 83 = .ok (.iadd, 1) := dk_96 (dk_at dksX3_takesE_3 16 rfl rfl)
theorem dX3_takesE_84 : decode cX3_takesE 84 = .ok (.putfield 244, 3) := dk_181 0 244 (dk_at dksX3_takesE_3 17 rfl rfl)
theorem dX3_takesE_87 : decode cX3_takesE 87 = .ok (.iinc 2 1, 3) := dk_132 2 1 (dk_at dksX3_takesE_3 20 rfl rfl)
theorem dX3_takesE_90 : decode cX3_takesE 90 = .ok (.aload_n 0, 1) := dk_42 (dk_at dksX3_takesE_3 23 rfl rfl)
theorem dX3_takesE_91 : decode cX3_takesE 91 = .ok (.invokevirtual 241, 3) := dk_182 0 241 (dk_at dksX3_takesE_4 0 rfl rfl)
theorem dX3_takesE_94 : decode cX3_takesE 94 = .ok (.goto 78, 3) := dk_167 0 78 (dk_at dksX3_takesE_4 3 rfl rfl)
theorem dX3_takesE_97 : decode cX3_takesE 97 = .ok (.aload_n 0, 1) := dk_42 (dk_at dksX3_takesE_4 6 rfl rfl)
theorem dX3_takesE_98 : decode cX3_takesE 98 = .ok (.getfield 226, 3) := dk_180 0 226 (dk_at dksX3_takesE_4 7 rfl rfl)
theorem dX3_takesE_101 : decode cX3_takesE 101 = .ok (.iconst 3, 1) := dk_6 (dk_at dksX3_takesE_4 10 rfl rfl)
theorem dX3_takesE_102 : decode cX3_takesE 102 = .ok (.if_icmp .ne 56, 3) := dk_160 0 56 (dk_at dksX3_takesE_4 11 rfl rfl)
theorem dX3_takesE_105 : decode cX3_takesE 105 = .ok (.aload_n 0, 1) := dk_42 (dk_at dksX3_takesE_4 14 rfl rfl)
theorem dX3_takesE_106 : decode cX3_takesE 106 = .ok (.getfield 232, 3) := dk_180 0 232 (dk_at dksX3_takesE_4 15 rfl rfl)
theorem dX3_takesE_109 : decode cX3_takesE 109 = .ok (.bipush 40, 2) := dk_16 40 (dk_at dksX3_takesE_4 18 rfl rfl)
theorem dX3_takesE_111 : decode cX3_takesE 111 = .ok (.if_icmp .ne 47, 3) := dk_160 0 47 (dk_at dksX3_takesE_4 20 rfl rfl)
theorem dX3_takesE_114 : decode cX3_takesE 114 = .ok (.iload_n 1, 1) := dk_27 (dk_at dksX3_takesE_4 23 rfl rfl)
theorem dX3_takesE_115 : decode cX3_takesE 115 = .ok (.bipush 8, 2) := dk_16 8 (dk_at dksX3_takesE_5 0 rfl rfl)
theorem dX3_takesE_117 : decode cX3_takesE 117 = .ok (.if_icmp .ge 41, 3) := dk_162 0 41 (dk_at dksX3_takesE_5 2 rfl rfl)
theorem dX3_takesE_120 : decode cX3_takesE 120 = .ok (.aload_n 0, 1) := dk_42 (dk_at dksX3_takesE_5 5 rfl rfl)
theorem dX3_takesE_121 : decode cX3_takesE 121 = .ok (.getfield 44, 3) := dk_180 0 44 (dk_at dksX3_takesE_5 6 rfl rfl)
theorem dX3_takesE_124 : decode cX3_takesE 124 = .ok (.aload_n 0, 1) := dk_42 (dk_at dksX3_takesE_5 9 rfl rfl)
theorem dX3_takesE_125 : decode cX3_takesE 125 = .ok (.getfield 244, 3) := dk_180 0 244 (dk_at dksX3_takesE_5 10 rfl rfl)
theorem dX3_takesE_128 : decode cX3_takesE 128 = .ok (.bipush (-11), 2) := dk_16 245 (dk_at dksX3_takesE_5 13 rfl rfl)
theorem dX3_takesE_130 : decode cX3_takesE 130 = .ok (.iastore, 1) := dk_79 (dk_at dksX3_takesE_5 15 rfl rfl)
theorem dX3_takesE_131 : decode cX3_takesE 131 = .ok (.aload_n 0, 1) := dk_42 (dk_at dksX3_takesE_5 16 rfl rfl)
theorem dX3_takesE_132 : decode cX3_takesE 132 = .ok (.dup, 1) := dk_89 (dk_at dksX3_takesE_5 17 rfl rfl)
theorem dX3_takesE_133 : decode cX3_takesE 133 = .ok (.getfield 244, 3) := dk_180 0 244 (dk_at dksX3_takesE_5 18 rfl rfl)
theorem dX3_takesE_136 : decode cX3_takesE 136 = .ok (.iconst 1, 1) := dk_4 (dk_at dksX3_takesE_5 21 rfl rfl)
theorem dX3_takesE_137 : decode cX3_takesE 137 = .ok (.iadd, 1) := dk_96 (dk_at dksX3_takesE_5 22 rfl rfl)
theorem dX3_takesE_138 : decode cX3_takesE 138 = .ok (.putfield 244, 3) := dk_181 0 244 (dk_at dksX3_takesE_6 0 rfl rfl)
theorem dX3_takesE_141 : decode cX3_takesE 141 = .ok (.iinc 1 1, 3) := dk_132 1 1 (dk_at dksX3_takesE_6 3 rfl rfl)
theorem dX3_takesE_144 : decode cX3_takesE 144 = .ok (.aload_n 0, 1) := dk_42 (dk_at dksX3_takesE_6 6 rfl rfl)
theorem dX3_takesE_145 : decode cX3_takesE 145 = .ok (.getfield 47, 3) := dk_180 0 47 (dk_at dksX3_takesE_6 7 rfl rfl)
theorem dX3_takesE_148 : decode cX3_takesE 148 = .ok (.iload_n 1, 1) := dk_27 (dk_at dksX3_takesE_6 10 rfl rfl)
theorem dX3_takesE_149 : decode cX3_takesE 149 = .ok (.iconst 0, 1) := dk_3 (dk_at dksX3_takesE_6 11 rfl rfl)
theorem dX3_takesE_150 : decode cX3_takesE 150 = .ok (.bastore, 1) := dk_84 (dk_at dksX3_takesE_6 12 rfl rfl)
theorem dX3_takesE_151 : decode cX3_takesE 151 = .ok (.aload_n 0, 1) := dk_42 (dk_at dksX3_takesE_6 13 rfl rfl)
theorem dX3_takesE_152 : decode cX3_takesE 152 = .ok (.invokevirtual 241, 3) := dk_182 0 241 (dk_at dksX3_takesE_6 14 rfl rfl)
theorem dX3_takesE_155 : decode cX3_takesE 155 = .ok (.goto 17, 3) := dk_167 0 17 (dk_at dksX3_takesE_6 17 rfl rfl)
theorem dX3_takesE_158 : decode cX3_takesE 158 = .ok (.aload_n 0, 1) := dk_42 (dk_at dksX3_takesE_6 20 rfl rfl)
theorem dX3_takesE_159 : decode cX3_takesE 159 = .ok (.invokevirtual 263, 3) := dk_182 1 7 (dk_at dksX3_takesE_6 21 rfl rfl)
theorem dX3_takesE_162 : decode cX3_takesE 162 = .ok (.ifCond .eq 8, 3) := dk_153 0 8 (dk_at dksX3_takesE_7 0 rfl rfl)
theorem dX3_takesE_165 : decode cX3_takesE 165 = .ok (.iconst 0, 1) := dk_3 (dk_at dksX3_takesE_7 3 rfl rfl)
theorem dX3_takesE_166 : decode cX3_takesE 166 = .ok (.istore_n 3, 1) := dk_62 (dk_at dksX3_takesE_7 4 rfl rfl)
theorem dX3_takesE_167 : decode cX3_takesE 167 = .ok (.goto 5, 3) := dk_167 0 5 (dk_at dksX3_takesE_7 5 rfl rfl)
theorem dX3_takesE_170 : decode cX3_takesE 170 = .ok (.iconst 0, 1) := dk_3 (dk_at dksX3_takesE_7 8 rfl rfl)
theorem dX3_takesE_171 : decode cX3_takesE 171 = .ok (.ireturn, 1) := dk_172 (dk_at dksX3_takesE_7 9 rfl rfl)
theorem dX3_takesE_172 : decode cX3_takesE 172 = .ok (.aload_n 0, 1) := dk_42 (dk_at dksX3_takesE_7 10 rfl rfl)
theorem dX3_takesE_173 : decode cX3_takesE 173 = .ok (.invokevirtual 267, 3) := dk_182 1 11 (dk_at dksX3_takesE_7 11 rfl rfl)
theorem dX3_takesE_176 : decode cX3_takesE 176 = .ok (.istore_n 2, 1) := dk_61 (dk_at dksX3_takesE_7 14 rfl rfl)
theorem dX3_takesE_177 : decode cX3_takesE 177 = .ok (.goto (-149), 3) := dk_167 255 107 (dk_at dksX3_takesE_7 15 rfl rfl)
theorem dX3_takesE_180 : decode cX3_takesE 180 = .ok (.aload_n 0, 1) := dk_42 (dk_at dksX3_takesE_7 18 rfl rfl)
theorem dX3_takesE_181 : decode cX3_takesE 181 = .ok (.getfield 226, 3) := dk_180 0 226 (dk_at dksX3_takesE_7 19 rfl rfl)
theorem dX3_takesE_184 : decode cX3_takesE 184 = .ok (.iconst 3, 1) := dk_6 (dk_at dksX3_takesE_7 22 rfl rfl)
theorem dX3_takesE_185 : decode cX3_takesE 185 = .ok (.if_icmp .ne 52, 3) := dk_160 0 52 (dk_at dksX3_takesE_8 0 rfl rfl)
theorem dX3_takesE_188 : decode cX3_takesE 188 = .ok (.aload_n 0, 1) := dk_42 (dk_at dksX3_takesE_8 3 rfl rfl)
theorem dX3_takesE_189 : decode cX3_takesE 189 = .ok (.getfield 232, 3) := dk_180 0 232 (dk_at dksX3_takesE_8 4 rfl rfl)
theorem dX3_takesE_192 : decode cX3_takesE 192 = .ok (.bipush 41, 2) := dk_16 41 (dk_at dksX3_takesE_8 7 rfl rfl)
theorem dX3_takesE_194 : decode cX3_takesE 194 = .ok (.if_icmp .ne 43, 3) := dk_160 0 43 (dk_at dksX3_takesE_8 9 rfl rfl)
theorem dX3_takesE_197 : decode cX3_takesE 197 = .ok (.iload_n 1, 1) := dk_27 (dk_at dksX3_takesE_8 12 rfl rfl)
theorem dX3_takesE_198 : decode cX3_takesE 198 = .ok (.ifCond .le 39, 3) := dk_158 0 39 (dk_at dksX3_takesE_8 13 rfl rfl)
theorem dX3_takesE_201 : decode cX3_takesE 201 = .ok (.aload_n 0, 1) := dk_42 (dk_at dksX3_takesE_8 16 rfl rfl)
theorem dX3_takesE_202 : decode cX3_takesE 202 = .ok (.iconst 0, 1) := dk_3 (dk_at dksX3_takesE_8 17 rfl rfl)
theorem dX3_takesE_203 : decode cX3_takesE 203 = .ok (.invokevirtual 259, 3) := dk_182 1 3 (dk_at dksX3_takesE_8 18 rfl rfl)
theorem dX3_takesE_206 : decode cX3_takesE 206 = .ok (.aload_n 0, 1) := dk_42 (dk_at dksX3_takesE_8 21 rfl rfl)
theorem dX3_takesE_207 : decode cX3_takesE 207 = .ok (.dup, 1) := dk_89 (dk_at dksX3_takesE_8 22 rfl rfl)
theorem dX3_takesE_208 : decode cX3_takesE 208 = .ok (.getfield 244, 3) := dk_180 0 244 (dk_at dksX3_takesE_9 0 rfl rfl)
theorem dX3_takesE_211 : decode cX3_takesE 211 = .ok (.iconst 1, 1) := dk_4 (dk_at dksX3_takesE_9 3 rfl rfl)
theorem dX3_takesE_212 : decode cX3_takesE 212 = .ok (.isub, 1) := dk_100 (dk_at dksX3_takesE_9 4 rfl rfl)
theorem dX3_takesE_213 : decode cX3_takesE 213 = .ok (.putfield 244, 3) := dk_181 0 244 (dk_at dksX3_takesE_9 5 rfl rfl)
theorem dX3_takesE_216 : decode cX3_takesE 216 = .ok (.iinc 1 (-1), 3) := dk_132 1 255 (dk_at dksX3_takesE_9 8 rfl rfl)
theorem dX3_takesE_219 : decode cX3_takesE 219 = .ok (.aload_n 0, 1) := dk_42 (dk_at dksX3_takesE_9 11 rfl rfl)
theorem dX3_takesE_220 : decode cX3_takesE 220 = .ok (.bipush 6, 2) := dk_16 6 (dk_at dksX3_takesE_9 12 rfl rfl)
theorem dX3_takesE_222 : decode cX3_takesE 222 = .ok (.invokevirtual 259, 3) := dk_182 1 3 (dk_at dksX3_takesE_9 14 rfl rfl)
theorem dX3_takesE_225 : decode cX3_takesE 225 = .ok (.aload_n 0, 1) := dk_42 (dk_at dksX3_takesE_9 17 rfl rfl)
theorem dX3_takesE_226 : decode cX3_takesE 226 = .ok (.invokevirtual 267, 3) := dk_182 1 11 (dk_at dksX3_takesE_9 18 rfl rfl)
theorem dX3_takesE_229 : decode cX3_takesE 229 = .ok (.istore_n 2, 1) := dk_61 (dk_at dksX3_takesE_9 21 rfl rfl)
theorem dX3_takesE_230 : decode cX3_takesE 230 = .ok (.aload_n 0, 1) := dk_42 (dk_at dksX3_takesE_9 22 rfl rfl)
theorem dX3_takesE_231 : decode cX3_takesE 231 = .ok (.invokevirtual 241, 3) := dk_182 0 241 (dk_at dksX3_takesE_10 0 rfl rfl)
theorem dX3_takesE_234 : decode cX3_takesE 234 = .ok (.goto (-206), 3) := dk_167 255 50 (dk_at dksX3_takesE_10 3 rfl rfl)
theorem dX3_takesE_237 : decode cX3_takesE 237 = .ok (.aload_n 0, 1) := dk_42 (dk_at dksX3_takesE_10 6 rfl rfl)
theorem dX3_takesE_238 : decode cX3_takesE 238 = .ok (.invokevirtual 270, 3) := dk_182 1 14 (dk_at dksX3_takesE_10 7 rfl rfl)
theorem dX3_takesE_241 : decode cX3_takesE 241 = .ok (.istore 4, 2) := dk_54 4 (dk_at dksX3_takesE_10 10 rfl rfl)
theorem dX3_takesE_243 : decode cX3_takesE 243 = .ok (.iload 4, 2) := dk_21 4 (dk_at dksX3_takesE_10 12 rfl rfl)
theorem dX3_takesE_245 : decode cX3_takesE 245 = .ok (.ifCond .eq 21, 3) := dk_153 0 21 (dk_at dksX3_takesE_10 14 rfl rfl)
theorem dX3_takesE_248 : decode cX3_takesE 248 = .ok (.iload 4, 2) := dk_21 4 (dk_at dksX3_takesE_10 17 rfl rfl)
theorem dX3_takesE_250 : decode cX3_takesE 250 = .ok (.invokestatic 247, 3) := dk_184 0 247 (dk_at dksX3_takesE_10 19 rfl rfl)
theorem dX3_takesE_253 : decode cX3_takesE 253 = .ok (.iconst 3, 1) := dk_6 (dk_at dksX3_takesE_10 22 rfl rfl)
theorem dX3_takesE_254 : decode cX3_takesE 254 = .ok (.if_icmp .ne 14, 3) := dk_160 0 14 (dk_at dksX3_takesE_11 0 rfl rfl)
theorem dX3_takesE_257 : decode cX3_takesE 257 = .ok (.aload_n 0, 1) := dk_42 (dk_at dksX3_takesE_11 3 rfl rfl)
theorem dX3_takesE_258 : decode cX3_takesE 258 = .ok (.getfield 47, 3) := dk_180 0 47 (dk_at dksX3_takesE_11 4 rfl rfl)
theorem dX3_takesE_261 : decode cX3_takesE 261 = .ok (.iload_n 1, 1) := dk_27 (dk_at dksX3_takesE_11 7 rfl rfl)
theorem dX3_takesE_262 : decode cX3_takesE 262 = .ok (.baload, 1) := dk_51 (dk_at dksX3_takesE_11 8 rfl rfl)
theorem dX3_takesE_263 : decode cX3_takesE 263 = .ok (.ifCond .eq 5, 3) := dk_153 0 5 (dk_at dksX3_takesE_11 9 rfl rfl)
theorem dX3_takesE_266 : decode cX3_takesE 266 = .ok (.iconst 0, 1) := dk_3 (dk_at dksX3_takesE_11 12 rfl rfl)
theorem dX3_takesE_267 : decode cX3_takesE 267 = .ok (.ireturn, 1) := dk_172 (dk_at dksX3_takesE_11 13 rfl rfl)
theorem dX3_takesE_268 : decode cX3_takesE 268 = .ok (.aload_n 0, 1) := dk_42 (dk_at dksX3_takesE_11 14 rfl rfl)
theorem dX3_takesE_269 : decode cX3_takesE 269 = .ok (.getfield 47, 3) := dk_180 0 47 (dk_at dksX3_takesE_11 15 rfl rfl)
theorem dX3_takesE_272 : decode cX3_takesE 272 = .ok (.iload_n 1, 1) := dk_27 (dk_at dksX3_takesE_11 18 rfl rfl)
theorem dX3_takesE_273 : decode cX3_takesE 273 = .ok (.iload 4, 2) := dk_21 4 (dk_at dksX3_takesE_11 19 rfl rfl)
theorem dX3_takesE_275 : decode cX3_takesE 275 = .ok (.invokestatic 247, 3) := dk_184 0 247 (dk_at dksX3_takesE_11 21 rfl rfl)
theorem dX3_takesE_278 : decode cX3_takesE 278 = .ok (.iconst 3, 1) := dk_6 (dk_at dksX3_takesE_12 0 rfl rfl)
theorem dX3_takesE_279 : decode cX3_takesE 279 = .ok (.if_icmp .eq 21, 3) := dk_159 0 21 (dk_at dksX3_takesE_12 1 rfl rfl)
theorem dX3_takesE_282 : decode cX3_takesE 282 = .ok (.iload 4, 2) := dk_21 4 (dk_at dksX3_takesE_12 4 rfl rfl)
theorem dX3_takesE_284 : decode cX3_takesE 284 = .ok (.invokestatic 247, 3) := dk_184 0 247 (dk_at dksX3_takesE_12 6 rfl rfl)
theorem dX3_takesE_287 : decode cX3_takesE 287 = .ok (.iconst 3, 1) := dk_6 (dk_at dksX3_takesE_12 9 rfl rfl)
theorem dX3_takesE_288 : decode cX3_takesE 288 = .ok (.if_icmp .le 16, 3) := dk_164 0 16 (dk_at dksX3_takesE_12 10 rfl rfl)
theorem dX3_takesE_291 : decode cX3_takesE 291 = .ok (.aload_n 0, 1) := dk_42 (dk_at dksX3_takesE_12 13 rfl rfl)
theorem dX3_takesE_292 : decode cX3_takesE 292 = .ok (.getfield 47, 3) := dk_180 0 47 (dk_at dksX3_takesE_12 14 rfl rfl)
theorem dX3_takesE_295 : decode cX3_takesE 295 = .ok (.iload_n 1, 1) := dk_27 (dk_at dksX3_takesE_12 17 rfl rfl)
theorem dX3_takesE_296 : decode cX3_takesE 296 = .ok (.baload, 1) := dk_51 (dk_at dksX3_takesE_12 18 rfl rfl)
theorem dX3_takesE_297 : decode cX3_takesE 297 = .ok (.ifCond .eq 7, 3) := dk_153 0 7 (dk_at dksX3_takesE_12 19 rfl rfl)
theorem dX3_takesE_300 : decode cX3_takesE 300 = .ok (.iconst 1, 1) := dk_4 (dk_at dksX3_takesE_12 22 rfl rfl)
theorem dX3_takesE_301 : decode cX3_takesE 301 = .ok (.goto 4, 3) := dk_167 0 4 (dk_at dksX3_takesE_13 0 rfl rfl)
theorem dX3_takesE_304 : decode cX3_takesE 304 = .ok (.iconst 0, 1) := dk_3 (dk_at dksX3_takesE_13 3 rfl rfl)
theorem dX3_takesE_305 : decode cX3_takesE 305 = .ok (.bastore, 1) := dk_84 (dk_at dksX3_takesE_13 4 rfl rfl)
theorem dX3_takesE_306 : decode cX3_takesE 306 = .ok (.aload_n 0, 1) := dk_42 (dk_at dksX3_takesE_13 5 rfl rfl)
theorem dX3_takesE_307 : decode cX3_takesE 307 = .ok (.iload 4, 2) := dk_21 4 (dk_at dksX3_takesE_13 6 rfl rfl)
theorem dX3_takesE_309 : decode cX3_takesE 309 = .ok (.invokestatic 247, 3) := dk_184 0 247 (dk_at dksX3_takesE_13 8 rfl rfl)
theorem dX3_takesE_312 : decode cX3_takesE 312 = .ok (.invokevirtual 259, 3) := dk_182 1 3 (dk_at dksX3_takesE_13 11 rfl rfl)
theorem dX3_takesE_315 : decode cX3_takesE 315 = .ok (.aload_n 0, 1) := dk_42 (dk_at dksX3_takesE_13 14 rfl rfl)
theorem dX3_takesE_316 : decode cX3_takesE 316 = .ok (.getfield 44, 3) := dk_180 0 44 (dk_at dksX3_takesE_13 15 rfl rfl)
theorem dX3_takesE_319 : decode cX3_takesE 319 = .ok (.aload_n 0, 1) := dk_42 (dk_at dksX3_takesE_13 18 rfl rfl)
theorem dX3_takesE_320 : decode cX3_takesE 320 = .ok (.getfield 244, 3) := dk_180 0 244 (dk_at dksX3_takesE_13 19 rfl rfl)
theorem dX3_takesE_323 : decode cX3_takesE 323 = .ok (.iload 4, 2) := dk_21 4 (dk_at dksX3_takesE_13 22 rfl rfl)
theorem dX3_takesE_325 : decode cX3_takesE 325 = .ok (.iastore, 1) := dk_79 (dk_at dksX3_takesE_14 0 rfl rfl)
theorem dX3_takesE_326 : decode cX3_takesE 326 = .ok (.aload_n 0, 1) := dk_42 (dk_at dksX3_takesE_14 1 rfl rfl)
theorem dX3_takesE_327 : decode cX3_takesE 327 = .ok (.dup, 1) := dk_89 (dk_at dksX3_takesE_14 2 rfl rfl)
theorem dX3_takesE_328 : decode cX3_takesE 328 = .ok (.getfield 244, 3) := dk_180 0 244 (dk_at dksX3_takesE_14 3 rfl rfl)
theorem dX3_takesE_331 : decode cX3_takesE 331 = .ok (.iconst 1, 1) := dk_4 (dk_at dksX3_takesE_14 6 rfl rfl)
theorem dX3_takesE_332 : decode cX3_takesE 332 = .ok (.iadd, 1) := dk_96 (dk_at dksX3_takesE_14 7 rfl rfl)
theorem dX3_takesE_333 : decode cX3_takesE 333 = .ok (.putfield 244, 3) := dk_181 0 244 (dk_at dksX3_takesE_14 8 rfl rfl)
theorem dX3_takesE_336 : decode cX3_takesE 336 = .ok (.iconst 1, 1) := dk_4 (dk_at dksX3_takesE_14 11 rfl rfl)
theorem dX3_takesE_337 : decode cX3_takesE 337 = .ok (.istore_n 3, 1) := dk_62 (dk_at dksX3_takesE_14 12 rfl rfl)
theorem dX3_takesE_338 : decode cX3_takesE 338 = .ok (.aload_n 0, 1) := dk_42 (dk_at dksX3_takesE_14 13 rfl rfl)
theorem dX3_takesE_339 : decode cX3_takesE 339 = .ok (.invokevirtual 241, 3) := dk_182 0 241 (dk_at dksX3_takesE_14 14 rfl rfl)
theorem dX3_takesE_342 : decode cX3_takesE 342 = .ok (.goto (-314), 3) := dk_167 254 198 (dk_at dksX3_takesE_14 17 rfl rfl)
theorem dX3_takesE_345 : decode cX3_takesE 345 = .ok (.aload_n 0, 1) := dk_42 (dk_at dksX3_takesE_14 20 rfl rfl)
theorem dX3_takesE_346 : decode cX3_takesE 346 = .ok (.iconst 0, 1) := dk_3 (dk_at dksX3_takesE_14 21 rfl rfl)
theorem dX3_takesE_347 : decode cX3_takesE 347 = .ok (.invokevirtual 259, 3) := dk_182 1 3 (dk_at dksX3_takesE_15 0 rfl rfl)
theorem dX3_takesE_350 : decode cX3_takesE 350 = .ok (.iload_n 1, 1) := dk_27 (dk_at dksX3_takesE_15 3 rfl rfl)
theorem dX3_takesE_351 : decode cX3_takesE 351 = .ok (.ifCond .ne 7, 3) := dk_154 0 7 (dk_at dksX3_takesE_15 4 rfl rfl)
theorem dX3_takesE_354 : decode cX3_takesE 354 = .ok (.iconst 1, 1) := dk_4 (dk_at dksX3_takesE_15 7 rfl rfl)
theorem dX3_takesE_355 : decode cX3_takesE 355 = .ok (.goto 4, 3) := dk_167 0 4 (dk_at dksX3_takesE_15 8 rfl rfl)
theorem dX3_takesE_358 : decode cX3_takesE 358 = .ok (.iconst 0, 1) := dk_3 (dk_at dksX3_takesE_15 11 rfl rfl)
theorem dX3_takesE_359 : decode cX3_takesE 359 = .ok (.ireturn, 1) := dk_172 (dk_at dksX3_takesE_15 12 rfl rfl)
abbrev cX3_takesPart : ByteArray := prog_22_method_70_code
def yX3_takesPart : MethodName := ⟨RX3, "takesPart", "()Z"⟩
def dkwX3_takesPart_5 : List UInt8 := [182, 0, 241, 4, 172]
abbrev dktX3_takesPart_5 : List UInt8 := dkwX3_takesPart_5 ++ []
def dkwX3_takesPart_4 : List UInt8 := [4, 96, 181, 0, 250, 42, 89, 180, 1, 0, 4, 96, 181, 1, 0, 42, 16, 6, 182, 1, 3, 42]
abbrev dktX3_takesPart_4 : List UInt8 := dkwX3_takesPart_4 ++ dktX3_takesPart_5
def dkwX3_takesPart_3 : List UInt8 := [180, 0, 232, 167, 0, 15, 17, 39, 16, 42, 42, 180, 0, 232, 182, 0, 253, 96, 79, 42, 89, 180, 0, 250]
abbrev dktX3_takesPart_3 : List UInt8 := dkwX3_takesPart_3 ++ dktX3_takesPart_4
def dkwX3_takesPart_2 : List UInt8 := [154, 0, 5, 3, 172, 42, 180, 0, 41, 42, 180, 0, 250, 42, 180, 0, 226, 5, 160, 0, 10, 42]
abbrev dktX3_takesPart_2 : List UInt8 := dkwX3_takesPart_2 ++ dktX3_takesPart_3
def dkwX3_takesPart_1 : List UInt8 := [180, 0, 232, 182, 0, 253, 155, 0, 7, 4, 167, 0, 4, 3, 60, 42, 180, 0, 226, 5, 159, 0, 9, 27]
abbrev dktX3_takesPart_1 : List UInt8 := dkwX3_takesPart_1 ++ dktX3_takesPart_2
def dkwX3_takesPart_0 : List UInt8 := [42, 180, 0, 226, 4, 160, 0, 31, 42, 180, 0, 217, 42, 180, 0, 220, 100, 4, 160, 0, 18, 42, 42]
abbrev dktX3_takesPart_0 : List UInt8 := dkwX3_takesPart_0 ++ dktX3_takesPart_1
theorem dksX3_takesPart_0 : cX3_takesPart.data.toList.drop 0 = dktX3_takesPart_0 := by decide +kernel
theorem dksX3_takesPart_1 : cX3_takesPart.data.toList.drop 23 = dktX3_takesPart_1 := dk_seg dksX3_takesPart_0 23 rfl rfl
theorem dksX3_takesPart_2 : cX3_takesPart.data.toList.drop 47 = dktX3_takesPart_2 := dk_seg dksX3_takesPart_1 24 rfl rfl
theorem dksX3_takesPart_3 : cX3_takesPart.data.toList.drop 69 = dktX3_takesPart_3 := dk_seg dksX3_takesPart_2 22 rfl rfl
theorem dksX3_takesPart_4 : cX3_takesPart.data.toList.drop 93 = dktX3_takesPart_4 := dk_seg dksX3_takesPart_3 24 rfl rfl
theorem dksX3_takesPart_5 : cX3_takesPart.data.toList.drop 115 = dktX3_takesPart_5 := dk_seg dksX3_takesPart_4 22 rfl rfl
theorem dX3_takesPart_0 : decode cX3_takesPart 0 = .ok (.aload_n 0, 1) := dk_42 (dk_at dksX3_takesPart_0 0 rfl rfl)
theorem dX3_takesPart_1 : decode cX3_takesPart 1 = .ok (.getfield 226, 3) := dk_180 0 226 (dk_at dksX3_takesPart_0 1 rfl rfl)
theorem dX3_takesPart_4 : decode cX3_takesPart 4 = .ok (.iconst 1, 1) := dk_4 (dk_at dksX3_takesPart_0 4 rfl rfl)
theorem dX3_takesPart_5 : decode cX3_takesPart 5 = .ok (.if_icmp .ne 31, 3) := dk_160 0 31 (dk_at dksX3_takesPart_0 5 rfl rfl)
theorem dX3_takesPart_8 : decode cX3_takesPart 8 = .ok (.aload_n 0, 1) := dk_42 (dk_at dksX3_takesPart_0 8 rfl rfl)
theorem dX3_takesPart_9 : decode cX3_takesPart 9 = .ok (.getfield 217, 3) := dk_180 0 217 (dk_at dksX3_takesPart_0 9 rfl rfl)
theorem dX3_takesPart_12 : decode cX3_takesPart 12 = .ok (.aload_n 0, 1) := dk_42 (dk_at dksX3_takesPart_0 12 rfl rfl)
theorem dX3_takesPart_13 : decode cX3_takesPart 13 = .ok (.getfield 220, 3) := dk_180 0 220 (dk_at dksX3_takesPart_0 13 rfl rfl)
theorem dX3_takesPart_16 : decode cX3_takesPart 16 = .ok (.isub, 1) := dk_100 (dk_at dksX3_takesPart_0 16 rfl rfl)
theorem dX3_takesPart_17 : decode cX3_takesPart 17 = .ok (.iconst 1, 1) := dk_4 (dk_at dksX3_takesPart_0 17 rfl rfl)
theorem dX3_takesPart_18 : decode cX3_takesPart 18 = .ok (.if_icmp .ne 18, 3) := dk_160 0 18 (dk_at dksX3_takesPart_0 18 rfl rfl)
theorem dX3_takesPart_21 : decode cX3_takesPart 21 = .ok (.aload_n 0, 1) := dk_42 (dk_at dksX3_takesPart_0 21 rfl rfl)
theorem dX3_takesPart_22 : decode cX3_takesPart 22 = .ok (.aload_n 0, 1) := dk_42 (dk_at dksX3_takesPart_0 22 rfl rfl)
theorem dX3_takesPart_23 : decode cX3_takesPart 23 = .ok (.getfield 232, 3) := dk_180 0 232 (dk_at dksX3_takesPart_1 0 rfl rfl)
theorem dX3_takesPart_26 : decode cX3_takesPart 26 = .ok (.invokevirtual 253, 3) := dk_182 0 253 (dk_at dksX3_takesPart_1 3 rfl rfl)
theorem dX3_takesPart_29 : decode cX3_takesPart 29 = .ok (.ifCond .lt 7, 3) := dk_155 0 7 (dk_at dksX3_takesPart_1 6 rfl rfl)
theorem dX3_takesPart_32 : decode cX3_takesPart 32 = .ok (.iconst 1, 1) := dk_4 (dk_at dksX3_takesPart_1 9 rfl rfl)
theorem dX3_takesPart_33 : decode cX3_takesPart 33 = .ok (.goto 4, 3) := dk_167 0 4 (dk_at dksX3_takesPart_1 10 rfl rfl)
theorem dX3_takesPart_36 : decode cX3_takesPart 36 = .ok (.iconst 0, 1) := dk_3 (dk_at dksX3_takesPart_1 13 rfl rfl)
theorem dX3_takesPart_37 : decode cX3_takesPart 37 = .ok (.istore_n 1, 1) := dk_60 (dk_at dksX3_takesPart_1 14 rfl rfl)
theorem dX3_takesPart_38 : decode cX3_takesPart 38 = .ok (.aload_n 0, 1) := dk_42 (dk_at dksX3_takesPart_1 15 rfl rfl)
theorem dX3_takesPart_39 : decode cX3_takesPart 39 = .ok (.getfield 226, 3) := dk_180 0 226 (dk_at dksX3_takesPart_1 16 rfl rfl)
theorem dX3_takesPart_42 : decode cX3_takesPart 42 = .ok (.iconst 2, 1) := dk_5 (dk_at dksX3_takesPart_1 19 rfl rfl)
theorem dX3_takesPart_43 : decode cX3_takesPart 43 = .ok (.if_icmp .eq 9, 3) := dk_159 0 9 (dk_at dksX3_takesPart_1 20 rfl rfl)
theorem dX3_takesPart_46 : decode cX3_takesPart 46 = .ok (.iload_n 1, 1) := dk_27 (dk_at dksX3_takesPart_1 23 rfl rfl)
theorem dX3_takesPart_47 : decode cX3_takesPart 47 = .ok (.ifCond .ne 5, 3) := dk_154 0 5 (dk_at dksX3_takesPart_2 0 rfl rfl)
theorem dX3_takesPart_50 : decode cX3_takesPart 50 = .ok (.iconst 0, 1) := dk_3 (dk_at dksX3_takesPart_2 3 rfl rfl)
theorem dX3_takesPart_51 : decode cX3_takesPart 51 = .ok (.ireturn, 1) := dk_172 (dk_at dksX3_takesPart_2 4 rfl rfl)
theorem dX3_takesPart_52 : decode cX3_takesPart 52 = .ok (.aload_n 0, 1) := dk_42 (dk_at dksX3_takesPart_2 5 rfl rfl)
theorem dX3_takesPart_53 : decode cX3_takesPart 53 = .ok (.getfield 41, 3) := dk_180 0 41 (dk_at dksX3_takesPart_2 6 rfl rfl)
theorem dX3_takesPart_56 : decode cX3_takesPart 56 = .ok (.aload_n 0, 1) := dk_42 (dk_at dksX3_takesPart_2 9 rfl rfl)
theorem dX3_takesPart_57 : decode cX3_takesPart 57 = .ok (.getfield 250, 3) := dk_180 0 250 (dk_at dksX3_takesPart_2 10 rfl rfl)
theorem dX3_takesPart_60 : decode cX3_takesPart 60 = .ok (.aload_n 0, 1) := dk_42 (dk_at dksX3_takesPart_2 13 rfl rfl)
theorem dX3_takesPart_61 : decode cX3_takesPart 61 = .ok (.getfield 226, 3) := dk_180 0 226 (dk_at dksX3_takesPart_2 14 rfl rfl)
theorem dX3_takesPart_64 : decode cX3_takesPart 64 = .ok (.iconst 2, 1) := dk_5 (dk_at dksX3_takesPart_2 17 rfl rfl)
theorem dX3_takesPart_65 : decode cX3_takesPart 65 = .ok (.if_icmp .ne 10, 3) := dk_160 0 10 (dk_at dksX3_takesPart_2 18 rfl rfl)
theorem dX3_takesPart_68 : decode cX3_takesPart 68 = .ok (.aload_n 0, 1) := dk_42 (dk_at dksX3_takesPart_2 21 rfl rfl)
theorem dX3_takesPart_69 : decode cX3_takesPart 69 = .ok (.getfield 232, 3) := dk_180 0 232 (dk_at dksX3_takesPart_3 0 rfl rfl)
theorem dX3_takesPart_72 : decode cX3_takesPart 72 = .ok (.goto 15, 3) := dk_167 0 15 (dk_at dksX3_takesPart_3 3 rfl rfl)
theorem dX3_takesPart_75 : decode cX3_takesPart 75 = .ok (.sipush 10000, 3) := dk_17 39 16 (dk_at dksX3_takesPart_3 6 rfl rfl)
theorem dX3_takesPart_78 : decode cX3_takesPart 78 = .ok (.aload_n 0, 1) := dk_42 (dk_at dksX3_takesPart_3 9 rfl rfl)
theorem dX3_takesPart_79 : decode cX3_takesPart 79 = .ok (.aload_n 0, 1) := dk_42 (dk_at dksX3_takesPart_3 10 rfl rfl)
theorem dX3_takesPart_80 : decode cX3_takesPart 80 = .ok (.getfield 232, 3) := dk_180 0 232 (dk_at dksX3_takesPart_3 11 rfl rfl)
theorem dX3_takesPart_83 : decode cX3_takesPart 83 = .ok (.invokevirtual 253, 3) := dk_182 0 253 (dk_at dksX3_takesPart_3 14 rfl rfl)
theorem dX3_takesPart_86 : decode cX3_takesPart 86 = .ok (.iadd, 1) := dk_96 (dk_at dksX3_takesPart_3 17 rfl rfl)
theorem dX3_takesPart_87 : decode cX3_takesPart 87 = .ok (.iastore, 1) := dk_79 (dk_at dksX3_takesPart_3 18 rfl rfl)
theorem dX3_takesPart_88 : decode cX3_takesPart 88 = .ok (.aload_n 0, 1) := dk_42 (dk_at dksX3_takesPart_3 19 rfl rfl)
theorem dX3_takesPart_89 : decode cX3_takesPart 89 = .ok (.dup, 1) := dk_89 (dk_at dksX3_takesPart_3 20 rfl rfl)
theorem dX3_takesPart_90 : decode cX3_takesPart 90 = .ok (.getfield 250, 3) := dk_180 0 250 (dk_at dksX3_takesPart_3 21 rfl rfl)
theorem dX3_takesPart_93 : decode cX3_takesPart 93 = .ok (.iconst 1, 1) := dk_4 (dk_at dksX3_takesPart_4 0 rfl rfl)
theorem dX3_takesPart_94 : decode cX3_takesPart 94 = .ok (.iadd, 1) := dk_96 (dk_at dksX3_takesPart_4 1 rfl rfl)
theorem dX3_takesPart_95 : decode cX3_takesPart 95 = .ok (.putfield 250, 3) := dk_181 0 250 (dk_at dksX3_takesPart_4 2 rfl rfl)
theorem dX3_takesPart_98 : decode cX3_takesPart 98 = .ok (.aload_n 0, 1) := dk_42 (dk_at dksX3_takesPart_4 5 rfl rfl)
theorem dX3_takesPart_99 : decode cX3_takesPart 99 = .ok (.dup, 1) := dk_89 (dk_at dksX3_takesPart_4 6 rfl rfl)
theorem dX3_takesPart_100 : decode cX3_takesPart 100 = .ok (.getfield 256, 3) := dk_180 1 0 (dk_at dksX3_takesPart_4 7 rfl rfl)
theorem dX3_takesPart_103 : decode cX3_takesPart 103 = .ok (.iconst 1, 1) := dk_4 (dk_at dksX3_takesPart_4 10 rfl rfl)
theorem dX3_takesPart_104 : decode cX3_takesPart 104 = .ok (.iadd, 1) := dk_96 (dk_at dksX3_takesPart_4 11 rfl rfl)
theorem dX3_takesPart_105 : decode cX3_takesPart 105 = .ok (.putfield 256, 3) := dk_181 1 0 (dk_at dksX3_takesPart_4 12 rfl rfl)
theorem dX3_takesPart_108 : decode cX3_takesPart 108 = .ok (.aload_n 0, 1) := dk_42 (dk_at dksX3_takesPart_4 15 rfl rfl)
theorem dX3_takesPart_109 : decode cX3_takesPart 109 = .ok (.bipush 6, 2) := dk_16 6 (dk_at dksX3_takesPart_4 16 rfl rfl)
theorem dX3_takesPart_111 : decode cX3_takesPart 111 = .ok (.invokevirtual 259, 3) := dk_182 1 3 (dk_at dksX3_takesPart_4 18 rfl rfl)
theorem dX3_takesPart_114 : decode cX3_takesPart 114 = .ok (.aload_n 0, 1) := dk_42 (dk_at dksX3_takesPart_4 21 rfl rfl)
theorem dX3_takesPart_115 : decode cX3_takesPart 115 = .ok (.invokevirtual 241, 3) := dk_182 0 241 (dk_at dksX3_takesPart_5 0 rfl rfl)
theorem dX3_takesPart_118 : decode cX3_takesPart 118 = .ok (.iconst 1, 1) := dk_4 (dk_at dksX3_takesPart_5 3 rfl rfl)
theorem dX3_takesPart_119 : decode cX3_takesPart 119 = .ok (.ireturn, 1) := dk_172 (dk_at dksX3_takesPart_5 4 rfl rfl)
abbrev cX3_nameOf : ByteArray := prog_22_method_66_code
def yX3_nameOf : MethodName := ⟨RX3, "nameOf", "(I)I"⟩
def dkwX3_nameOf_5 : List UInt8 := [160, 0, 7, 4, 167, 0, 4, 2, 172]
abbrev dktX3_nameOf_5 : List UInt8 := dkwX3_nameOf_5 ++ []
def dkwX3_nameOf_4 : List UInt8 := [160, 0, 7, 4, 167, 0, 4, 2, 172, 27, 16, 100, 160, 0, 7, 3, 167, 0, 14, 27, 16, 108]
abbrev dktX3_nameOf_4 : List UInt8 := dkwX3_nameOf_4 ++ dktX3_nameOf_5
def dkwX3_nameOf_3 : List UInt8 := [160, 0, 7, 5, 167, 0, 4, 2, 172, 27, 16, 120, 160, 0, 7, 3, 167, 0, 14, 27, 16, 112]
abbrev dktX3_nameOf_3 : List UInt8 := dkwX3_nameOf_3 ++ dktX3_nameOf_4
def dkwX3_nameOf_2 : List UInt8 := [27, 16, 97, 160, 0, 7, 3, 167, 0, 24, 27, 16, 98, 160, 0, 7, 4, 167, 0, 14, 27, 16, 119]
abbrev dktX3_nameOf_2 : List UInt8 := dkwX3_nameOf_2 ++ dktX3_nameOf_3
def dkwX3_nameOf_1 : List UInt8 := [171, 0, 0, 0, 0, 0, 0, 82, 0, 0, 0, 2, 0, 0, 0, 0, 0, 0, 0, 28, 0, 0, 0, 1, 0, 0, 0, 60]
abbrev dktX3_nameOf_1 : List UInt8 := dkwX3_nameOf_1 ++ dktX3_nameOf_2
def dkwX3_nameOf_0 : List UInt8 := [42, 180, 0, 238]
abbrev dktX3_nameOf_0 : List UInt8 := dkwX3_nameOf_0 ++ dktX3_nameOf_1
theorem dksX3_nameOf_0 : cX3_nameOf.data.toList.drop 0 = dktX3_nameOf_0 := by decide +kernel
theorem dksX3_nameOf_1 : cX3_nameOf.data.toList.drop 4 = dktX3_nameOf_1 := dk_seg dksX3_nameOf_0 4 rfl rfl
theorem dksX3_nameOf_2 : cX3_nameOf.data.toList.drop 32 = dktX3_nameOf_2 := dk_seg dksX3_nameOf_1 28 rfl rfl
theorem dksX3_nameOf_3 : cX3_nameOf.data.toList.drop 55 = dktX3_nameOf_3 := dk_seg dksX3_nameOf_2 23 rfl rfl
theorem dksX3_nameOf_4 : cX3_nameOf.data.toList.drop 77 = dktX3_nameOf_4 := dk_seg dksX3_nameOf_3 22 rfl rfl
theorem dksX3_nameOf_5 : cX3_nameOf.data.toList.drop 99 = dktX3_nameOf_5 := dk_seg dksX3_nameOf_4 22 rfl rfl
theorem dX3_nameOf_0 : decode cX3_nameOf 0 = .ok (.aload_n 0, 1) := dk_42 (dk_at dksX3_nameOf_0 0 rfl rfl)
theorem dX3_nameOf_1 : decode cX3_nameOf 1 = .ok (.getfield 238, 3) := dk_180 0 238 (dk_at dksX3_nameOf_0 1 rfl rfl)
theorem dX3_nameOf_4 : decode cX3_nameOf 4 = .ok (.lookupswitch 82 #[(0, 28), (1, 60)], 28) := by decide +kernel
theorem dX3_nameOf_32 : decode cX3_nameOf 32 = .ok (.iload_n 1, 1) := dk_27 (dk_at dksX3_nameOf_2 0 rfl rfl)
theorem dX3_nameOf_33 : decode cX3_nameOf 33 = .ok (.bipush 97, 2) := dk_16 97 (dk_at dksX3_nameOf_2 1 rfl rfl)
theorem dX3_nameOf_35 : decode cX3_nameOf 35 = .ok (.if_icmp .ne 7, 3) := dk_160 0 7 (dk_at dksX3_nameOf_2 3 rfl rfl)
theorem dX3_nameOf_38 : decode cX3_nameOf 38 = .ok (.iconst 0, 1) := dk_3 (dk_at dksX3_nameOf_2 6 rfl rfl)
theorem dX3_nameOf_39 : decode cX3_nameOf 39 = .ok (.goto 24, 3) := dk_167 0 24 (dk_at dksX3_nameOf_2 7 rfl rfl)
theorem dX3_nameOf_42 : decode cX3_nameOf 42 = .ok (.iload_n 1, 1) := dk_27 (dk_at dksX3_nameOf_2 10 rfl rfl)
theorem dX3_nameOf_43 : decode cX3_nameOf 43 = .ok (.bipush 98, 2) := dk_16 98 (dk_at dksX3_nameOf_2 11 rfl rfl)
theorem dX3_nameOf_45 : decode cX3_nameOf 45 = .ok (.if_icmp .ne 7, 3) := dk_160 0 7 (dk_at dksX3_nameOf_2 13 rfl rfl)
theorem dX3_nameOf_48 : decode cX3_nameOf 48 = .ok (.iconst 1, 1) := dk_4 (dk_at dksX3_nameOf_2 16 rfl rfl)
theorem dX3_nameOf_49 : decode cX3_nameOf 49 = .ok (.goto 14, 3) := dk_167 0 14 (dk_at dksX3_nameOf_2 17 rfl rfl)
theorem dX3_nameOf_52 : decode cX3_nameOf 52 = .ok (.iload_n 1, 1) := dk_27 (dk_at dksX3_nameOf_2 20 rfl rfl)
theorem dX3_nameOf_53 : decode cX3_nameOf 53 = .ok (.bipush 119, 2) := dk_16 119 (dk_at dksX3_nameOf_2 21 rfl rfl)
theorem dX3_nameOf_55 : decode cX3_nameOf 55 = .ok (.if_icmp .ne 7, 3) := dk_160 0 7 (dk_at dksX3_nameOf_3 0 rfl rfl)
theorem dX3_nameOf_58 : decode cX3_nameOf 58 = .ok (.iconst 2, 1) := dk_5 (dk_at dksX3_nameOf_3 3 rfl rfl)
theorem dX3_nameOf_59 : decode cX3_nameOf 59 = .ok (.goto 4, 3) := dk_167 0 4 (dk_at dksX3_nameOf_3 4 rfl rfl)
theorem dX3_nameOf_62 : decode cX3_nameOf 62 = .ok (.iconst (-1), 1) := dk_2 (dk_at dksX3_nameOf_3 7 rfl rfl)
theorem dX3_nameOf_63 : decode cX3_nameOf 63 = .ok (.ireturn, 1) := dk_172 (dk_at dksX3_nameOf_3 8 rfl rfl)
theorem dX3_nameOf_64 : decode cX3_nameOf 64 = .ok (.iload_n 1, 1) := dk_27 (dk_at dksX3_nameOf_3 9 rfl rfl)
theorem dX3_nameOf_65 : decode cX3_nameOf 65 = .ok (.bipush 120, 2) := dk_16 120 (dk_at dksX3_nameOf_3 10 rfl rfl)
theorem dX3_nameOf_67 : decode cX3_nameOf 67 = .ok (.if_icmp .ne 7, 3) := dk_160 0 7 (dk_at dksX3_nameOf_3 12 rfl rfl)
theorem dX3_nameOf_70 : decode cX3_nameOf 70 = .ok (.iconst 0, 1) := dk_3 (dk_at dksX3_nameOf_3 15 rfl rfl)
theorem dX3_nameOf_71 : decode cX3_nameOf 71 = .ok (.goto 14, 3) := dk_167 0 14 (dk_at dksX3_nameOf_3 16 rfl rfl)
theorem dX3_nameOf_74 : decode cX3_nameOf 74 = .ok (.iload_n 1, 1) := dk_27 (dk_at dksX3_nameOf_3 19 rfl rfl)
theorem dX3_nameOf_75 : decode cX3_nameOf 75 = .ok (.bipush 112, 2) := dk_16 112 (dk_at dksX3_nameOf_3 20 rfl rfl)
theorem dX3_nameOf_77 : decode cX3_nameOf 77 = .ok (.if_icmp .ne 7, 3) := dk_160 0 7 (dk_at dksX3_nameOf_4 0 rfl rfl)
theorem dX3_nameOf_80 : decode cX3_nameOf 80 = .ok (.iconst 1, 1) := dk_4 (dk_at dksX3_nameOf_4 3 rfl rfl)
theorem dX3_nameOf_81 : decode cX3_nameOf 81 = .ok (.goto 4, 3) := dk_167 0 4 (dk_at dksX3_nameOf_4 4 rfl rfl)
theorem dX3_nameOf_84 : decode cX3_nameOf 84 = .ok (.iconst (-1), 1) := dk_2 (dk_at dksX3_nameOf_4 7 rfl rfl)
theorem dX3_nameOf_85 : decode cX3_nameOf 85 = .ok (.ireturn, 1) := dk_172 (dk_at dksX3_nameOf_4 8 rfl rfl)
theorem dX3_nameOf_86 : decode cX3_nameOf 86 = .ok (.iload_n 1, 1) := dk_27 (dk_at dksX3_nameOf_4 9 rfl rfl)
theorem dX3_nameOf_87 : decode cX3_nameOf 87 = .ok (.bipush 100, 2) := dk_16 100 (dk_at dksX3_nameOf_4 10 rfl rfl)
theorem dX3_nameOf_89 : decode cX3_nameOf 89 = .ok (.if_icmp .ne 7, 3) := dk_160 0 7 (dk_at dksX3_nameOf_4 12 rfl rfl)
theorem dX3_nameOf_92 : decode cX3_nameOf 92 = .ok (.iconst 0, 1) := dk_3 (dk_at dksX3_nameOf_4 15 rfl rfl)
theorem dX3_nameOf_93 : decode cX3_nameOf 93 = .ok (.goto 14, 3) := dk_167 0 14 (dk_at dksX3_nameOf_4 16 rfl rfl)
theorem dX3_nameOf_96 : decode cX3_nameOf 96 = .ok (.iload_n 1, 1) := dk_27 (dk_at dksX3_nameOf_4 19 rfl rfl)
theorem dX3_nameOf_97 : decode cX3_nameOf 97 = .ok (.bipush 108, 2) := dk_16 108 (dk_at dksX3_nameOf_4 20 rfl rfl)
theorem dX3_nameOf_99 : decode cX3_nameOf 99 = .ok (.if_icmp .ne 7, 3) := dk_160 0 7 (dk_at dksX3_nameOf_5 0 rfl rfl)
theorem dX3_nameOf_102 : decode cX3_nameOf 102 = .ok (.iconst 1, 1) := dk_4 (dk_at dksX3_nameOf_5 3 rfl rfl)
theorem dX3_nameOf_103 : decode cX3_nameOf 103 = .ok (.goto 4, 3) := dk_167 0 4 (dk_at dksX3_nameOf_5 4 rfl rfl)
theorem dX3_nameOf_106 : decode cX3_nameOf 106 = .ok (.iconst (-1), 1) := dk_2 (dk_at dksX3_nameOf_5 7 rfl rfl)
theorem dX3_nameOf_107 : decode cX3_nameOf 107 = .ok (.ireturn, 1) := dk_172 (dk_at dksX3_nameOf_5 8 rfl rfl)
abbrev cX3_settle : ByteArray := prog_22_method_68_code
def yX3_settle : MethodName := ⟨RX3, "settle", "(I)V"⟩
def dkwX3_settle_3 : List UInt8 := [180, 0, 250, 4, 96, 181, 0, 250, 167, 255, 177, 177]
abbrev dktX3_settle_3 : List UInt8 := dkwX3_settle_3 ++ []
def dkwX3_settle_2 : List UInt8 := [181, 0, 244, 42, 180, 0, 41, 42, 180, 0, 250, 42, 180, 0, 44, 42, 180, 0, 244, 46, 79, 42, 89]
abbrev dktX3_settle_2 : List UInt8 := dkwX3_settle_2 ++ dktX3_settle_3
def dkwX3_settle_1 : List UInt8 := [180, 0, 44, 42, 180, 0, 244, 4, 100, 46, 184, 0, 247, 27, 161, 0, 44, 42, 89, 180, 0, 244, 4, 100]
abbrev dktX3_settle_1 : List UInt8 := dkwX3_settle_1 ++ dktX3_settle_2
def dkwX3_settle_0 : List UInt8 := [42, 180, 0, 244, 158, 0, 78, 42, 180, 0, 44, 42, 180, 0, 244, 4, 100, 46, 16, 245, 159, 0, 62, 42]
abbrev dktX3_settle_0 : List UInt8 := dkwX3_settle_0 ++ dktX3_settle_1
theorem dksX3_settle_0 : cX3_settle.data.toList.drop 0 = dktX3_settle_0 := by decide +kernel
theorem dksX3_settle_1 : cX3_settle.data.toList.drop 24 = dktX3_settle_1 := dk_seg dksX3_settle_0 24 rfl rfl
theorem dksX3_settle_2 : cX3_settle.data.toList.drop 48 = dktX3_settle_2 := dk_seg dksX3_settle_1 24 rfl rfl
theorem dksX3_settle_3 : cX3_settle.data.toList.drop 71 = dktX3_settle_3 := dk_seg dksX3_settle_2 23 rfl rfl
theorem dX3_settle_0 : decode cX3_settle 0 = .ok (.aload_n 0, 1) := dk_42 (dk_at dksX3_settle_0 0 rfl rfl)
theorem dX3_settle_1 : decode cX3_settle 1 = .ok (.getfield 244, 3) := dk_180 0 244 (dk_at dksX3_settle_0 1 rfl rfl)
theorem dX3_settle_4 : decode cX3_settle 4 = .ok (.ifCond .le 78, 3) := dk_158 0 78 (dk_at dksX3_settle_0 4 rfl rfl)
theorem dX3_settle_7 : decode cX3_settle 7 = .ok (.aload_n 0, 1) := dk_42 (dk_at dksX3_settle_0 7 rfl rfl)
theorem dX3_settle_8 : decode cX3_settle 8 = .ok (.getfield 44, 3) := dk_180 0 44 (dk_at dksX3_settle_0 8 rfl rfl)
theorem dX3_settle_11 : decode cX3_settle 11 = .ok (.aload_n 0, 1) := dk_42 (dk_at dksX3_settle_0 11 rfl rfl)
theorem dX3_settle_12 : decode cX3_settle 12 = .ok (.getfield 244, 3) := dk_180 0 244 (dk_at dksX3_settle_0 12 rfl rfl)
theorem dX3_settle_15 : decode cX3_settle 15 = .ok (.iconst 1, 1) := dk_4 (dk_at dksX3_settle_0 15 rfl rfl)
theorem dX3_settle_16 : decode cX3_settle 16 = .ok (.isub, 1) := dk_100 (dk_at dksX3_settle_0 16 rfl rfl)
theorem dX3_settle_17 : decode cX3_settle 17 = .ok (.iaload, 1) := dk_46 (dk_at dksX3_settle_0 17 rfl rfl)
theorem dX3_settle_18 : decode cX3_settle 18 = .ok (.bipush (-11), 2) := dk_16 245 (dk_at dksX3_settle_0 18 rfl rfl)
theorem dX3_settle_20 : decode cX3_settle 20 = .ok (.if_icmp .eq 62, 3) := dk_159 0 62 (dk_at dksX3_settle_0 20 rfl rfl)
theorem dX3_settle_23 : decode cX3_settle 23 = .ok (.aload_n 0, 1) := dk_42 (dk_at dksX3_settle_0 23 rfl rfl)
theorem dX3_settle_24 : decode cX3_settle 24 = .ok (.getfield 44, 3) := dk_180 0 44 (dk_at dksX3_settle_1 0 rfl rfl)
theorem dX3_settle_27 : decode cX3_settle 27 = .ok (.aload_n 0, 1) := dk_42 (dk_at dksX3_settle_1 3 rfl rfl)
theorem dX3_settle_28 : decode cX3_settle 28 = .ok (.getfield 244, 3) := dk_180 0 244 (dk_at dksX3_settle_1 4 rfl rfl)
theorem dX3_settle_31 : decode cX3_settle 31 = .ok (.iconst 1, 1) := dk_4 (dk_at dksX3_settle_1 7 rfl rfl)
theorem dX3_settle_32 : decode cX3_settle 32 = .ok (.isub, 1) := dk_100 (dk_at dksX3_settle_1 8 rfl rfl)
theorem dX3_settle_33 : decode cX3_settle 33 = .ok (.iaload, 1) := dk_46 (dk_at dksX3_settle_1 9 rfl rfl)
theorem dX3_settle_34 : decode cX3_settle 34 = .ok (.invokestatic 247, 3) := dk_184 0 247 (dk_at dksX3_settle_1 10 rfl rfl)
theorem dX3_settle_37 : decode cX3_settle 37 = .ok (.iload_n 1, 1) := dk_27 (dk_at dksX3_settle_1 13 rfl rfl)
theorem dX3_settle_38 : decode cX3_settle 38 = .ok (.if_icmp .lt 44, 3) := dk_161 0 44 (dk_at dksX3_settle_1 14 rfl rfl)
theorem dX3_settle_41 : decode cX3_settle 41 = .ok (.aload_n 0, 1) := dk_42 (dk_at dksX3_settle_1 17 rfl rfl)
theorem dX3_settle_42 : decode cX3_settle 42 = .ok (.dup, 1) := dk_89 (dk_at dksX3_settle_1 18 rfl rfl)
theorem dX3_settle_43 : decode cX3_settle 43 = .ok (.getfield 244, 3) := dk_180 0 244 (dk_at dksX3_settle_1 19 rfl rfl)
theorem dX3_settle_46 : decode cX3_settle 46 = .ok (.iconst 1, 1) := dk_4 (dk_at dksX3_settle_1 22 rfl rfl)
theorem dX3_settle_47 : decode cX3_settle 47 = .ok (.isub, 1) := dk_100 (dk_at dksX3_settle_1 23 rfl rfl)
theorem dX3_settle_48 : decode cX3_settle 48 = .ok (.putfield 244, 3) := dk_181 0 244 (dk_at dksX3_settle_2 0 rfl rfl)
theorem dX3_settle_51 : decode cX3_settle 51 = .ok (.aload_n 0, 1) := dk_42 (dk_at dksX3_settle_2 3 rfl rfl)
theorem dX3_settle_52 : decode cX3_settle 52 = .ok (.getfield 41, 3) := dk_180 0 41 (dk_at dksX3_settle_2 4 rfl rfl)
theorem dX3_settle_55 : decode cX3_settle 55 = .ok (.aload_n 0, 1) := dk_42 (dk_at dksX3_settle_2 7 rfl rfl)
theorem dX3_settle_56 : decode cX3_settle 56 = .ok (.getfield 250, 3) := dk_180 0 250 (dk_at dksX3_settle_2 8 rfl rfl)
theorem dX3_settle_59 : decode cX3_settle 59 = .ok (.aload_n 0, 1) := dk_42 (dk_at dksX3_settle_2 11 rfl rfl)
theorem dX3_settle_60 : decode cX3_settle 60 = .ok (.getfield 44, 3) := dk_180 0 44 (dk_at dksX3_settle_2 12 rfl rfl)
theorem dX3_settle_63 : decode cX3_settle 63 = .ok (.aload_n 0, 1) := dk_42 (dk_at dksX3_settle_2 15 rfl rfl)
theorem dX3_settle_64 : decode cX3_settle 64 = .ok (.getfield 244, 3) := dk_180 0 244 (dk_at dksX3_settle_2 16 rfl rfl)
theorem dX3_settle_67 : decode cX3_settle 67 = .ok (.iaload, 1) := dk_46 (dk_at dksX3_settle_2 19 rfl rfl)
theorem dX3_settle_68 : decode cX3_settle 68 = .ok (.iastore, 1) := dk_79 (dk_at dksX3_settle_2 20 rfl rfl)
theorem dX3_settle_69 : decode cX3_settle 69 = .ok (.aload_n 0, 1) := dk_42 (dk_at dksX3_settle_2 21 rfl rfl)
theorem dX3_settle_70 : decode cX3_settle 70 = .ok (.dup, 1) := dk_89 (dk_at dksX3_settle_2 22 rfl rfl)
theorem dX3_settle_71 : decode cX3_settle 71 = .ok (.getfield 250, 3) := dk_180 0 250 (dk_at dksX3_settle_3 0 rfl rfl)
theorem dX3_settle_74 : decode cX3_settle 74 = .ok (.iconst 1, 1) := dk_4 (dk_at dksX3_settle_3 3 rfl rfl)
theorem dX3_settle_75 : decode cX3_settle 75 = .ok (.iadd, 1) := dk_96 (dk_at dksX3_settle_3 4 rfl rfl)
theorem dX3_settle_76 : decode cX3_settle 76 = .ok (.putfield 250, 3) := dk_181 0 250 (dk_at dksX3_settle_3 5 rfl rfl)
theorem dX3_settle_79 : decode cX3_settle 79 = .ok (.goto (-79), 3) := dk_167 255 177 (dk_at dksX3_settle_3 8 rfl rfl)
theorem dX3_settle_82 : decode cX3_settle 82 = .ok (.return_, 1) := dk_177 (dk_at dksX3_settle_3 11 rfl rfl)
abbrev cX3_rank : ByteArray := prog_22_method_67_code
def yX3_rank : MethodName := ⟨RX3, "rank", "(I)I"⟩
def dkwX3_rank_2 : List UInt8 := [167, 0, 5, 16, 6, 172]
abbrev dktX3_rank_2 : List UInt8 := dkwX3_rank_2 ++ []
def dkwX3_rank_1 : List UInt8 := [161, 0, 7, 6, 167, 0, 25, 26, 16, 249, 161, 0, 7, 7, 167, 0, 15, 26, 16, 247, 161, 0, 7, 8]
abbrev dktX3_rank_1 : List UInt8 := dkwX3_rank_1 ++ dktX3_rank_2
def dkwX3_rank_0 : List UInt8 := [26, 2, 160, 0, 7, 4, 167, 0, 45, 26, 16, 254, 160, 0, 7, 5, 167, 0, 35, 26, 16, 251]
abbrev dktX3_rank_0 : List UInt8 := dkwX3_rank_0 ++ dktX3_rank_1
theorem dksX3_rank_0 : cX3_rank.data.toList.drop 0 = dktX3_rank_0 := by decide +kernel
theorem dksX3_rank_1 : cX3_rank.data.toList.drop 22 = dktX3_rank_1 := dk_seg dksX3_rank_0 22 rfl rfl
theorem dksX3_rank_2 : cX3_rank.data.toList.drop 46 = dktX3_rank_2 := dk_seg dksX3_rank_1 24 rfl rfl
theorem dX3_rank_0 : decode cX3_rank 0 = .ok (.iload_n 0, 1) := dk_26 (dk_at dksX3_rank_0 0 rfl rfl)
theorem dX3_rank_1 : decode cX3_rank 1 = .ok (.iconst (-1), 1) := dk_2 (dk_at dksX3_rank_0 1 rfl rfl)
theorem dX3_rank_2 : decode cX3_rank 2 = .ok (.if_icmp .ne 7, 3) := dk_160 0 7 (dk_at dksX3_rank_0 2 rfl rfl)
theorem dX3_rank_5 : decode cX3_rank 5 = .ok (.iconst 1, 1) := dk_4 (dk_at dksX3_rank_0 5 rfl rfl)
theorem dX3_rank_6 : decode cX3_rank 6 = .ok (.goto 45, 3) := dk_167 0 45 (dk_at dksX3_rank_0 6 rfl rfl)
theorem dX3_rank_9 : decode cX3_rank 9 = .ok (.iload_n 0, 1) := dk_26 (dk_at dksX3_rank_0 9 rfl rfl)
theorem dX3_rank_10 : decode cX3_rank 10 = .ok (.bipush (-2), 2) := dk_16 254 (dk_at dksX3_rank_0 10 rfl rfl)
theorem dX3_rank_12 : decode cX3_rank 12 = .ok (.if_icmp .ne 7, 3) := dk_160 0 7 (dk_at dksX3_rank_0 12 rfl rfl)
theorem dX3_rank_15 : decode cX3_rank 15 = .ok (.iconst 2, 1) := dk_5 (dk_at dksX3_rank_0 15 rfl rfl)
theorem dX3_rank_16 : decode cX3_rank 16 = .ok (.goto 35, 3) := dk_167 0 35 (dk_at dksX3_rank_0 16 rfl rfl)
theorem dX3_rank_19 : decode cX3_rank 19 = .ok (.iload_n 0, 1) := dk_26 (dk_at dksX3_rank_0 19 rfl rfl)
theorem dX3_rank_20 : decode cX3_rank 20 = .ok (.bipush (-5), 2) := dk_16 251 (dk_at dksX3_rank_0 20 rfl rfl)
theorem dX3_rank_22 : decode cX3_rank 22 = .ok (.if_icmp .lt 7, 3) := dk_161 0 7 (dk_at dksX3_rank_1 0 rfl rfl)
theorem dX3_rank_25 : decode cX3_rank 25 = .ok (.iconst 3, 1) := dk_6 (dk_at dksX3_rank_1 3 rfl rfl)
theorem dX3_rank_26 : decode cX3_rank 26 = .ok (.goto 25, 3) := dk_167 0 25 (dk_at dksX3_rank_1 4 rfl rfl)
theorem dX3_rank_29 : decode cX3_rank 29 = .ok (.iload_n 0, 1) := dk_26 (dk_at dksX3_rank_1 7 rfl rfl)
theorem dX3_rank_30 : decode cX3_rank 30 = .ok (.bipush (-7), 2) := dk_16 249 (dk_at dksX3_rank_1 8 rfl rfl)
theorem dX3_rank_32 : decode cX3_rank 32 = .ok (.if_icmp .lt 7, 3) := dk_161 0 7 (dk_at dksX3_rank_1 10 rfl rfl)
theorem dX3_rank_35 : decode cX3_rank 35 = .ok (.iconst 4, 1) := dk_7 (dk_at dksX3_rank_1 13 rfl rfl)
theorem dX3_rank_36 : decode cX3_rank 36 = .ok (.goto 15, 3) := dk_167 0 15 (dk_at dksX3_rank_1 14 rfl rfl)
theorem dX3_rank_39 : decode cX3_rank 39 = .ok (.iload_n 0, 1) := dk_26 (dk_at dksX3_rank_1 17 rfl rfl)
theorem dX3_rank_40 : decode cX3_rank 40 = .ok (.bipush (-9), 2) := dk_16 247 (dk_at dksX3_rank_1 18 rfl rfl)
theorem dX3_rank_42 : decode cX3_rank 42 = .ok (.if_icmp .lt 7, 3) := dk_161 0 7 (dk_at dksX3_rank_1 20 rfl rfl)
theorem dX3_rank_45 : decode cX3_rank 45 = .ok (.iconst 5, 1) := dk_8 (dk_at dksX3_rank_1 23 rfl rfl)
theorem dX3_rank_46 : decode cX3_rank 46 = .ok (.goto 5, 3) := dk_167 0 5 (dk_at dksX3_rank_2 0 rfl rfl)
theorem dX3_rank_49 : decode cX3_rank 49 = .ok (.bipush 6, 2) := dk_16 6 (dk_at dksX3_rank_2 3 rfl rfl)
theorem dX3_rank_51 : decode cX3_rank 51 = .ok (.ireturn, 1) := dk_172 (dk_at dksX3_rank_2 5 rfl rfl)
abbrev cX3_notsOpen : ByteArray := prog_22_method_72_code
def yX3_notsOpen : MethodName := ⟨RX3, "notsOpen", "()I"⟩
def dkwX3_notsOpen_1 : List UInt8 := [4, 167, 0, 4, 3, 96, 60, 132, 2, 1, 167, 255, 226, 27, 172]
abbrev dktX3_notsOpen_1 : List UInt8 := dkwX3_notsOpen_1 ++ []
def dkwX3_notsOpen_0 : List UInt8 := [3, 60, 3, 61, 28, 42, 180, 0, 244, 162, 0, 28, 27, 42, 180, 0, 44, 28, 46, 16, 246, 160, 0, 7]
abbrev dktX3_notsOpen_0 : List UInt8 := dkwX3_notsOpen_0 ++ dktX3_notsOpen_1
theorem dksX3_notsOpen_0 : cX3_notsOpen.data.toList.drop 0 = dktX3_notsOpen_0 := by decide +kernel
theorem dksX3_notsOpen_1 : cX3_notsOpen.data.toList.drop 24 = dktX3_notsOpen_1 := dk_seg dksX3_notsOpen_0 24 rfl rfl
theorem dX3_notsOpen_0 : decode cX3_notsOpen 0 = .ok (.iconst 0, 1) := dk_3 (dk_at dksX3_notsOpen_0 0 rfl rfl)
theorem dX3_notsOpen_1 : decode cX3_notsOpen 1 = .ok (.istore_n 1, 1) := dk_60 (dk_at dksX3_notsOpen_0 1 rfl rfl)
theorem dX3_notsOpen_2 : decode cX3_notsOpen 2 = .ok (.iconst 0, 1) := dk_3 (dk_at dksX3_notsOpen_0 2 rfl rfl)
theorem dX3_notsOpen_3 : decode cX3_notsOpen 3 = .ok (.istore_n 2, 1) := dk_61 (dk_at dksX3_notsOpen_0 3 rfl rfl)
theorem dX3_notsOpen_4 : decode cX3_notsOpen 4 = .ok (.iload_n 2, 1) := dk_28 (dk_at dksX3_notsOpen_0 4 rfl rfl)
theorem dX3_notsOpen_5 : decode cX3_notsOpen 5 = .ok (.aload_n 0, 1) := dk_42 (dk_at dksX3_notsOpen_0 5 rfl rfl)
theorem dX3_notsOpen_6 : decode cX3_notsOpen 6 = .ok (.getfield 244, 3) := dk_180 0 244 (dk_at dksX3_notsOpen_0 6 rfl rfl)
theorem dX3_notsOpen_9 : decode cX3_notsOpen 9 = .ok (.if_icmp .ge 28, 3) := dk_162 0 28 (dk_at dksX3_notsOpen_0 9 rfl rfl)
theorem dX3_notsOpen_12 : decode cX3_notsOpen 12 = .ok (.iload_n 1, 1) := dk_27 (dk_at dksX3_notsOpen_0 12 rfl rfl)
theorem dX3_notsOpen_13 : decode cX3_notsOpen 13 = .ok (.aload_n 0, 1) := dk_42 (dk_at dksX3_notsOpen_0 13 rfl rfl)
theorem dX3_notsOpen_14 : decode cX3_notsOpen 14 = .ok (.getfield 44, 3) := dk_180 0 44 (dk_at dksX3_notsOpen_0 14 rfl rfl)
theorem dX3_notsOpen_17 : decode cX3_notsOpen 17 = .ok (.iload_n 2, 1) := dk_28 (dk_at dksX3_notsOpen_0 17 rfl rfl)
theorem dX3_notsOpen_18 : decode cX3_notsOpen 18 = .ok (.iaload, 1) := dk_46 (dk_at dksX3_notsOpen_0 18 rfl rfl)
theorem dX3_notsOpen_19 : decode cX3_notsOpen 19 = .ok (.bipush (-10), 2) := dk_16 246 (dk_at dksX3_notsOpen_0 19 rfl rfl)
theorem dX3_notsOpen_21 : decode cX3_notsOpen 21 = .ok (.if_icmp .ne 7, 3) := dk_160 0 7 (dk_at dksX3_notsOpen_0 21 rfl rfl)
theorem dX3_notsOpen_24 : decode cX3_notsOpen 24 = .ok (.iconst 1, 1) := dk_4 (dk_at dksX3_notsOpen_1 0 rfl rfl)
theorem dX3_notsOpen_25 : decode cX3_notsOpen 25 = .ok (.goto 4, 3) := dk_167 0 4 (dk_at dksX3_notsOpen_1 1 rfl rfl)
theorem dX3_notsOpen_28 : decode cX3_notsOpen 28 = .ok (.iconst 0, 1) := dk_3 (dk_at dksX3_notsOpen_1 4 rfl rfl)
theorem dX3_notsOpen_29 : decode cX3_notsOpen 29 = .ok (.iadd, 1) := dk_96 (dk_at dksX3_notsOpen_1 5 rfl rfl)
theorem dX3_notsOpen_30 : decode cX3_notsOpen 30 = .ok (.istore_n 1, 1) := dk_60 (dk_at dksX3_notsOpen_1 6 rfl rfl)
theorem dX3_notsOpen_31 : decode cX3_notsOpen 31 = .ok (.iinc 2 1, 3) := dk_132 2 1 (dk_at dksX3_notsOpen_1 7 rfl rfl)
theorem dX3_notsOpen_34 : decode cX3_notsOpen 34 = .ok (.goto (-30), 3) := dk_167 255 226 (dk_at dksX3_notsOpen_1 10 rfl rfl)
theorem dX3_notsOpen_37 : decode cX3_notsOpen 37 = .ok (.iload_n 1, 1) := dk_27 (dk_at dksX3_notsOpen_1 13 rfl rfl)
theorem dX3_notsOpen_38 : decode cX3_notsOpen 38 = .ok (.ireturn, 1) := dk_172 (dk_at dksX3_notsOpen_1 14 rfl rfl)
abbrev cX3_signHere : ByteArray := prog_22_method_69_code
def yX3_signHere : MethodName := ⟨RX3, "signHere", "()I"⟩
def dkwX3_signHere_3 : List UInt8 := [16, 247, 172, 3, 172]
abbrev dktX3_signHere_3 : List UInt8 := dkwX3_signHere_3 ++ []
def dkwX3_signHere_2 : List UInt8 := [2, 172, 16, 254, 172, 16, 253, 172, 16, 252, 172, 16, 251, 172, 16, 250, 172, 16, 249, 172, 16, 248, 172]
abbrev dktX3_signHere_2 : List UInt8 := dkwX3_signHere_2 ++ dktX3_signHere_3
def dkwX3_signHere_1 : List UInt8 := [171, 0, 0, 0, 0, 108, 0, 0, 0, 9, 0, 0, 0, 38, 0, 0, 0, 84, 0, 0, 0, 42, 0, 0, 0, 102, 0, 0, 0, 43, 0, 0, 0, 96, 0, 0, 0, 45, 0, 0, 0, 99, 0, 0, 0, 47, 0, 0, 0, 105, 0, 0, 0, 60, 0, 0, 0, 87, 0, 0, 0, 61, 0, 0, 0, 90, 0, 0, 0, 62, 0, 0, 0, 93, 0, 0, 0, 124, 0, 0, 0, 82]
abbrev dktX3_signHere_1 : List UInt8 := dkwX3_signHere_1 ++ dktX3_signHere_2
def dkwX3_signHere_0 : List UInt8 := [42, 180, 0, 226, 6, 159, 0, 5, 3, 172, 42, 180, 0, 232]
abbrev dktX3_signHere_0 : List UInt8 := dkwX3_signHere_0 ++ dktX3_signHere_1
theorem dksX3_signHere_0 : cX3_signHere.data.toList.drop 0 = dktX3_signHere_0 := by decide +kernel
theorem dksX3_signHere_1 : cX3_signHere.data.toList.drop 14 = dktX3_signHere_1 := dk_seg dksX3_signHere_0 14 rfl rfl
theorem dksX3_signHere_2 : cX3_signHere.data.toList.drop 96 = dktX3_signHere_2 := dk_seg dksX3_signHere_1 82 rfl rfl
theorem dksX3_signHere_3 : cX3_signHere.data.toList.drop 119 = dktX3_signHere_3 := dk_seg dksX3_signHere_2 23 rfl rfl
theorem dX3_signHere_0 : decode cX3_signHere 0 = .ok (.aload_n 0, 1) := dk_42 (dk_at dksX3_signHere_0 0 rfl rfl)
theorem dX3_signHere_1 : decode cX3_signHere 1 = .ok (.getfield 226, 3) := dk_180 0 226 (dk_at dksX3_signHere_0 1 rfl rfl)
theorem dX3_signHere_4 : decode cX3_signHere 4 = .ok (.iconst 3, 1) := dk_6 (dk_at dksX3_signHere_0 4 rfl rfl)
theorem dX3_signHere_5 : decode cX3_signHere 5 = .ok (.if_icmp .eq 5, 3) := dk_159 0 5 (dk_at dksX3_signHere_0 5 rfl rfl)
theorem dX3_signHere_8 : decode cX3_signHere 8 = .ok (.iconst 0, 1) := dk_3 (dk_at dksX3_signHere_0 8 rfl rfl)
theorem dX3_signHere_9 : decode cX3_signHere 9 = .ok (.ireturn, 1) := dk_172 (dk_at dksX3_signHere_0 9 rfl rfl)
theorem dX3_signHere_10 : decode cX3_signHere 10 = .ok (.aload_n 0, 1) := dk_42 (dk_at dksX3_signHere_0 10 rfl rfl)
theorem dX3_signHere_11 : decode cX3_signHere 11 = .ok (.getfield 232, 3) := dk_180 0 232 (dk_at dksX3_signHere_0 11 rfl rfl)
theorem dX3_signHere_14 : decode cX3_signHere 14 = .ok (.lookupswitch 108 #[(38, 84), (42, 102), (43, 96), (45, 99), (47, 105), (60, 87), (61, 90), (62, 93), (124, 82)], 82) := by decide +kernel
theorem dX3_signHere_96 : decode cX3_signHere 96 = .ok (.iconst (-1), 1) := dk_2 (dk_at dksX3_signHere_2 0 rfl rfl)
theorem dX3_signHere_97 : decode cX3_signHere 97 = .ok (.ireturn, 1) := dk_172 (dk_at dksX3_signHere_2 1 rfl rfl)
theorem dX3_signHere_98 : decode cX3_signHere 98 = .ok (.bipush (-2), 2) := dk_16 254 (dk_at dksX3_signHere_2 2 rfl rfl)
theorem dX3_signHere_100 : decode cX3_signHere 100 = .ok (.ireturn, 1) := dk_172 (dk_at dksX3_signHere_2 4 rfl rfl)
theorem dX3_signHere_101 : decode cX3_signHere 101 = .ok (.bipush (-3), 2) := dk_16 253 (dk_at dksX3_signHere_2 5 rfl rfl)
theorem dX3_signHere_103 : decode cX3_signHere 103 = .ok (.ireturn, 1) := dk_172 (dk_at dksX3_signHere_2 7 rfl rfl)
theorem dX3_signHere_104 : decode cX3_signHere 104 = .ok (.bipush (-4), 2) := dk_16 252 (dk_at dksX3_signHere_2 8 rfl rfl)
theorem dX3_signHere_106 : decode cX3_signHere 106 = .ok (.ireturn, 1) := dk_172 (dk_at dksX3_signHere_2 10 rfl rfl)
theorem dX3_signHere_107 : decode cX3_signHere 107 = .ok (.bipush (-5), 2) := dk_16 251 (dk_at dksX3_signHere_2 11 rfl rfl)
theorem dX3_signHere_109 : decode cX3_signHere 109 = .ok (.ireturn, 1) := dk_172 (dk_at dksX3_signHere_2 13 rfl rfl)
theorem dX3_signHere_110 : decode cX3_signHere 110 = .ok (.bipush (-6), 2) := dk_16 250 (dk_at dksX3_signHere_2 14 rfl rfl)
theorem dX3_signHere_112 : decode cX3_signHere 112 = .ok (.ireturn, 1) := dk_172 (dk_at dksX3_signHere_2 16 rfl rfl)
theorem dX3_signHere_113 : decode cX3_signHere 113 = .ok (.bipush (-7), 2) := dk_16 249 (dk_at dksX3_signHere_2 17 rfl rfl)
theorem dX3_signHere_115 : decode cX3_signHere 115 = .ok (.ireturn, 1) := dk_172 (dk_at dksX3_signHere_2 19 rfl rfl)
theorem dX3_signHere_116 : decode cX3_signHere 116 = .ok (.bipush (-8), 2) := dk_16 248 (dk_at dksX3_signHere_2 20 rfl rfl)
theorem dX3_signHere_118 : decode cX3_signHere 118 = .ok (.ireturn, 1) := dk_172 (dk_at dksX3_signHere_2 22 rfl rfl)
theorem dX3_signHere_119 : decode cX3_signHere 119 = .ok (.bipush (-9), 2) := dk_16 247 (dk_at dksX3_signHere_3 0 rfl rfl)
theorem dX3_signHere_121 : decode cX3_signHere 121 = .ok (.ireturn, 1) := dk_172 (dk_at dksX3_signHere_3 2 rfl rfl)
theorem dX3_signHere_122 : decode cX3_signHere 122 = .ok (.iconst 0, 1) := dk_3 (dk_at dksX3_signHere_3 3 rfl rfl)
theorem dX3_signHere_123 : decode cX3_signHere 123 = .ok (.ireturn, 1) := dk_172 (dk_at dksX3_signHere_3 4 rfl rfl)
abbrev cX3_textTold : ByteArray := prog_22_method_74_code
def yX3_textTold : MethodName := ⟨RX3, "textTold", "(II)I"⟩
def dkwX3_textTold_2 : List UInt8 := [108, 167, 0, 16, 42, 180, 0, 9, 16, 76, 5, 27, 104, 96, 4, 96, 46, 172]
abbrev dktX3_textTold_2 : List UInt8 := dkwX3_textTold_2 ++ []
def dkwX3_textTold_1 : List UInt8 := [154, 0, 6, 18, 93, 172, 28, 154, 0, 21, 42, 180, 0, 9, 16, 76, 5, 27, 104, 96, 46, 17, 3, 232]
abbrev dktX3_textTold_1 : List UInt8 := dkwX3_textTold_1 ++ dktX3_textTold_2
def dkwX3_textTold_0 : List UInt8 := [27, 3, 42, 180, 0, 9, 8, 46, 4, 100, 184, 0, 85, 153, 0, 12, 28, 3, 4, 184, 0, 85]
abbrev dktX3_textTold_0 : List UInt8 := dkwX3_textTold_0 ++ dktX3_textTold_1
theorem dksX3_textTold_0 : cX3_textTold.data.toList.drop 0 = dktX3_textTold_0 := by decide +kernel
theorem dksX3_textTold_1 : cX3_textTold.data.toList.drop 22 = dktX3_textTold_1 := dk_seg dksX3_textTold_0 22 rfl rfl
theorem dksX3_textTold_2 : cX3_textTold.data.toList.drop 46 = dktX3_textTold_2 := dk_seg dksX3_textTold_1 24 rfl rfl
theorem dX3_textTold_0 : decode cX3_textTold 0 = .ok (.iload_n 1, 1) := dk_27 (dk_at dksX3_textTold_0 0 rfl rfl)
theorem dX3_textTold_1 : decode cX3_textTold 1 = .ok (.iconst 0, 1) := dk_3 (dk_at dksX3_textTold_0 1 rfl rfl)
theorem dX3_textTold_2 : decode cX3_textTold 2 = .ok (.aload_n 0, 1) := dk_42 (dk_at dksX3_textTold_0 2 rfl rfl)
theorem dX3_textTold_3 : decode cX3_textTold 3 = .ok (.getfield 9, 3) := dk_180 0 9 (dk_at dksX3_textTold_0 3 rfl rfl)
theorem dX3_textTold_6 : decode cX3_textTold 6 = .ok (.iconst 5, 1) := dk_8 (dk_at dksX3_textTold_0 6 rfl rfl)
theorem dX3_textTold_7 : decode cX3_textTold 7 = .ok (.iaload, 1) := dk_46 (dk_at dksX3_textTold_0 7 rfl rfl)
theorem dX3_textTold_8 : decode cX3_textTold 8 = .ok (.iconst 1, 1) := dk_4 (dk_at dksX3_textTold_0 8 rfl rfl)
theorem dX3_textTold_9 : decode cX3_textTold 9 = .ok (.isub, 1) := dk_100 (dk_at dksX3_textTold_0 9 rfl rfl)
theorem dX3_textTold_10 : decode cX3_textTold 10 = .ok (.invokestatic 85, 3) := dk_184 0 85 (dk_at dksX3_textTold_0 10 rfl rfl)
theorem dX3_textTold_13 : decode cX3_textTold 13 = .ok (.ifCond .eq 12, 3) := dk_153 0 12 (dk_at dksX3_textTold_0 13 rfl rfl)
theorem dX3_textTold_16 : decode cX3_textTold 16 = .ok (.iload_n 2, 1) := dk_28 (dk_at dksX3_textTold_0 16 rfl rfl)
theorem dX3_textTold_17 : decode cX3_textTold 17 = .ok (.iconst 0, 1) := dk_3 (dk_at dksX3_textTold_0 17 rfl rfl)
theorem dX3_textTold_18 : decode cX3_textTold 18 = .ok (.iconst 1, 1) := dk_4 (dk_at dksX3_textTold_0 18 rfl rfl)
theorem dX3_textTold_19 : decode cX3_textTold 19 = .ok (.invokestatic 85, 3) := dk_184 0 85 (dk_at dksX3_textTold_0 19 rfl rfl)
theorem dX3_textTold_22 : decode cX3_textTold 22 = .ok (.ifCond .ne 6, 3) := dk_154 0 6 (dk_at dksX3_textTold_1 0 rfl rfl)
theorem dX3_textTold_25 : decode cX3_textTold 25 = .ok (.ldc 93, 2) := dk_18 93 (dk_at dksX3_textTold_1 3 rfl rfl)
theorem dX3_textTold_27 : decode cX3_textTold 27 = .ok (.ireturn, 1) := dk_172 (dk_at dksX3_textTold_1 5 rfl rfl)
theorem dX3_textTold_28 : decode cX3_textTold 28 = .ok (.iload_n 2, 1) := dk_28 (dk_at dksX3_textTold_1 6 rfl rfl)
theorem dX3_textTold_29 : decode cX3_textTold 29 = .ok (.ifCond .ne 21, 3) := dk_154 0 21 (dk_at dksX3_textTold_1 7 rfl rfl)
theorem dX3_textTold_32 : decode cX3_textTold 32 = .ok (.aload_n 0, 1) := dk_42 (dk_at dksX3_textTold_1 10 rfl rfl)
theorem dX3_textTold_33 : decode cX3_textTold 33 = .ok (.getfield 9, 3) := dk_180 0 9 (dk_at dksX3_textTold_1 11 rfl rfl)
theorem dX3_textTold_36 : decode cX3_textTold 36 = .ok (.bipush 76, 2) := dk_16 76 (dk_at dksX3_textTold_1 14 rfl rfl)
theorem dX3_textTold_38 : decode cX3_textTold 38 = .ok (.iconst 2, 1) := dk_5 (dk_at dksX3_textTold_1 16 rfl rfl)
theorem dX3_textTold_39 : decode cX3_textTold 39 = .ok (.iload_n 1, 1) := dk_27 (dk_at dksX3_textTold_1 17 rfl rfl)
theorem dX3_textTold_40 : decode cX3_textTold 40 = .ok (.imul, 1) := dk_104 (dk_at dksX3_textTold_1 18 rfl rfl)
theorem dX3_textTold_41 : decode cX3_textTold 41 = .ok (.iadd, 1) := dk_96 (dk_at dksX3_textTold_1 19 rfl rfl)
theorem dX3_textTold_42 : decode cX3_textTold 42 = .ok (.iaload, 1) := dk_46 (dk_at dksX3_textTold_1 20 rfl rfl)
theorem dX3_textTold_43 : decode cX3_textTold 43 = .ok (.sipush 1000, 3) := dk_17 3 232 (dk_at dksX3_textTold_1 21 rfl rfl)
theorem dX3_textTold_46 : decode cX3_textTold 46 = .ok (.idiv, 1) := dk_108 (dk_at dksX3_textTold_2 0 rfl rfl)
theorem dX3_textTold_47 : decode cX3_textTold 47 = .ok (.goto 16, 3) := dk_167 0 16 (dk_at dksX3_textTold_2 1 rfl rfl)
theorem dX3_textTold_50 : decode cX3_textTold 50 = .ok (.aload_n 0, 1) := dk_42 (dk_at dksX3_textTold_2 4 rfl rfl)
theorem dX3_textTold_51 : decode cX3_textTold 51 = .ok (.getfield 9, 3) := dk_180 0 9 (dk_at dksX3_textTold_2 5 rfl rfl)
theorem dX3_textTold_54 : decode cX3_textTold 54 = .ok (.bipush 76, 2) := dk_16 76 (dk_at dksX3_textTold_2 8 rfl rfl)
theorem dX3_textTold_56 : decode cX3_textTold 56 = .ok (.iconst 2, 1) := dk_5 (dk_at dksX3_textTold_2 10 rfl rfl)
theorem dX3_textTold_57 : decode cX3_textTold 57 = .ok (.iload_n 1, 1) := dk_27 (dk_at dksX3_textTold_2 11 rfl rfl)
theorem dX3_textTold_58 : decode cX3_textTold 58 = .ok (.imul, 1) := dk_104 (dk_at dksX3_textTold_2 12 rfl rfl)
theorem dX3_textTold_59 : decode cX3_textTold 59 = .ok (.iadd, 1) := dk_96 (dk_at dksX3_textTold_2 13 rfl rfl)
theorem dX3_textTold_60 : decode cX3_textTold 60 = .ok (.iconst 1, 1) := dk_4 (dk_at dksX3_textTold_2 14 rfl rfl)
theorem dX3_textTold_61 : decode cX3_textTold 61 = .ok (.iadd, 1) := dk_96 (dk_at dksX3_textTold_2 15 rfl rfl)
theorem dX3_textTold_62 : decode cX3_textTold 62 = .ok (.iaload, 1) := dk_46 (dk_at dksX3_textTold_2 16 rfl rfl)
theorem dX3_textTold_63 : decode cX3_textTold 63 = .ok (.ireturn, 1) := dk_172 (dk_at dksX3_textTold_2 17 rfl rfl)
abbrev cX3_why : ByteArray := prog_22_method_76_code
def yX3_why : MethodName := ⟨RX3, "why", "(I)I"⟩
def dkwX3_why_1 : List UInt8 := [167, 0, 4, 28, 172]
abbrev dktX3_why_1 : List UInt8 := dkwX3_why_1 ++ []
def dkwX3_why_0 : List UInt8 := [27, 3, 5, 184, 0, 85, 154, 0, 6, 18, 93, 172, 42, 27, 182, 0, 125, 61, 28, 156, 0, 8, 18, 84]
abbrev dktX3_why_0 : List UInt8 := dkwX3_why_0 ++ dktX3_why_1
theorem dksX3_why_0 : cX3_why.data.toList.drop 0 = dktX3_why_0 := by decide +kernel
theorem dksX3_why_1 : cX3_why.data.toList.drop 24 = dktX3_why_1 := dk_seg dksX3_why_0 24 rfl rfl
theorem dX3_why_0 : decode cX3_why 0 = .ok (.iload_n 1, 1) := dk_27 (dk_at dksX3_why_0 0 rfl rfl)
theorem dX3_why_1 : decode cX3_why 1 = .ok (.iconst 0, 1) := dk_3 (dk_at dksX3_why_0 1 rfl rfl)
theorem dX3_why_2 : decode cX3_why 2 = .ok (.iconst 2, 1) := dk_5 (dk_at dksX3_why_0 2 rfl rfl)
theorem dX3_why_3 : decode cX3_why 3 = .ok (.invokestatic 85, 3) := dk_184 0 85 (dk_at dksX3_why_0 3 rfl rfl)
theorem dX3_why_6 : decode cX3_why 6 = .ok (.ifCond .ne 6, 3) := dk_154 0 6 (dk_at dksX3_why_0 6 rfl rfl)
theorem dX3_why_9 : decode cX3_why 9 = .ok (.ldc 93, 2) := dk_18 93 (dk_at dksX3_why_0 9 rfl rfl)
theorem dX3_why_11 : decode cX3_why 11 = .ok (.ireturn, 1) := dk_172 (dk_at dksX3_why_0 11 rfl rfl)
theorem dX3_why_12 : decode cX3_why 12 = .ok (.aload_n 0, 1) := dk_42 (dk_at dksX3_why_0 12 rfl rfl)
theorem dX3_why_13 : decode cX3_why 13 = .ok (.iload_n 1, 1) := dk_27 (dk_at dksX3_why_0 13 rfl rfl)
theorem dX3_why_14 : decode cX3_why 14 = .ok (.invokevirtual 125, 3) := dk_182 0 125 (dk_at dksX3_why_0 14 rfl rfl)
theorem dX3_why_17 : decode cX3_why 17 = .ok (.istore_n 2, 1) := dk_61 (dk_at dksX3_why_0 17 rfl rfl)
theorem dX3_why_18 : decode cX3_why 18 = .ok (.iload_n 2, 1) := dk_28 (dk_at dksX3_why_0 18 rfl rfl)
theorem dX3_why_19 : decode cX3_why 19 = .ok (.ifCond .ge 8, 3) := dk_156 0 8 (dk_at dksX3_why_0 19 rfl rfl)
theorem dX3_why_22 : decode cX3_why 22 = .ok (.ldc 84, 2) := dk_18 84 (dk_at dksX3_why_0 22 rfl rfl)
theorem dX3_why_24 : decode cX3_why 24 = .ok (.goto 4, 3) := dk_167 0 4 (dk_at dksX3_why_1 0 rfl rfl)
theorem dX3_why_27 : decode cX3_why 27 = .ok (.iload_n 2, 1) := dk_28 (dk_at dksX3_why_1 3 rfl rfl)
theorem dX3_why_28 : decode cX3_why 28 = .ok (.ireturn, 1) := dk_172 (dk_at dksX3_why_1 4 rfl rfl)
abbrev cX3_sheet : ByteArray := prog_22_method_81_code
def yX3_sheet : MethodName := ⟨RX3, "sheet", "(III)I"⟩
def dkwX3_sheet_4 : List UInt8 := [180, 0, 60, 27, 46, 172]
abbrev dktX3_sheet_4 : List UInt8 := dkwX3_sheet_4 ++ []
def dkwX3_sheet_3 : List UInt8 := [162, 0, 22, 42, 180, 0, 63, 16, 24, 27, 104, 21, 4, 96, 3, 79, 132, 4, 1, 167, 255, 233, 42]
abbrev dktX3_sheet_3 : List UInt8 := dkwX3_sheet_3 ++ dktX3_sheet_4
def dkwX3_sheet_2 : List UInt8 := [79, 42, 180, 0, 60, 27, 28, 156, 0, 7, 3, 167, 0, 4, 29, 79, 3, 54, 4, 21, 4, 16, 24]
abbrev dktX3_sheet_2 : List UInt8 := dkwX3_sheet_2 ++ dktX3_sheet_3
def dkwX3_sheet_1 : List UInt8 := [164, 0, 6, 18, 93, 172, 28, 155, 0, 11, 29, 156, 0, 7, 19, 1, 26, 172, 42, 180, 0, 57, 27, 28]
abbrev dktX3_sheet_1 : List UInt8 := dkwX3_sheet_1 ++ dktX3_sheet_2
def dkwX3_sheet_0 : List UInt8 := [27, 184, 0, 167, 153, 0, 22, 28, 2, 4, 184, 0, 85, 153, 0, 13, 28, 155, 0, 12, 29, 16, 24]
abbrev dktX3_sheet_0 : List UInt8 := dkwX3_sheet_0 ++ dktX3_sheet_1
theorem dksX3_sheet_0 : cX3_sheet.data.toList.drop 0 = dktX3_sheet_0 := by decide +kernel
theorem dksX3_sheet_1 : cX3_sheet.data.toList.drop 23 = dktX3_sheet_1 := dk_seg dksX3_sheet_0 23 rfl rfl
theorem dksX3_sheet_2 : cX3_sheet.data.toList.drop 47 = dktX3_sheet_2 := dk_seg dksX3_sheet_1 24 rfl rfl
theorem dksX3_sheet_3 : cX3_sheet.data.toList.drop 70 = dktX3_sheet_3 := dk_seg dksX3_sheet_2 23 rfl rfl
theorem dksX3_sheet_4 : cX3_sheet.data.toList.drop 93 = dktX3_sheet_4 := dk_seg dksX3_sheet_3 23 rfl rfl
theorem dX3_sheet_0 : decode cX3_sheet 0 = .ok (.iload_n 1, 1) := dk_27 (dk_at dksX3_sheet_0 0 rfl rfl)
theorem dX3_sheet_1 : decode cX3_sheet 1 = .ok (.invokestatic 167, 3) := dk_184 0 167 (dk_at dksX3_sheet_0 1 rfl rfl)
theorem dX3_sheet_4 : decode cX3_sheet 4 = .ok (.ifCond .eq 22, 3) := dk_153 0 22 (dk_at dksX3_sheet_0 4 rfl rfl)
theorem dX3_sheet_7 : decode cX3_sheet 7 = .ok (.iload_n 2, 1) := dk_28 (dk_at dksX3_sheet_0 7 rfl rfl)
theorem dX3_sheet_8 : decode cX3_sheet 8 = .ok (.iconst (-1), 1) := dk_2 (dk_at dksX3_sheet_0 8 rfl rfl)
theorem dX3_sheet_9 : decode cX3_sheet 9 = .ok (.iconst 1, 1) := dk_4 (dk_at dksX3_sheet_0 9 rfl rfl)
theorem dX3_sheet_10 : decode cX3_sheet 10 = .ok (.invokestatic 85, 3) := dk_184 0 85 (dk_at dksX3_sheet_0 10 rfl rfl)
theorem dX3_sheet_13 : decode cX3_sheet 13 = .ok (.ifCond .eq 13, 3) := dk_153 0 13 (dk_at dksX3_sheet_0 13 rfl rfl)
theorem dX3_sheet_16 : decode cX3_sheet 16 = .ok (.iload_n 2, 1) := dk_28 (dk_at dksX3_sheet_0 16 rfl rfl)
theorem dX3_sheet_17 : decode cX3_sheet 17 = .ok (.ifCond .lt 12, 3) := dk_155 0 12 (dk_at dksX3_sheet_0 17 rfl rfl)
theorem dX3_sheet_20 : decode cX3_sheet 20 = .ok (.iload_n 3, 1) := dk_29 (dk_at dksX3_sheet_0 20 rfl rfl)
theorem dX3_sheet_21 : decode cX3_sheet 21 = .ok (.bipush 24, 2) := dk_16 24 (dk_at dksX3_sheet_0 21 rfl rfl)
theorem dX3_sheet_23 : decode cX3_sheet 23 = .ok (.if_icmp .le 6, 3) := dk_164 0 6 (dk_at dksX3_sheet_1 0 rfl rfl)
theorem dX3_sheet_26 : decode cX3_sheet 26 = .ok (.ldc 93, 2) := dk_18 93 (dk_at dksX3_sheet_1 3 rfl rfl)
theorem dX3_sheet_28 : decode cX3_sheet 28 = .ok (.ireturn, 1) := dk_172 (dk_at dksX3_sheet_1 5 rfl rfl)
theorem dX3_sheet_29 : decode cX3_sheet 29 = .ok (.iload_n 2, 1) := dk_28 (dk_at dksX3_sheet_1 6 rfl rfl)
theorem dX3_sheet_30 : decode cX3_sheet 30 = .ok (.ifCond .lt 11, 3) := dk_155 0 11 (dk_at dksX3_sheet_1 7 rfl rfl)
theorem dX3_sheet_33 : decode cX3_sheet 33 = .ok (.iload_n 3, 1) := dk_29 (dk_at dksX3_sheet_1 10 rfl rfl)
theorem dX3_sheet_34 : decode cX3_sheet 34 = .ok (.ifCond .ge 7, 3) := dk_156 0 7 (dk_at dksX3_sheet_1 11 rfl rfl)
theorem dX3_sheet_37 : decode cX3_sheet 37 = .ok (.ldc_w 282, 3) := dk_19 1 26 (dk_at dksX3_sheet_1 14 rfl rfl)
theorem dX3_sheet_40 : decode cX3_sheet 40 = .ok (.ireturn, 1) := dk_172 (dk_at dksX3_sheet_1 17 rfl rfl)
theorem dX3_sheet_41 : decode cX3_sheet 41 = .ok (.aload_n 0, 1) := dk_42 (dk_at dksX3_sheet_1 18 rfl rfl)
theorem dX3_sheet_42 : decode cX3_sheet 42 = .ok (.getfield 57, 3) := dk_180 0 57 (dk_at dksX3_sheet_1 19 rfl rfl)
theorem dX3_sheet_45 : decode cX3_sheet 45 = .ok (.iload_n 1, 1) := dk_27 (dk_at dksX3_sheet_1 22 rfl rfl)
theorem dX3_sheet_46 : decode cX3_sheet 46 = .ok (.iload_n 2, 1) := dk_28 (dk_at dksX3_sheet_1 23 rfl rfl)
theorem dX3_sheet_47 : decode cX3_sheet 47 = .ok (.iastore, 1) := dk_79 (dk_at dksX3_sheet_2 0 rfl rfl)
theorem dX3_sheet_48 : decode cX3_sheet 48 = .ok (.aload_n 0, 1) := dk_42 (dk_at dksX3_sheet_2 1 rfl rfl)
theorem dX3_sheet_49 : decode cX3_sheet 49 = .ok (.getfield 60, 3) := dk_180 0 60 (dk_at dksX3_sheet_2 2 rfl rfl)
theorem dX3_sheet_52 : decode cX3_sheet 52 = .ok (.iload_n 1, 1) := dk_27 (dk_at dksX3_sheet_2 5 rfl rfl)
theorem dX3_sheet_53 : decode cX3_sheet 53 = .ok (.iload_n 2, 1) := dk_28 (dk_at dksX3_sheet_2 6 rfl rfl)
theorem dX3_sheet_54 : decode cX3_sheet 54 = .ok (.ifCond .ge 7, 3) := dk_156 0 7 (dk_at dksX3_sheet_2 7 rfl rfl)
theorem dX3_sheet_57 : decode cX3_sheet 57 = .ok (.iconst 0, 1) := dk_3 (dk_at dksX3_sheet_2 10 rfl rfl)
theorem dX3_sheet_58 : decode cX3_sheet 58 = .ok (.goto 4, 3) := dk_167 0 4 (dk_at dksX3_sheet_2 11 rfl rfl)
theorem dX3_sheet_61 : decode cX3_sheet 61 = .ok (.iload_n 3, 1) := dk_29 (dk_at dksX3_sheet_2 14 rfl rfl)
theorem dX3_sheet_62 : decode cX3_sheet 62 = .ok (.iastore, 1) := dk_79 (dk_at dksX3_sheet_2 15 rfl rfl)
theorem dX3_sheet_63 : decode cX3_sheet 63 = .ok (.iconst 0, 1) := dk_3 (dk_at dksX3_sheet_2 16 rfl rfl)
theorem dX3_sheet_64 : decode cX3_sheet 64 = .ok (.istore 4, 2) := dk_54 4 (dk_at dksX3_sheet_2 17 rfl rfl)
theorem dX3_sheet_66 : decode cX3_sheet 66 = .ok (.iload 4, 2) := dk_21 4 (dk_at dksX3_sheet_2 19 rfl rfl)
theorem dX3_sheet_68 : decode cX3_sheet 68 = .ok (.bipush 24, 2) := dk_16 24 (dk_at dksX3_sheet_2 21 rfl rfl)
theorem dX3_sheet_70 : decode cX3_sheet 70 = .ok (.if_icmp .ge 22, 3) := dk_162 0 22 (dk_at dksX3_sheet_3 0 rfl rfl)
theorem dX3_sheet_73 : decode cX3_sheet 73 = .ok (.aload_n 0, 1) := dk_42 (dk_at dksX3_sheet_3 3 rfl rfl)
theorem dX3_sheet_74 : decode cX3_sheet 74 = .ok (.getfield 63, 3) := dk_180 0 63 (dk_at dksX3_sheet_3 4 rfl rfl)
theorem dX3_sheet_77 : decode cX3_sheet 77 = .ok (.bipush 24, 2) := dk_16 24 (dk_at dksX3_sheet_3 7 rfl rfl)
theorem dX3_sheet_79 : decode cX3_sheet 79 = .ok (.iload_n 1, 1) := dk_27 (dk_at dksX3_sheet_3 9 rfl rfl)
theorem dX3_sheet_80 : decode cX3_sheet 80 = .ok (.imul, 1) := dk_104 (dk_at dksX3_sheet_3 10 rfl rfl)
theorem dX3_sheet_81 : decode cX3_sheet 81 = .ok (.iload 4, 2) := dk_21 4 (dk_at dksX3_sheet_3 11 rfl rfl)
theorem dX3_sheet_83 : decode cX3_sheet 83 = .ok (.iadd, 1) := dk_96 (dk_at dksX3_sheet_3 13 rfl rfl)
theorem dX3_sheet_84 : decode cX3_sheet 84 = .ok (.iconst 0, 1) := dk_3 (dk_at dksX3_sheet_3 14 rfl rfl)
theorem dX3_sheet_85 : decode cX3_sheet 85 = .ok (.iastore, 1) := dk_79 (dk_at dksX3_sheet_3 15 rfl rfl)
theorem dX3_sheet_86 : decode cX3_sheet 86 = .ok (.iinc 4 1, 3) := dk_132 4 1 (dk_at dksX3_sheet_3 16 rfl rfl)
theorem dX3_sheet_89 : decode cX3_sheet 89 = .ok (.goto (-23), 3) := dk_167 255 233 (dk_at dksX3_sheet_3 19 rfl rfl)
theorem dX3_sheet_92 : decode cX3_sheet 92 = .ok (.aload_n 0, 1) := dk_42 (dk_at dksX3_sheet_3 22 rfl rfl)
theorem dX3_sheet_93 : decode cX3_sheet 93 = .ok (.getfield 60, 3) := dk_180 0 60 (dk_at dksX3_sheet_4 0 rfl rfl)
theorem dX3_sheet_96 : decode cX3_sheet 96 = .ok (.iload_n 1, 1) := dk_27 (dk_at dksX3_sheet_4 3 rfl rfl)
theorem dX3_sheet_97 : decode cX3_sheet 97 = .ok (.iaload, 1) := dk_46 (dk_at dksX3_sheet_4 4 rfl rfl)
theorem dX3_sheet_98 : decode cX3_sheet 98 = .ok (.ireturn, 1) := dk_172 (dk_at dksX3_sheet_4 5 rfl rfl)
abbrev cX3_mark : ByteArray := prog_22_method_82_code
def yX3_mark : MethodName := ⟨RX3, "mark", "(III)I"⟩
def dkwX3_mark_5 : List UInt8 := [79, 4, 172]
abbrev dktX3_mark_5 : List UInt8 := dkwX3_mark_5 ++ []
def dkwX3_mark_4 : List UInt8 := [180, 0, 63, 16, 24, 27, 104, 28, 96, 42, 180, 0, 57, 27, 46, 154, 0, 8, 29, 147, 167, 0, 4, 29]
abbrev dktX3_mark_4 : List UInt8 := dkwX3_mark_4 ++ dktX3_mark_5
def dkwX3_mark_3 : List UInt8 := [18, 84, 159, 0, 19, 29, 19, 1, 28, 19, 1, 29, 184, 0, 85, 154, 0, 6, 18, 93, 172, 42]
abbrev dktX3_mark_3 : List UInt8 := dkwX3_mark_3 ++ dktX3_mark_4
def dkwX3_mark_2 : List UInt8 := [154, 0, 12, 29, 18, 84, 160, 0, 6, 18, 115, 172, 42, 180, 0, 57, 27, 46, 4, 160, 0, 25, 29]
abbrev dktX3_mark_2 : List UInt8 := dkwX3_mark_2 ++ dktX3_mark_3
def dkwX3_mark_1 : List UInt8 := [42, 180, 0, 60, 27, 46, 4, 100, 184, 0, 85, 154, 0, 7, 19, 1, 27, 172, 42, 180, 0, 57, 27, 46]
abbrev dktX3_mark_1 : List UInt8 := dkwX3_mark_1 ++ dktX3_mark_2
def dkwX3_mark_0 : List UInt8 := [27, 184, 0, 167, 154, 0, 6, 18, 93, 172, 42, 180, 0, 57, 27, 46, 156, 0, 6, 18, 170, 172, 28, 3]
abbrev dktX3_mark_0 : List UInt8 := dkwX3_mark_0 ++ dktX3_mark_1
theorem dksX3_mark_0 : cX3_mark.data.toList.drop 0 = dktX3_mark_0 := by decide +kernel
theorem dksX3_mark_1 : cX3_mark.data.toList.drop 24 = dktX3_mark_1 := dk_seg dksX3_mark_0 24 rfl rfl
theorem dksX3_mark_2 : cX3_mark.data.toList.drop 48 = dktX3_mark_2 := dk_seg dksX3_mark_1 24 rfl rfl
theorem dksX3_mark_3 : cX3_mark.data.toList.drop 71 = dktX3_mark_3 := dk_seg dksX3_mark_2 23 rfl rfl
theorem dksX3_mark_4 : cX3_mark.data.toList.drop 93 = dktX3_mark_4 := dk_seg dksX3_mark_3 22 rfl rfl
theorem dksX3_mark_5 : cX3_mark.data.toList.drop 117 = dktX3_mark_5 := dk_seg dksX3_mark_4 24 rfl rfl
theorem dX3_mark_0 : decode cX3_mark 0 = .ok (.iload_n 1, 1) := dk_27 (dk_at dksX3_mark_0 0 rfl rfl)
theorem dX3_mark_1 : decode cX3_mark 1 = .ok (.invokestatic 167, 3) := dk_184 0 167 (dk_at dksX3_mark_0 1 rfl rfl)
theorem dX3_mark_4 : decode cX3_mark 4 = .ok (.ifCond .ne 6, 3) := dk_154 0 6 (dk_at dksX3_mark_0 4 rfl rfl)
theorem dX3_mark_7 : decode cX3_mark 7 = .ok (.ldc 93, 2) := dk_18 93 (dk_at dksX3_mark_0 7 rfl rfl)
theorem dX3_mark_9 : decode cX3_mark 9 = .ok (.ireturn, 1) := dk_172 (dk_at dksX3_mark_0 9 rfl rfl)
theorem dX3_mark_10 : decode cX3_mark 10 = .ok (.aload_n 0, 1) := dk_42 (dk_at dksX3_mark_0 10 rfl rfl)
theorem dX3_mark_11 : decode cX3_mark 11 = .ok (.getfield 57, 3) := dk_180 0 57 (dk_at dksX3_mark_0 11 rfl rfl)
theorem dX3_mark_14 : decode cX3_mark 14 = .ok (.iload_n 1, 1) := dk_27 (dk_at dksX3_mark_0 14 rfl rfl)
theorem dX3_mark_15 : decode cX3_mark 15 = .ok (.iaload, 1) := dk_46 (dk_at dksX3_mark_0 15 rfl rfl)
theorem dX3_mark_16 : decode cX3_mark 16 = .ok (.ifCond .ge 6, 3) := dk_156 0 6 (dk_at dksX3_mark_0 16 rfl rfl)
theorem dX3_mark_19 : decode cX3_mark 19 = .ok (.ldc 170, 2) := dk_18 170 (dk_at dksX3_mark_0 19 rfl rfl)
theorem dX3_mark_21 : decode cX3_mark 21 = .ok (.ireturn, 1) := dk_172 (dk_at dksX3_mark_0 21 rfl rfl)
theorem dX3_mark_22 : decode cX3_mark 22 = .ok (.iload_n 2, 1) := dk_28 (dk_at dksX3_mark_0 22 rfl rfl)
theorem dX3_mark_23 : decode cX3_mark 23 = .ok (.iconst 0, 1) := dk_3 (dk_at dksX3_mark_0 23 rfl rfl)
theorem dX3_mark_24 : decode cX3_mark 24 = .ok (.aload_n 0, 1) := dk_42 (dk_at dksX3_mark_1 0 rfl rfl)
theorem dX3_mark_25 : decode cX3_mark 25 = .ok (.getfield 60, 3) := dk_180 0 60 (dk_at dksX3_mark_1 1 rfl rfl)
theorem dX3_mark_28 : decode cX3_mark 28 = .ok (.iload_n 1, 1) := dk_27 (dk_at dksX3_mark_1 4 rfl rfl)
theorem dX3_mark_29 : decode cX3_mark 29 = .ok (.iaload, 1) := dk_46 (dk_at dksX3_mark_1 5 rfl rfl)
theorem dX3_mark_30 : decode cX3_mark 30 = .ok (.iconst 1, 1) := dk_4 (dk_at dksX3_mark_1 6 rfl rfl)
theorem dX3_mark_31 : decode cX3_mark 31 = .ok (.isub, 1) := dk_100 (dk_at dksX3_mark_1 7 rfl rfl)
theorem dX3_mark_32 : decode cX3_mark 32 = .ok (.invokestatic 85, 3) := dk_184 0 85 (dk_at dksX3_mark_1 8 rfl rfl)
theorem dX3_mark_35 : decode cX3_mark 35 = .ok (.ifCond .ne 7, 3) := dk_154 0 7 (dk_at dksX3_mark_1 11 rfl rfl)
theorem dX3_mark_38 : decode cX3_mark 38 = .ok (.ldc_w 283, 3) := dk_19 1 27 (dk_at dksX3_mark_1 14 rfl rfl)
theorem dX3_mark_41 : decode cX3_mark 41 = .ok (.ireturn, 1) := dk_172 (dk_at dksX3_mark_1 17 rfl rfl)
theorem dX3_mark_42 : decode cX3_mark 42 = .ok (.aload_n 0, 1) := dk_42 (dk_at dksX3_mark_1 18 rfl rfl)
theorem dX3_mark_43 : decode cX3_mark 43 = .ok (.getfield 57, 3) := dk_180 0 57 (dk_at dksX3_mark_1 19 rfl rfl)
theorem dX3_mark_46 : decode cX3_mark 46 = .ok (.iload_n 1, 1) := dk_27 (dk_at dksX3_mark_1 22 rfl rfl)
theorem dX3_mark_47 : decode cX3_mark 47 = .ok (.iaload, 1) := dk_46 (dk_at dksX3_mark_1 23 rfl rfl)
theorem dX3_mark_48 : decode cX3_mark 48 = .ok (.ifCond .ne 12, 3) := dk_154 0 12 (dk_at dksX3_mark_2 0 rfl rfl)
theorem dX3_mark_51 : decode cX3_mark 51 = .ok (.iload_n 3, 1) := dk_29 (dk_at dksX3_mark_2 3 rfl rfl)
theorem dX3_mark_52 : decode cX3_mark 52 = .ok (.ldc 84, 2) := dk_18 84 (dk_at dksX3_mark_2 4 rfl rfl)
theorem dX3_mark_54 : decode cX3_mark 54 = .ok (.if_icmp .ne 6, 3) := dk_160 0 6 (dk_at dksX3_mark_2 6 rfl rfl)
theorem dX3_mark_57 : decode cX3_mark 57 = .ok (.ldc 115, 2) := dk_18 115 (dk_at dksX3_mark_2 9 rfl rfl)
theorem dX3_mark_59 : decode cX3_mark 59 = .ok (.ireturn, 1) := dk_172 (dk_at dksX3_mark_2 11 rfl rfl)
theorem dX3_mark_60 : decode cX3_mark 60 = .ok (.aload_n 0, 1) := dk_42 (dk_at dksX3_mark_2 12 rfl rfl)
theorem dX3_mark_61 : decode cX3_mark 61 = .ok (.getfield 57, 3) := dk_180 0 57 (dk_at dksX3_mark_2 13 rfl rfl)
theorem dX3_mark_64 : decode cX3_mark 64 = .ok (.iload_n 1, 1) := dk_27 (dk_at dksX3_mark_2 16 rfl rfl)
theorem dX3_mark_65 : decode cX3_mark 65 = .ok (.iaload, 1) := dk_46 (dk_at dksX3_mark_2 17 rfl rfl)
theorem dX3_mark_66 : decode cX3_mark 66 = .ok (.iconst 1, 1) := dk_4 (dk_at dksX3_mark_2 18 rfl rfl)
theorem dX3_mark_67 : decode cX3_mark 67 = .ok (.if_icmp .ne 25, 3) := dk_160 0 25 (dk_at dksX3_mark_2 19 rfl rfl)
theorem dX3_mark_70 : decode cX3_mark 70 = .ok (.iload_n 3, 1) := dk_29 (dk_at dksX3_mark_2 22 rfl rfl)
theorem dX3_mark_71 : decode cX3_mark 71 = .ok (.ldc 84, 2) := dk_18 84 (dk_at dksX3_mark_3 0 rfl rfl)
theorem dX3_mark_73 : decode cX3_mark 73 = .ok (.if_icmp .eq 19, 3) := dk_159 0 19 (dk_at dksX3_mark_3 2 rfl rfl)
theorem dX3_mark_76 : decode cX3_mark 76 = .ok (.iload_n 3, 1) := dk_29 (dk_at dksX3_mark_3 5 rfl rfl)
theorem dX3_mark_77 : decode cX3_mark 77 = .ok (.ldc_w 284, 3) := dk_19 1 28 (dk_at dksX3_mark_3 6 rfl rfl)
theorem dX3_mark_80 : decode cX3_mark 80 = .ok (.ldc_w 285, 3) := dk_19 1 29 (dk_at dksX3_mark_3 9 rfl rfl)
theorem dX3_mark_83 : decode cX3_mark 83 = .ok (.invokestatic 85, 3) := dk_184 0 85 (dk_at dksX3_mark_3 12 rfl rfl)
theorem dX3_mark_86 : decode cX3_mark 86 = .ok (.ifCond .ne 6, 3) := dk_154 0 6 (dk_at dksX3_mark_3 15 rfl rfl)
theorem dX3_mark_89 : decode cX3_mark 89 = .ok (.ldc 93, 2) := dk_18 93 (dk_at dksX3_mark_3 18 rfl rfl)
theorem dX3_mark_91 : decode cX3_mark 91 = .ok (.ireturn, 1) := dk_172 (dk_at dksX3_mark_3 20 rfl rfl)
theorem dX3_mark_92 : decode cX3_mark 92 = .ok (.aload_n 0, 1) := dk_42 (dk_at dksX3_mark_3 21 rfl rfl)
theorem dX3_mark_93 : decode cX3_mark 93 = .ok (.getfield 63, 3) := dk_180 0 63 (dk_at dksX3_mark_4 0 rfl rfl)
theorem dX3_mark_96 : decode cX3_mark 96 = .ok (.bipush 24, 2) := dk_16 24 (dk_at dksX3_mark_4 3 rfl rfl)
theorem dX3_mark_98 : decode cX3_mark 98 = .ok (.iload_n 1, 1) := dk_27 (dk_at dksX3_mark_4 5 rfl rfl)
theorem dX3_mark_99 : decode cX3_mark 99 = .ok (.imul, 1) := dk_104 (dk_at dksX3_mark_4 6 rfl rfl)
theorem dX3_mark_100 : decode cX3_mark 100 = .ok (.iload_n 2, 1) := dk_28 (dk_at dksX3_mark_4 7 rfl rfl)
theorem dX3_mark_101 : decode cX3_mark 101 = .ok (.iadd, 1) := dk_96 (dk_at dksX3_mark_4 8 rfl rfl)
theorem dX3_mark_102 : decode cX3_mark 102 = .ok (.aload_n 0, 1) := dk_42 (dk_at dksX3_mark_4 9 rfl rfl)
theorem dX3_mark_103 : decode cX3_mark 103 = .ok (.getfield 57, 3) := dk_180 0 57 (dk_at dksX3_mark_4 10 rfl rfl)
theorem dX3_mark_106 : decode cX3_mark 106 = .ok (.iload_n 1, 1) := dk_27 (dk_at dksX3_mark_4 13 rfl rfl)
theorem dX3_mark_107 : decode cX3_mark 107 = .ok (.iaload, 1) := dk_46 (dk_at dksX3_mark_4 14 rfl rfl)
theorem dX3_mark_108 : decode cX3_mark 108 = .ok (.ifCond .ne 8, 3) := dk_154 0 8 (dk_at dksX3_mark_4 15 rfl rfl)
theorem dX3_mark_111 : decode cX3_mark 111 = .ok (.iload_n 3, 1) := dk_29 (dk_at dksX3_mark_4 18 rfl rfl)
theorem dX3_mark_112 : decode cX3_mark 112 = .ok (.i2s, 1) := dk_147 (dk_at dksX3_mark_4 19 rfl rfl)
theorem dX3_mark_113 : decode cX3_mark 113 = .ok (.goto 4, 3) := dk_167 0 4 (dk_at dksX3_mark_4 20 rfl rfl)
theorem dX3_mark_116 : decode cX3_mark 116 = .ok (.iload_n 3, 1) := dk_29 (dk_at dksX3_mark_4 23 rfl rfl)
theorem dX3_mark_117 : decode cX3_mark 117 = .ok (.iastore, 1) := dk_79 (dk_at dksX3_mark_5 0 rfl rfl)
theorem dX3_mark_118 : decode cX3_mark 118 = .ok (.iconst 1, 1) := dk_4 (dk_at dksX3_mark_5 1 rfl rfl)
theorem dX3_mark_119 : decode cX3_mark 119 = .ok (.ireturn, 1) := dk_172 (dk_at dksX3_mark_5 2 rfl rfl)
abbrev cX3_pour : ByteArray := prog_22_method_83_code
def yX3_pour : MethodName := ⟨RX3, "pour", "(I)I"⟩
def dkwX3_pour_5 : List UInt8 := [167, 255, 166, 28, 172]
abbrev dktX3_pour_5 : List UInt8 := dkwX3_pour_5 ++ []
def dkwX3_pour_4 : List UInt8 := [96, 6, 96, 21, 5, 182, 0, 116, 21, 5, 160, 0, 7, 3, 167, 0, 4, 4, 96, 61, 132, 3, 1]
abbrev dktX3_pour_4 : List UInt8 := dkwX3_pour_4 ++ dktX3_pour_5
def dkwX3_pour_3 : List UInt8 := [182, 0, 99, 167, 0, 11, 21, 4, 3, 16, 99, 184, 0, 128, 54, 5, 28, 42, 16, 16, 16, 6, 29, 104]
abbrev dktX3_pour_3 : List UInt8 := dkwX3_pour_3 ++ dktX3_pour_4
def dkwX3_pour_2 : List UInt8 := [180, 0, 63, 16, 24, 27, 104, 29, 96, 46, 54, 4, 21, 4, 18, 84, 160, 0, 12, 42, 29, 6]
abbrev dktX3_pour_2 : List UInt8 := dkwX3_pour_2 ++ dktX3_pour_3
def dkwX3_pour_1 : List UInt8 := [3, 62, 29, 42, 180, 0, 60, 27, 46, 162, 0, 86, 29, 42, 180, 0, 9, 4, 46, 162, 0, 76, 42]
abbrev dktX3_pour_1 : List UInt8 := dkwX3_pour_1 ++ dktX3_pour_2
def dkwX3_pour_0 : List UInt8 := [27, 184, 0, 167, 154, 0, 6, 18, 93, 172, 42, 180, 0, 57, 27, 46, 156, 0, 6, 18, 170, 172, 3, 61]
abbrev dktX3_pour_0 : List UInt8 := dkwX3_pour_0 ++ dktX3_pour_1
theorem dksX3_pour_0 : cX3_pour.data.toList.drop 0 = dktX3_pour_0 := by decide +kernel
theorem dksX3_pour_1 : cX3_pour.data.toList.drop 24 = dktX3_pour_1 := dk_seg dksX3_pour_0 24 rfl rfl
theorem dksX3_pour_2 : cX3_pour.data.toList.drop 47 = dktX3_pour_2 := dk_seg dksX3_pour_1 23 rfl rfl
theorem dksX3_pour_3 : cX3_pour.data.toList.drop 69 = dktX3_pour_3 := dk_seg dksX3_pour_2 22 rfl rfl
theorem dksX3_pour_4 : cX3_pour.data.toList.drop 93 = dktX3_pour_4 := dk_seg dksX3_pour_3 24 rfl rfl
theorem dksX3_pour_5 : cX3_pour.data.toList.drop 116 = dktX3_pour_5 := dk_seg dksX3_pour_4 23 rfl rfl
theorem dX3_pour_0 : decode cX3_pour 0 = .ok (.iload_n 1, 1) := dk_27 (dk_at dksX3_pour_0 0 rfl rfl)
theorem dX3_pour_1 : decode cX3_pour 1 = .ok (.invokestatic 167, 3) := dk_184 0 167 (dk_at dksX3_pour_0 1 rfl rfl)
theorem dX3_pour_4 : decode cX3_pour 4 = .ok (.ifCond .ne 6, 3) := dk_154 0 6 (dk_at dksX3_pour_0 4 rfl rfl)
theorem dX3_pour_7 : decode cX3_pour 7 = .ok (.ldc 93, 2) := dk_18 93 (dk_at dksX3_pour_0 7 rfl rfl)
theorem dX3_pour_9 : decode cX3_pour 9 = .ok (.ireturn, 1) := dk_172 (dk_at dksX3_pour_0 9 rfl rfl)
theorem dX3_pour_10 : decode cX3_pour 10 = .ok (.aload_n 0, 1) := dk_42 (dk_at dksX3_pour_0 10 rfl rfl)
theorem dX3_pour_11 : decode cX3_pour 11 = .ok (.getfield 57, 3) := dk_180 0 57 (dk_at dksX3_pour_0 11 rfl rfl)
theorem dX3_pour_14 : decode cX3_pour 14 = .ok (.iload_n 1, 1) := dk_27 (dk_at dksX3_pour_0 14 rfl rfl)
theorem dX3_pour_15 : decode cX3_pour 15 = .ok (.iaload, 1) := dk_46 (dk_at dksX3_pour_0 15 rfl rfl)
theorem dX3_pour_16 : decode cX3_pour 16 = .ok (.ifCond .ge 6, 3) := dk_156 0 6 (dk_at dksX3_pour_0 16 rfl rfl)
theorem dX3_pour_19 : decode cX3_pour 19 = .ok (.ldc 170, 2) := dk_18 170 (dk_at dksX3_pour_0 19 rfl rfl)
theorem dX3_pour_21 : decode cX3_pour 21 = .ok (.ireturn, 1) := dk_172 (dk_at dksX3_pour_0 21 rfl rfl)
theorem dX3_pour_22 : decode cX3_pour 22 = .ok (.iconst 0, 1) := dk_3 (dk_at dksX3_pour_0 22 rfl rfl)
theorem dX3_pour_23 : decode cX3_pour 23 = .ok (.istore_n 2, 1) := dk_61 (dk_at dksX3_pour_0 23 rfl rfl)
theorem dX3_pour_24 : decode cX3_pour 24 = .ok (.iconst 0, 1) := dk_3 (dk_at dksX3_pour_1 0 rfl rfl)
theorem dX3_pour_25 : decode cX3_pour 25 = .ok (.istore_n 3, 1) := dk_62 (dk_at dksX3_pour_1 1 rfl rfl)
theorem dX3_pour_26 : decode cX3_pour 26 = .ok (.iload_n 3, 1) := dk_29 (dk_at dksX3_pour_1 2 rfl rfl)
theorem dX3_pour_27 : decode cX3_pour 27 = .ok (.aload_n 0, 1) := dk_42 (dk_at dksX3_pour_1 3 rfl rfl)
theorem dX3_pour_28 : decode cX3_pour 28 = .ok (.getfield 60, 3) := dk_180 0 60 (dk_at dksX3_pour_1 4 rfl rfl)
theorem dX3_pour_31 : decode cX3_pour 31 = .ok (.iload_n 1, 1) := dk_27 (dk_at dksX3_pour_1 7 rfl rfl)
theorem dX3_pour_32 : decode cX3_pour 32 = .ok (.iaload, 1) := dk_46 (dk_at dksX3_pour_1 8 rfl rfl)
theorem dX3_pour_33 : decode cX3_pour 33 = .ok (.if_icmp .ge 86, 3) := dk_162 0 86 (dk_at dksX3_pour_1 9 rfl rfl)
theorem dX3_pour_36 : decode cX3_pour 36 = .ok (.iload_n 3, 1) := dk_29 (dk_at dksX3_pour_1 12 rfl rfl)
theorem dX3_pour_37 : decode cX3_pour 37 = .ok (.aload_n 0, 1) := dk_42 (dk_at dksX3_pour_1 13 rfl rfl)
theorem dX3_pour_38 : decode cX3_pour 38 = .ok (.getfield 9, 3) := dk_180 0 9 (dk_at dksX3_pour_1 14 rfl rfl)
theorem dX3_pour_41 : decode cX3_pour 41 = .ok (.iconst 1, 1) := dk_4 (dk_at dksX3_pour_1 17 rfl rfl)
theorem dX3_pour_42 : decode cX3_pour 42 = .ok (.iaload, 1) := dk_46 (dk_at dksX3_pour_1 18 rfl rfl)
theorem dX3_pour_43 : decode cX3_pour 43 = .ok (.if_icmp .ge 76, 3) := dk_162 0 76 (dk_at dksX3_pour_1 19 rfl rfl)
theorem dX3_pour_46 : decode cX3_pour 46 = .ok (.aload_n 0, 1) := dk_42 (dk_at dksX3_pour_1 22 rfl rfl)
theorem dX3_pour_47 : decode cX3_pour 47 = .ok (.getfield 63, 3) := dk_180 0 63 (dk_at dksX3_pour_2 0 rfl rfl)
theorem dX3_pour_50 : decode cX3_pour 50 = .ok (.bipush 24, 2) := dk_16 24 (dk_at dksX3_pour_2 3 rfl rfl)
theorem dX3_pour_52 : decode cX3_pour 52 = .ok (.iload_n 1, 1) := dk_27 (dk_at dksX3_pour_2 5 rfl rfl)
theorem dX3_pour_53 : decode cX3_pour 53 = .ok (.imul, 1) := dk_104 (dk_at dksX3_pour_2 6 rfl rfl)
theorem dX3_pour_54 : decode cX3_pour 54 = .ok (.iload_n 3, 1) := dk_29 (dk_at dksX3_pour_2 7 rfl rfl)
theorem dX3_pour_55 : decode cX3_pour 55 = .ok (.iadd, 1) := dk_96 (dk_at dksX3_pour_2 8 rfl rfl)
theorem dX3_pour_56 : decode cX3_pour 56 = .ok (.iaload, 1) := dk_46 (dk_at dksX3_pour_2 9 rfl rfl)
theorem dX3_pour_57 : decode cX3_pour 57 = .ok (.istore 4, 2) := dk_54 4 (dk_at dksX3_pour_2 10 rfl rfl)
theorem dX3_pour_59 : decode cX3_pour 59 = .ok (.iload 4, 2) := dk_21 4 (dk_at dksX3_pour_2 12 rfl rfl)
theorem dX3_pour_61 : decode cX3_pour 61 = .ok (.ldc 84, 2) := dk_18 84 (dk_at dksX3_pour_2 14 rfl rfl)
theorem dX3_pour_63 : decode cX3_pour 63 = .ok (.if_icmp .ne 12, 3) := dk_160 0 12 (dk_at dksX3_pour_2 16 rfl rfl)
theorem dX3_pour_66 : decode cX3_pour 66 = .ok (.aload_n 0, 1) := dk_42 (dk_at dksX3_pour_2 19 rfl rfl)
theorem dX3_pour_67 : decode cX3_pour 67 = .ok (.iload_n 3, 1) := dk_29 (dk_at dksX3_pour_2 20 rfl rfl)
theorem dX3_pour_68 : decode cX3_pour 68 = .ok (.iconst 3, 1) := dk_6 (dk_at dksX3_pour_2 21 rfl rfl)
theorem dX3_pour_69 : decode cX3_pour 69 = .ok (.invokevirtual 99, 3) := dk_182 0 99 (dk_at dksX3_pour_3 0 rfl rfl)
theorem dX3_pour_72 : decode cX3_pour 72 = .ok (.goto 11, 3) := dk_167 0 11 (dk_at dksX3_pour_3 3 rfl rfl)
theorem dX3_pour_75 : decode cX3_pour 75 = .ok (.iload 4, 2) := dk_21 4 (dk_at dksX3_pour_3 6 rfl rfl)
theorem dX3_pour_77 : decode cX3_pour 77 = .ok (.iconst 0, 1) := dk_3 (dk_at dksX3_pour_3 8 rfl rfl)
theorem dX3_pour_78 : decode cX3_pour 78 = .ok (.bipush 99, 2) := dk_16 99 (dk_at dksX3_pour_3 9 rfl rfl)
theorem dX3_pour_80 : decode cX3_pour 80 = .ok (.invokestatic 128, 3) := dk_184 0 128 (dk_at dksX3_pour_3 11 rfl rfl)
theorem dX3_pour_83 : decode cX3_pour 83 = .ok (.istore 5, 2) := dk_54 5 (dk_at dksX3_pour_3 14 rfl rfl)
theorem dX3_pour_85 : decode cX3_pour 85 = .ok (.iload_n 2, 1) := dk_28 (dk_at dksX3_pour_3 16 rfl rfl)
theorem dX3_pour_86 : decode cX3_pour 86 = .ok (.aload_n 0, 1) := dk_42 (dk_at dksX3_pour_3 17 rfl rfl)
theorem dX3_pour_87 : decode cX3_pour 87 = .ok (.bipush 16, 2) := dk_16 16 (dk_at dksX3_pour_3 18 rfl rfl)
theorem dX3_pour_89 : decode cX3_pour 89 = .ok (.bipush 6, 2) := dk_16 6 (dk_at dksX3_pour_3 20 rfl rfl)
theorem dX3_pour_91 : decode cX3_pour 91 = .ok (.iload_n 3, 1) := dk_29 (dk_at dksX3_pour_3 22 rfl rfl)
theorem dX3_pour_92 : decode cX3_pour 92 = .ok (.imul, 1) := dk_104 (dk_at dksX3_pour_3 23 rfl rfl)
theorem dX3_pour_93 : decode cX3_pour 93 = .ok (.iadd, 1) := dk_96 (dk_at dksX3_pour_4 0 rfl rfl)
theorem dX3_pour_94 : decode cX3_pour 94 = .ok (.iconst 3, 1) := dk_6 (dk_at dksX3_pour_4 1 rfl rfl)
theorem dX3_pour_95 : decode cX3_pour 95 = .ok (.iadd, 1) := dk_96 (dk_at dksX3_pour_4 2 rfl rfl)
theorem dX3_pour_96 : decode cX3_pour 96 = .ok (.iload 5, 2) := dk_21 5 (dk_at dksX3_pour_4 3 rfl rfl)
theorem dX3_pour_98 : decode cX3_pour 98 = .ok (.invokevirtual 116, 3) := dk_182 0 116 (dk_at dksX3_pour_4 5 rfl rfl)
theorem dX3_pour_101 : decode cX3_pour 101 = .ok (.iload 5, 2) := dk_21 5 (dk_at dksX3_pour_4 8 rfl rfl)
theorem dX3_pour_103 : decode cX3_pour 103 = .ok (.if_icmp .ne 7, 3) := dk_160 0 7 (dk_at dksX3_pour_4 10 rfl rfl)
theorem dX3_pour_106 : decode cX3_pour 106 = .ok (.iconst 0, 1) := dk_3 (dk_at dksX3_pour_4 13 rfl rfl)
theorem dX3_pour_107 : decode cX3_pour 107 = .ok (.goto 4, 3) := dk_167 0 4 (dk_at dksX3_pour_4 14 rfl rfl)
theorem dX3_pour_110 : decode cX3_pour 110 = .ok (.iconst 1, 1) := dk_4 (dk_at dksX3_pour_4 17 rfl rfl)
theorem dX3_pour_111 : decode cX3_pour 111 = .ok (.iadd, 1) := dk_96 (dk_at dksX3_pour_4 18 rfl rfl)
theorem dX3_pour_112 : decode cX3_pour 112 = .ok (.istore_n 2, 1) := dk_61 (dk_at dksX3_pour_4 19 rfl rfl)
theorem dX3_pour_113 : decode cX3_pour 113 = .ok (.iinc 3 1, 3) := dk_132 3 1 (dk_at dksX3_pour_4 20 rfl rfl)
theorem dX3_pour_116 : decode cX3_pour 116 = .ok (.goto (-90), 3) := dk_167 255 166 (dk_at dksX3_pour_5 0 rfl rfl)
theorem dX3_pour_119 : decode cX3_pour 119 = .ok (.iload_n 2, 1) := dk_28 (dk_at dksX3_pour_5 3 rfl rfl)
theorem dX3_pour_120 : decode cX3_pour 120 = .ok (.ireturn, 1) := dk_172 (dk_at dksX3_pour_5 4 rfl rfl)
abbrev cX3_reads : ByteArray := prog_22_method_84_code
def yX3_reads : MethodName := ⟨RX3, "reads", "(I)I"⟩
def dkwX3_reads_3 : List UInt8 := [172, 132, 2, 1, 167, 255, 205, 18, 84, 172]
abbrev dktX3_reads_3 : List UInt8 := dkwX3_reads_3 ++ []
def dkwX3_reads_2 : List UInt8 := [18, 84, 159, 0, 23, 42, 28, 182, 0, 103, 153, 0, 13, 29, 42, 28, 7, 182, 0, 99, 159, 0, 5, 28]
abbrev dktX3_reads_2 : List UInt8 := dkwX3_reads_2 ++ dktX3_reads_3
def dkwX3_reads_1 : List UInt8 := [28, 42, 180, 0, 60, 27, 46, 162, 0, 47, 42, 180, 0, 63, 16, 24, 27, 104, 28, 96, 46, 62, 29]
abbrev dktX3_reads_1 : List UInt8 := dkwX3_reads_1 ++ dktX3_reads_2
def dkwX3_reads_0 : List UInt8 := [27, 184, 0, 167, 154, 0, 6, 18, 93, 172, 42, 180, 0, 57, 27, 46, 156, 0, 6, 18, 170, 172, 3, 61]
abbrev dktX3_reads_0 : List UInt8 := dkwX3_reads_0 ++ dktX3_reads_1
theorem dksX3_reads_0 : cX3_reads.data.toList.drop 0 = dktX3_reads_0 := by decide +kernel
theorem dksX3_reads_1 : cX3_reads.data.toList.drop 24 = dktX3_reads_1 := dk_seg dksX3_reads_0 24 rfl rfl
theorem dksX3_reads_2 : cX3_reads.data.toList.drop 47 = dktX3_reads_2 := dk_seg dksX3_reads_1 23 rfl rfl
theorem dksX3_reads_3 : cX3_reads.data.toList.drop 71 = dktX3_reads_3 := dk_seg dksX3_reads_2 24 rfl rfl
theorem dX3_reads_0 : decode cX3_reads 0 = .ok (.iload_n 1, 1) := dk_27 (dk_at dksX3_reads_0 0 rfl rfl)
theorem dX3_reads_1 : decode cX3_reads 1 = .ok (.invokestatic 167, 3) := dk_184 0 167 (dk_at dksX3_reads_0 1 rfl rfl)
theorem dX3_reads_4 : decode cX3_reads 4 = .ok (.ifCond .ne 6, 3) := dk_154 0 6 (dk_at dksX3_reads_0 4 rfl rfl)
theorem dX3_reads_7 : decode cX3_reads 7 = .ok (.ldc 93, 2) := dk_18 93 (dk_at dksX3_reads_0 7 rfl rfl)
theorem dX3_reads_9 : decode cX3_reads 9 = .ok (.ireturn, 1) := dk_172 (dk_at dksX3_reads_0 9 rfl rfl)
theorem dX3_reads_10 : decode cX3_reads 10 = .ok (.aload_n 0, 1) := dk_42 (dk_at dksX3_reads_0 10 rfl rfl)
theorem dX3_reads_11 : decode cX3_reads 11 = .ok (.getfield 57, 3) := dk_180 0 57 (dk_at dksX3_reads_0 11 rfl rfl)
theorem dX3_reads_14 : decode cX3_reads 14 = .ok (.iload_n 1, 1) := dk_27 (dk_at dksX3_reads_0 14 rfl rfl)
theorem dX3_reads_15 : decode cX3_reads 15 = .ok (.iaload, 1) := dk_46 (dk_at dksX3_reads_0 15 rfl rfl)
theorem dX3_reads_16 : decode cX3_reads 16 = .ok (.ifCond .ge 6, 3) := dk_156 0 6 (dk_at dksX3_reads_0 16 rfl rfl)
theorem dX3_reads_19 : decode cX3_reads 19 = .ok (.ldc 170, 2) := dk_18 170 (dk_at dksX3_reads_0 19 rfl rfl)
theorem dX3_reads_21 : decode cX3_reads 21 = .ok (.ireturn, 1) := dk_172 (dk_at dksX3_reads_0 21 rfl rfl)
theorem dX3_reads_22 : decode cX3_reads 22 = .ok (.iconst 0, 1) := dk_3 (dk_at dksX3_reads_0 22 rfl rfl)
theorem dX3_reads_23 : decode cX3_reads 23 = .ok (.istore_n 2, 1) := dk_61 (dk_at dksX3_reads_0 23 rfl rfl)
theorem dX3_reads_24 : decode cX3_reads 24 = .ok (.iload_n 2, 1) := dk_28 (dk_at dksX3_reads_1 0 rfl rfl)
theorem dX3_reads_25 : decode cX3_reads 25 = .ok (.aload_n 0, 1) := dk_42 (dk_at dksX3_reads_1 1 rfl rfl)
theorem dX3_reads_26 : decode cX3_reads 26 = .ok (.getfield 60, 3) := dk_180 0 60 (dk_at dksX3_reads_1 2 rfl rfl)
theorem dX3_reads_29 : decode cX3_reads 29 = .ok (.iload_n 1, 1) := dk_27 (dk_at dksX3_reads_1 5 rfl rfl)
theorem dX3_reads_30 : decode cX3_reads 30 = .ok (.iaload, 1) := dk_46 (dk_at dksX3_reads_1 6 rfl rfl)
theorem dX3_reads_31 : decode cX3_reads 31 = .ok (.if_icmp .ge 47, 3) := dk_162 0 47 (dk_at dksX3_reads_1 7 rfl rfl)
theorem dX3_reads_34 : decode cX3_reads 34 = .ok (.aload_n 0, 1) := dk_42 (dk_at dksX3_reads_1 10 rfl rfl)
theorem dX3_reads_35 : decode cX3_reads 35 = .ok (.getfield 63, 3) := dk_180 0 63 (dk_at dksX3_reads_1 11 rfl rfl)
theorem dX3_reads_38 : decode cX3_reads 38 = .ok (.bipush 24, 2) := dk_16 24 (dk_at dksX3_reads_1 14 rfl rfl)
theorem dX3_reads_40 : decode cX3_reads 40 = .ok (.iload_n 1, 1) := dk_27 (dk_at dksX3_reads_1 16 rfl rfl)
theorem dX3_reads_41 : decode cX3_reads 41 = .ok (.imul, 1) := dk_104 (dk_at dksX3_reads_1 17 rfl rfl)
theorem dX3_reads_42 : decode cX3_reads 42 = .ok (.iload_n 2, 1) := dk_28 (dk_at dksX3_reads_1 18 rfl rfl)
theorem dX3_reads_43 : decode cX3_reads 43 = .ok (.iadd, 1) := dk_96 (dk_at dksX3_reads_1 19 rfl rfl)
theorem dX3_reads_44 : decode cX3_reads 44 = .ok (.iaload, 1) := dk_46 (dk_at dksX3_reads_1 20 rfl rfl)
theorem dX3_reads_45 : decode cX3_reads 45 = .ok (.istore_n 3, 1) := dk_62 (dk_at dksX3_reads_1 21 rfl rfl)
theorem dX3_reads_46 : decode cX3_reads 46 = .ok (.iload_n 3, 1) := dk_29 (dk_at dksX3_reads_1 22 rfl rfl)
theorem dX3_reads_47 : decode cX3_reads 47 = .ok (.ldc 84, 2) := dk_18 84 (dk_at dksX3_reads_2 0 rfl rfl)
theorem dX3_reads_49 : decode cX3_reads 49 = .ok (.if_icmp .eq 23, 3) := dk_159 0 23 (dk_at dksX3_reads_2 2 rfl rfl)
theorem dX3_reads_52 : decode cX3_reads 52 = .ok (.aload_n 0, 1) := dk_42 (dk_at dksX3_reads_2 5 rfl rfl)
theorem dX3_reads_53 : decode cX3_reads 53 = .ok (.iload_n 2, 1) := dk_28 (dk_at dksX3_reads_2 6 rfl rfl)
theorem dX3_reads_54 : decode cX3_reads 54 = .ok (.invokevirtual 103, 3) := dk_182 0 103 (dk_at dksX3_reads_2 7 rfl rfl)
theorem dX3_reads_57 : decode cX3_reads 57 = .ok (.ifCond .eq 13, 3) := dk_153 0 13 (dk_at dksX3_reads_2 10 rfl rfl)
theorem dX3_reads_60 : decode cX3_reads 60 = .ok (.iload_n 3, 1) := dk_29 (dk_at dksX3_reads_2 13 rfl rfl)
theorem dX3_reads_61 : decode cX3_reads 61 = .ok (.aload_n 0, 1) := dk_42 (dk_at dksX3_reads_2 14 rfl rfl)
theorem dX3_reads_62 : decode cX3_reads 62 = .ok (.iload_n 2, 1) := dk_28 (dk_at dksX3_reads_2 15 rfl rfl)
theorem dX3_reads_63 : decode cX3_reads 63 = .ok (.iconst 4, 1) := dk_7 (dk_at dksX3_reads_2 16 rfl rfl)
theorem dX3_reads_64 : decode cX3_reads 64 = .ok (.invokevirtual 99, 3) := dk_182 0 99 (dk_at dksX3_reads_2 17 rfl rfl)
theorem dX3_reads_67 : decode cX3_reads 67 = .ok (.if_icmp .eq 5, 3) := dk_159 0 5 (dk_at dksX3_reads_2 20 rfl rfl)
theorem dX3_reads_70 : decode cX3_reads 70 = .ok (.iload_n 2, 1) := dk_28 (dk_at dksX3_reads_2 23 rfl rfl)
theorem dX3_reads_71 : decode cX3_reads 71 = .ok (.ireturn, 1) := dk_172 (dk_at dksX3_reads_3 0 rfl rfl)
theorem dX3_reads_72 : decode cX3_reads 72 = .ok (.iinc 2 1, 3) := dk_132 2 1 (dk_at dksX3_reads_3 1 rfl rfl)
theorem dX3_reads_75 : decode cX3_reads 75 = .ok (.goto (-51), 3) := dk_167 255 205 (dk_at dksX3_reads_3 4 rfl rfl)
theorem dX3_reads_78 : decode cX3_reads 78 = .ok (.ldc 84, 2) := dk_18 84 (dk_at dksX3_reads_3 7 rfl rfl)
theorem dX3_reads_80 : decode cX3_reads 80 = .ok (.ireturn, 1) := dk_172 (dk_at dksX3_reads_3 9 rfl rfl)
abbrev cX3_copy : ByteArray := prog_22_method_85_code
def yX3_copy : MethodName := ⟨RX3, "copy", "(IIIII)I"⟩
def dkwX3_copy_7 : List UInt8 := [180, 0, 78, 21, 6, 46, 79, 132, 6, 1, 167, 255, 224, 21, 5, 172]
abbrev dktX3_copy_7 : List UInt8 := dkwX3_copy_7 ++ []
def dkwX3_copy_6 : List UInt8 := [54, 6, 21, 6, 21, 5, 162, 0, 31, 42, 180, 0, 63, 16, 24, 29, 104, 21, 4, 96, 21, 6, 96, 42]
abbrev dktX3_copy_6 : List UInt8 := dkwX3_copy_6 ++ dktX3_copy_7
def dkwX3_copy_5 : List UInt8 := [21, 6, 42, 180, 0, 63, 16, 24, 27, 104, 28, 96, 21, 6, 96, 46, 79, 132, 6, 1, 167, 255, 225, 3]
abbrev dktX3_copy_5 : List UInt8 := dkwX3_copy_5 ++ dktX3_copy_6
def dkwX3_copy_4 : List UInt8 := [21, 5, 100, 164, 0, 7, 19, 1, 27, 172, 3, 54, 6, 21, 6, 21, 5, 162, 0, 30, 42, 180, 0, 78]
abbrev dktX3_copy_4 : List UInt8 := dkwX3_copy_4 ++ dktX3_copy_5
def dkwX3_copy_3 : List UInt8 := [155, 0, 30, 28, 42, 180, 0, 60, 27, 46, 21, 5, 100, 163, 0, 17, 21, 4, 42, 180, 0, 60, 29, 46]
abbrev dktX3_copy_3 : List UInt8 := dkwX3_copy_3 ++ dktX3_copy_4
def dkwX3_copy_2 : List UInt8 := [180, 0, 57, 29, 46, 159, 0, 6, 18, 115, 172, 28, 155, 0, 40, 21, 4, 155, 0, 35, 21, 5]
abbrev dktX3_copy_2 : List UInt8 := dkwX3_copy_2 ++ dktX3_copy_3
def dkwX3_copy_1 : List UInt8 := [155, 0, 12, 42, 180, 0, 57, 29, 46, 156, 0, 6, 18, 170, 172, 42, 180, 0, 57, 27, 46, 42]
abbrev dktX3_copy_1 : List UInt8 := dkwX3_copy_1 ++ dktX3_copy_2
def dkwX3_copy_0 : List UInt8 := [27, 184, 0, 167, 153, 0, 10, 29, 184, 0, 167, 154, 0, 6, 18, 93, 172, 42, 180, 0, 57, 27, 46]
abbrev dktX3_copy_0 : List UInt8 := dkwX3_copy_0 ++ dktX3_copy_1
theorem dksX3_copy_0 : cX3_copy.data.toList.drop 0 = dktX3_copy_0 := by decide +kernel
theorem dksX3_copy_1 : cX3_copy.data.toList.drop 23 = dktX3_copy_1 := dk_seg dksX3_copy_0 23 rfl rfl
theorem dksX3_copy_2 : cX3_copy.data.toList.drop 45 = dktX3_copy_2 := dk_seg dksX3_copy_1 22 rfl rfl
theorem dksX3_copy_3 : cX3_copy.data.toList.drop 67 = dktX3_copy_3 := dk_seg dksX3_copy_2 22 rfl rfl
theorem dksX3_copy_4 : cX3_copy.data.toList.drop 91 = dktX3_copy_4 := dk_seg dksX3_copy_3 24 rfl rfl
theorem dksX3_copy_5 : cX3_copy.data.toList.drop 115 = dktX3_copy_5 := dk_seg dksX3_copy_4 24 rfl rfl
theorem dksX3_copy_6 : cX3_copy.data.toList.drop 139 = dktX3_copy_6 := dk_seg dksX3_copy_5 24 rfl rfl
theorem dksX3_copy_7 : cX3_copy.data.toList.drop 163 = dktX3_copy_7 := dk_seg dksX3_copy_6 24 rfl rfl
theorem dX3_copy_0 : decode cX3_copy 0 = .ok (.iload_n 1, 1) := dk_27 (dk_at dksX3_copy_0 0 rfl rfl)
theorem dX3_copy_1 : decode cX3_copy 1 = .ok (.invokestatic 167, 3) := dk_184 0 167 (dk_at dksX3_copy_0 1 rfl rfl)
theorem dX3_copy_4 : decode cX3_copy 4 = .ok (.ifCond .eq 10, 3) := dk_153 0 10 (dk_at dksX3_copy_0 4 rfl rfl)
theorem dX3_copy_7 : decode cX3_copy 7 = .ok (.iload_n 3, 1) := dk_29 (dk_at dksX3_copy_0 7 rfl rfl)
theorem dX3_copy_8 : decode cX3_copy 8 = .ok (.invokestatic 167, 3) := dk_184 0 167 (dk_at dksX3_copy_0 8 rfl rfl)
theorem dX3_copy_11 : decode cX3_copy 11 = .ok (.ifCond .ne 6, 3) := dk_154 0 6 (dk_at dksX3_copy_0 11 rfl rfl)
theorem dX3_copy_14 : decode cX3_copy 14 = .ok (.ldc 93, 2) := dk_18 93 (dk_at dksX3_copy_0 14 rfl rfl)
theorem dX3_copy_16 : decode cX3_copy 16 = .ok (.ireturn, 1) := dk_172 (dk_at dksX3_copy_0 16 rfl rfl)
theorem dX3_copy_17 : decode cX3_copy 17 = .ok (.aload_n 0, 1) := dk_42 (dk_at dksX3_copy_0 17 rfl rfl)
theorem dX3_copy_18 : decode cX3_copy 18 = .ok (.getfield 57, 3) := dk_180 0 57 (dk_at dksX3_copy_0 18 rfl rfl)
theorem dX3_copy_21 : decode cX3_copy 21 = .ok (.iload_n 1, 1) := dk_27 (dk_at dksX3_copy_0 21 rfl rfl)
theorem dX3_copy_22 : decode cX3_copy 22 = .ok (.iaload, 1) := dk_46 (dk_at dksX3_copy_0 22 rfl rfl)
theorem dX3_copy_23 : decode cX3_copy 23 = .ok (.ifCond .lt 12, 3) := dk_155 0 12 (dk_at dksX3_copy_1 0 rfl rfl)
theorem dX3_copy_26 : decode cX3_copy 26 = .ok (.aload_n 0, 1) := dk_42 (dk_at dksX3_copy_1 3 rfl rfl)
theorem dX3_copy_27 : decode cX3_copy 27 = .ok (.getfield 57, 3) := dk_180 0 57 (dk_at dksX3_copy_1 4 rfl rfl)
theorem dX3_copy_30 : decode cX3_copy 30 = .ok (.iload_n 3, 1) := dk_29 (dk_at dksX3_copy_1 7 rfl rfl)
theorem dX3_copy_31 : decode cX3_copy 31 = .ok (.iaload, 1) := dk_46 (dk_at dksX3_copy_1 8 rfl rfl)
theorem dX3_copy_32 : decode cX3_copy 32 = .ok (.ifCond .ge 6, 3) := dk_156 0 6 (dk_at dksX3_copy_1 9 rfl rfl)
theorem dX3_copy_35 : decode cX3_copy 35 = .ok (.ldc 170, 2) := dk_18 170 (dk_at dksX3_copy_1 12 rfl rfl)
theorem dX3_copy_37 : decode cX3_copy 37 = .ok (.ireturn, 1) := dk_172 (dk_at dksX3_copy_1 14 rfl rfl)
theorem dX3_copy_38 : decode cX3_copy 38 = .ok (.aload_n 0, 1) := dk_42 (dk_at dksX3_copy_1 15 rfl rfl)
theorem dX3_copy_39 : decode cX3_copy 39 = .ok (.getfield 57, 3) := dk_180 0 57 (dk_at dksX3_copy_1 16 rfl rfl)
theorem dX3_copy_42 : decode cX3_copy 42 = .ok (.iload_n 1, 1) := dk_27 (dk_at dksX3_copy_1 19 rfl rfl)
theorem dX3_copy_43 : decode cX3_copy 43 = .ok (.iaload, 1) := dk_46 (dk_at dksX3_copy_1 20 rfl rfl)
theorem dX3_copy_44 : decode cX3_copy 44 = .ok (.aload_n 0, 1) := dk_42 (dk_at dksX3_copy_1 21 rfl rfl)
theorem dX3_copy_45 : decode cX3_copy 45 = .ok (.getfield 57, 3) := dk_180 0 57 (dk_at dksX3_copy_2 0 rfl rfl)
theorem dX3_copy_48 : decode cX3_copy 48 = .ok (.iload_n 3, 1) := dk_29 (dk_at dksX3_copy_2 3 rfl rfl)
theorem dX3_copy_49 : decode cX3_copy 49 = .ok (.iaload, 1) := dk_46 (dk_at dksX3_copy_2 4 rfl rfl)
theorem dX3_copy_50 : decode cX3_copy 50 = .ok (.if_icmp .eq 6, 3) := dk_159 0 6 (dk_at dksX3_copy_2 5 rfl rfl)
theorem dX3_copy_53 : decode cX3_copy 53 = .ok (.ldc 115, 2) := dk_18 115 (dk_at dksX3_copy_2 8 rfl rfl)
theorem dX3_copy_55 : decode cX3_copy 55 = .ok (.ireturn, 1) := dk_172 (dk_at dksX3_copy_2 10 rfl rfl)
theorem dX3_copy_56 : decode cX3_copy 56 = .ok (.iload_n 2, 1) := dk_28 (dk_at dksX3_copy_2 11 rfl rfl)
theorem dX3_copy_57 : decode cX3_copy 57 = .ok (.ifCond .lt 40, 3) := dk_155 0 40 (dk_at dksX3_copy_2 12 rfl rfl)
theorem dX3_copy_60 : decode cX3_copy 60 = .ok (.iload 4, 2) := dk_21 4 (dk_at dksX3_copy_2 15 rfl rfl)
theorem dX3_copy_62 : decode cX3_copy 62 = .ok (.ifCond .lt 35, 3) := dk_155 0 35 (dk_at dksX3_copy_2 17 rfl rfl)
theorem dX3_copy_65 : decode cX3_copy 65 = .ok (.iload 5, 2) := dk_21 5 (dk_at dksX3_copy_2 20 rfl rfl)
theorem dX3_copy_67 : decode cX3_copy 67 = .ok (.ifCond .lt 30, 3) := dk_155 0 30 (dk_at dksX3_copy_3 0 rfl rfl)
theorem dX3_copy_70 : decode cX3_copy 70 = .ok (.iload_n 2, 1) := dk_28 (dk_at dksX3_copy_3 3 rfl rfl)
theorem dX3_copy_71 : decode cX3_copy 71 = .ok (.aload_n 0, 1) := dk_42 (dk_at dksX3_copy_3 4 rfl rfl)
theorem dX3_copy_72 : decode cX3_copy 72 = .ok (.getfield 60, 3) := dk_180 0 60 (dk_at dksX3_copy_3 5 rfl rfl)
theorem dX3_copy_75 : decode cX3_copy 75 = .ok (.iload_n 1, 1) := dk_27 (dk_at dksX3_copy_3 8 rfl rfl)
theorem dX3_copy_76 : decode cX3_copy 76 = .ok (.iaload, 1) := dk_46 (dk_at dksX3_copy_3 9 rfl rfl)
theorem dX3_copy_77 : decode cX3_copy 77 = .ok (.iload 5, 2) := dk_21 5 (dk_at dksX3_copy_3 10 rfl rfl)
theorem dX3_copy_79 : decode cX3_copy 79 = .ok (.isub, 1) := dk_100 (dk_at dksX3_copy_3 12 rfl rfl)
theorem dX3_copy_80 : decode cX3_copy 80 = .ok (.if_icmp .gt 17, 3) := dk_163 0 17 (dk_at dksX3_copy_3 13 rfl rfl)
theorem dX3_copy_83 : decode cX3_copy 83 = .ok (.iload 4, 2) := dk_21 4 (dk_at dksX3_copy_3 16 rfl rfl)
theorem dX3_copy_85 : decode cX3_copy 85 = .ok (.aload_n 0, 1) := dk_42 (dk_at dksX3_copy_3 18 rfl rfl)
theorem dX3_copy_86 : decode cX3_copy 86 = .ok (.getfield 60, 3) := dk_180 0 60 (dk_at dksX3_copy_3 19 rfl rfl)
theorem dX3_copy_89 : decode cX3_copy 89 = .ok (.iload_n 3, 1) := dk_29 (dk_at dksX3_copy_3 22 rfl rfl)
theorem dX3_copy_90 : decode cX3_copy 90 = .ok (.iaload, 1) := dk_46 (dk_at dksX3_copy_3 23 rfl rfl)
theorem dX3_copy_91 : decode cX3_copy 91 = .ok (.iload 5, 2) := dk_21 5 (dk_at dksX3_copy_4 0 rfl rfl)
theorem dX3_copy_93 : decode cX3_copy 93 = .ok (.isub, 1) := dk_100 (dk_at dksX3_copy_4 2 rfl rfl)
theorem dX3_copy_94 : decode cX3_copy 94 = .ok (.if_icmp .le 7, 3) := dk_164 0 7 (dk_at dksX3_copy_4 3 rfl rfl)
theorem dX3_copy_97 : decode cX3_copy 97 = .ok (.ldc_w 283, 3) := dk_19 1 27 (dk_at dksX3_copy_4 6 rfl rfl)
theorem dX3_copy_100 : decode cX3_copy 100 = .ok (.ireturn, 1) := dk_172 (dk_at dksX3_copy_4 9 rfl rfl)
theorem dX3_copy_101 : decode cX3_copy 101 = .ok (.iconst 0, 1) := dk_3 (dk_at dksX3_copy_4 10 rfl rfl)
theorem dX3_copy_102 : decode cX3_copy 102 = .ok (.istore 6, 2) := dk_54 6 (dk_at dksX3_copy_4 11 rfl rfl)
theorem dX3_copy_104 : decode cX3_copy 104 = .ok (.iload 6, 2) := dk_21 6 (dk_at dksX3_copy_4 13 rfl rfl)
theorem dX3_copy_106 : decode cX3_copy 106 = .ok (.iload 5, 2) := dk_21 5 (dk_at dksX3_copy_4 15 rfl rfl)
theorem dX3_copy_108 : decode cX3_copy 108 = .ok (.if_icmp .ge 30, 3) := dk_162 0 30 (dk_at dksX3_copy_4 17 rfl rfl)
theorem dX3_copy_111 : decode cX3_copy 111 = .ok (.aload_n 0, 1) := dk_42 (dk_at dksX3_copy_4 20 rfl rfl)
theorem dX3_copy_112 : decode cX3_copy 112 = .ok (.getfield 78, 3) := dk_180 0 78 (dk_at dksX3_copy_4 21 rfl rfl)
theorem dX3_copy_115 : decode cX3_copy 115 = .ok (.iload 6, 2) := dk_21 6 (dk_at dksX3_copy_5 0 rfl rfl)
theorem dX3_copy_117 : decode cX3_copy 117 = .ok (.aload_n 0, 1) := dk_42 (dk_at dksX3_copy_5 2 rfl rfl)
theorem dX3_copy_118 : decode cX3_copy 118 = .ok (.getfield 63, 3) := dk_180 0 63 (dk_at dksX3_copy_5 3 rfl rfl)
theorem dX3_copy_121 : decode cX3_copy 121 = .ok (.bipush 24, 2) := dk_16 24 (dk_at dksX3_copy_5 6 rfl rfl)
theorem dX3_copy_123 : decode cX3_copy 123 = .ok (.iload_n 1, 1) := dk_27 (dk_at dksX3_copy_5 8 rfl rfl)
theorem dX3_copy_124 : decode cX3_copy 124 = .ok (.imul, 1) := dk_104 (dk_at dksX3_copy_5 9 rfl rfl)
theorem dX3_copy_125 : decode cX3_copy 125 = .ok (.iload_n 2, 1) := dk_28 (dk_at dksX3_copy_5 10 rfl rfl)
theorem dX3_copy_126 : decode cX3_copy 126 = .ok (.iadd, 1) := dk_96 (dk_at dksX3_copy_5 11 rfl rfl)
theorem dX3_copy_127 : decode cX3_copy 127 = .ok (.iload 6, 2) := dk_21 6 (dk_at dksX3_copy_5 12 rfl rfl)
theorem dX3_copy_129 : decode cX3_copy 129 = .ok (.iadd, 1) := dk_96 (dk_at dksX3_copy_5 14 rfl rfl)
theorem dX3_copy_130 : decode cX3_copy 130 = .ok (.iaload, 1) := dk_46 (dk_at dksX3_copy_5 15 rfl rfl)
theorem dX3_copy_131 : decode cX3_copy 131 = .ok (.iastore, 1) := dk_79 (dk_at dksX3_copy_5 16 rfl rfl)
theorem dX3_copy_132 : decode cX3_copy 132 = .ok (.iinc 6 1, 3) := dk_132 6 1 (dk_at dksX3_copy_5 17 rfl rfl)
theorem dX3_copy_135 : decode cX3_copy 135 = .ok (.goto (-31), 3) := dk_167 255 225 (dk_at dksX3_copy_5 20 rfl rfl)
theorem dX3_copy_138 : decode cX3_copy 138 = .ok (.iconst 0, 1) := dk_3 (dk_at dksX3_copy_5 23 rfl rfl)
theorem dX3_copy_139 : decode cX3_copy 139 = .ok (.istore 6, 2) := dk_54 6 (dk_at dksX3_copy_6 0 rfl rfl)
theorem dX3_copy_141 : decode cX3_copy 141 = .ok (.iload 6, 2) := dk_21 6 (dk_at dksX3_copy_6 2 rfl rfl)
theorem dX3_copy_143 : decode cX3_copy 143 = .ok (.iload 5, 2) := dk_21 5 (dk_at dksX3_copy_6 4 rfl rfl)
theorem dX3_copy_145 : decode cX3_copy 145 = .ok (.if_icmp .ge 31, 3) := dk_162 0 31 (dk_at dksX3_copy_6 6 rfl rfl)
theorem dX3_copy_148 : decode cX3_copy 148 = .ok (.aload_n 0, 1) := dk_42 (dk_at dksX3_copy_6 9 rfl rfl)
theorem dX3_copy_149 : decode cX3_copy 149 = .ok (.getfield 63, 3) := dk_180 0 63 (dk_at dksX3_copy_6 10 rfl rfl)
theorem dX3_copy_152 : decode cX3_copy 152 = .ok (.bipush 24, 2) := dk_16 24 (dk_at dksX3_copy_6 13 rfl rfl)
theorem dX3_copy_154 : decode cX3_copy 154 = .ok (.iload_n 3, 1) := dk_29 (dk_at dksX3_copy_6 15 rfl rfl)
theorem dX3_copy_155 : decode cX3_copy 155 = .ok (.imul, 1) := dk_104 (dk_at dksX3_copy_6 16 rfl rfl)
theorem dX3_copy_156 : decode cX3_copy 156 = .ok (.iload 4, 2) := dk_21 4 (dk_at dksX3_copy_6 17 rfl rfl)
theorem dX3_copy_158 : decode cX3_copy 158 = .ok (.iadd, 1) := dk_96 (dk_at dksX3_copy_6 19 rfl rfl)
theorem dX3_copy_159 : decode cX3_copy 159 = .ok (.iload 6, 2) := dk_21 6 (dk_at dksX3_copy_6 20 rfl rfl)
theorem dX3_copy_161 : decode cX3_copy 161 = .ok (.iadd, 1) := dk_96 (dk_at dksX3_copy_6 22 rfl rfl)
theorem dX3_copy_162 : decode cX3_copy 162 = .ok (.aload_n 0, 1) := dk_42 (dk_at dksX3_copy_6 23 rfl rfl)
theorem dX3_copy_163 : decode cX3_copy 163 = .ok (.getfield 78, 3) := dk_180 0 78 (dk_at dksX3_copy_7 0 rfl rfl)
theorem dX3_copy_166 : decode cX3_copy 166 = .ok (.iload 6, 2) := dk_21 6 (dk_at dksX3_copy_7 3 rfl rfl)
theorem dX3_copy_168 : decode cX3_copy 168 = .ok (.iaload, 1) := dk_46 (dk_at dksX3_copy_7 5 rfl rfl)
theorem dX3_copy_169 : decode cX3_copy 169 = .ok (.iastore, 1) := dk_79 (dk_at dksX3_copy_7 6 rfl rfl)
theorem dX3_copy_170 : decode cX3_copy 170 = .ok (.iinc 6 1, 3) := dk_132 6 1 (dk_at dksX3_copy_7 7 rfl rfl)
theorem dX3_copy_173 : decode cX3_copy 173 = .ok (.goto (-32), 3) := dk_167 255 224 (dk_at dksX3_copy_7 10 rfl rfl)
theorem dX3_copy_176 : decode cX3_copy 176 = .ok (.iload 5, 2) := dk_21 5 (dk_at dksX3_copy_7 13 rfl rfl)
theorem dX3_copy_178 : decode cX3_copy 178 = .ok (.ireturn, 1) := dk_172 (dk_at dksX3_copy_7 15 rfl rfl)
abbrev cX3_lay : ByteArray := prog_22_method_86_code
def yX3_lay : MethodName := ⟨RX3, "lay", "(III)I"⟩
def dkwX3_lay_7 : List UInt8 := [16, 24, 29, 104, 21, 5, 96, 46, 79, 132, 5, 1, 167, 255, 217, 21, 4, 172]
abbrev dktX3_lay_7 : List UInt8 := dkwX3_lay_7 ++ []
def dkwX3_lay_6 : List UInt8 := [162, 0, 38, 28, 5, 160, 0, 33, 42, 180, 0, 75, 16, 24, 27, 104, 21, 5, 96, 42, 180, 0, 63]
abbrev dktX3_lay_6 : List UInt8 := dkwX3_lay_6 ++ dktX3_lay_7
def dkwX3_lay_5 : List UInt8 := [28, 4, 160, 0, 11, 42, 29, 182, 0, 107, 167, 0, 4, 3, 79, 3, 54, 5, 21, 5, 16, 24]
abbrev dktX3_lay_5 : List UInt8 := dkwX3_lay_5 ++ dktX3_lay_6
def dkwX3_lay_4 : List UInt8 := [167, 0, 18, 28, 5, 160, 0, 12, 42, 180, 0, 60, 29, 46, 167, 0, 4, 29, 79, 42, 180, 0, 72, 27]
abbrev dktX3_lay_4 : List UInt8 := dkwX3_lay_4 ++ dktX3_lay_5
def dkwX3_lay_3 : List UInt8 := [180, 0, 66, 27, 28, 79, 42, 180, 0, 69, 27, 28, 4, 160, 0, 12, 42, 29, 3, 182, 0, 99]
abbrev dktX3_lay_3 : List UInt8 := dkwX3_lay_3 ++ dktX3_lay_4
def dkwX3_lay_2 : List UInt8 := [160, 0, 15, 42, 180, 0, 57, 29, 46, 156, 0, 6, 18, 170, 172, 42, 180, 0, 66, 27, 46, 54, 4, 42]
abbrev dktX3_lay_2 : List UInt8 := dkwX3_lay_2 ++ dktX3_lay_3
def dkwX3_lay_1 : List UInt8 := [182, 0, 103, 153, 0, 15, 28, 5, 160, 0, 13, 29, 184, 0, 167, 154, 0, 6, 18, 93, 172, 28, 5]
abbrev dktX3_lay_1 : List UInt8 := dkwX3_lay_1 ++ dktX3_lay_2
def dkwX3_lay_0 : List UInt8 := [27, 184, 1, 30, 153, 0, 37, 28, 3, 6, 184, 0, 85, 153, 0, 28, 28, 4, 160, 0, 11, 42, 29]
abbrev dktX3_lay_0 : List UInt8 := dkwX3_lay_0 ++ dktX3_lay_1
theorem dksX3_lay_0 : cX3_lay.data.toList.drop 0 = dktX3_lay_0 := by decide +kernel
theorem dksX3_lay_1 : cX3_lay.data.toList.drop 23 = dktX3_lay_1 := dk_seg dksX3_lay_0 23 rfl rfl
theorem dksX3_lay_2 : cX3_lay.data.toList.drop 46 = dktX3_lay_2 := dk_seg dksX3_lay_1 23 rfl rfl
theorem dksX3_lay_3 : cX3_lay.data.toList.drop 70 = dktX3_lay_3 := dk_seg dksX3_lay_2 24 rfl rfl
theorem dksX3_lay_4 : cX3_lay.data.toList.drop 92 = dktX3_lay_4 := dk_seg dksX3_lay_3 22 rfl rfl
theorem dksX3_lay_5 : cX3_lay.data.toList.drop 116 = dktX3_lay_5 := dk_seg dksX3_lay_4 24 rfl rfl
theorem dksX3_lay_6 : cX3_lay.data.toList.drop 138 = dktX3_lay_6 := dk_seg dksX3_lay_5 22 rfl rfl
theorem dksX3_lay_7 : cX3_lay.data.toList.drop 161 = dktX3_lay_7 := dk_seg dksX3_lay_6 23 rfl rfl
theorem dX3_lay_0 : decode cX3_lay 0 = .ok (.iload_n 1, 1) := dk_27 (dk_at dksX3_lay_0 0 rfl rfl)
theorem dX3_lay_1 : decode cX3_lay 1 = .ok (.invokestatic 286, 3) := dk_184 1 30 (dk_at dksX3_lay_0 1 rfl rfl)
theorem dX3_lay_4 : decode cX3_lay 4 = .ok (.ifCond .eq 37, 3) := dk_153 0 37 (dk_at dksX3_lay_0 4 rfl rfl)
theorem dX3_lay_7 : decode cX3_lay 7 = .ok (.iload_n 2, 1) := dk_28 (dk_at dksX3_lay_0 7 rfl rfl)
theorem dX3_lay_8 : decode cX3_lay 8 = .ok (.iconst 0, 1) := dk_3 (dk_at dksX3_lay_0 8 rfl rfl)
theorem dX3_lay_9 : decode cX3_lay 9 = .ok (.iconst 3, 1) := dk_6 (dk_at dksX3_lay_0 9 rfl rfl)
theorem dX3_lay_10 : decode cX3_lay 10 = .ok (.invokestatic 85, 3) := dk_184 0 85 (dk_at dksX3_lay_0 10 rfl rfl)
theorem dX3_lay_13 : decode cX3_lay 13 = .ok (.ifCond .eq 28, 3) := dk_153 0 28 (dk_at dksX3_lay_0 13 rfl rfl)
theorem dX3_lay_16 : decode cX3_lay 16 = .ok (.iload_n 2, 1) := dk_28 (dk_at dksX3_lay_0 16 rfl rfl)
theorem dX3_lay_17 : decode cX3_lay 17 = .ok (.iconst 1, 1) := dk_4 (dk_at dksX3_lay_0 17 rfl rfl)
theorem dX3_lay_18 : decode cX3_lay 18 = .ok (.if_icmp .ne 11, 3) := dk_160 0 11 (dk_at dksX3_lay_0 18 rfl rfl)
theorem dX3_lay_21 : decode cX3_lay 21 = .ok (.aload_n 0, 1) := dk_42 (dk_at dksX3_lay_0 21 rfl rfl)
theorem dX3_lay_22 : decode cX3_lay 22 = .ok (.iload_n 3, 1) := dk_29 (dk_at dksX3_lay_0 22 rfl rfl)
theorem dX3_lay_23 : decode cX3_lay 23 = .ok (.invokevirtual 103, 3) := dk_182 0 103 (dk_at dksX3_lay_1 0 rfl rfl)
theorem dX3_lay_26 : decode cX3_lay 26 = .ok (.ifCond .eq 15, 3) := dk_153 0 15 (dk_at dksX3_lay_1 3 rfl rfl)
theorem dX3_lay_29 : decode cX3_lay 29 = .ok (.iload_n 2, 1) := dk_28 (dk_at dksX3_lay_1 6 rfl rfl)
theorem dX3_lay_30 : decode cX3_lay 30 = .ok (.iconst 2, 1) := dk_5 (dk_at dksX3_lay_1 7 rfl rfl)
theorem dX3_lay_31 : decode cX3_lay 31 = .ok (.if_icmp .ne 13, 3) := dk_160 0 13 (dk_at dksX3_lay_1 8 rfl rfl)
theorem dX3_lay_34 : decode cX3_lay 34 = .ok (.iload_n 3, 1) := dk_29 (dk_at dksX3_lay_1 11 rfl rfl)
theorem dX3_lay_35 : decode cX3_lay 35 = .ok (.invokestatic 167, 3) := dk_184 0 167 (dk_at dksX3_lay_1 12 rfl rfl)
theorem dX3_lay_38 : decode cX3_lay 38 = .ok (.ifCond .ne 6, 3) := dk_154 0 6 (dk_at dksX3_lay_1 15 rfl rfl)
theorem dX3_lay_41 : decode cX3_lay 41 = .ok (.ldc 93, 2) := dk_18 93 (dk_at dksX3_lay_1 18 rfl rfl)
theorem dX3_lay_43 : decode cX3_lay 43 = .ok (.ireturn, 1) := dk_172 (dk_at dksX3_lay_1 20 rfl rfl)
theorem dX3_lay_44 : decode cX3_lay 44 = .ok (.iload_n 2, 1) := dk_28 (dk_at dksX3_lay_1 21 rfl rfl)
theorem dX3_lay_45 : decode cX3_lay 45 = .ok (.iconst 2, 1) := dk_5 (dk_at dksX3_lay_1 22 rfl rfl)
theorem dX3_lay_46 : decode cX3_lay 46 = .ok (.if_icmp .ne 15, 3) := dk_160 0 15 (dk_at dksX3_lay_2 0 rfl rfl)
theorem dX3_lay_49 : decode cX3_lay 49 = .ok (.aload_n 0, 1) := dk_42 (dk_at dksX3_lay_2 3 rfl rfl)
theorem dX3_lay_50 : decode cX3_lay 50 = .ok (.getfield 57, 3) := dk_180 0 57 (dk_at dksX3_lay_2 4 rfl rfl)
theorem dX3_lay_53 : decode cX3_lay 53 = .ok (.iload_n 3, 1) := dk_29 (dk_at dksX3_lay_2 7 rfl rfl)
theorem dX3_lay_54 : decode cX3_lay 54 = .ok (.iaload, 1) := dk_46 (dk_at dksX3_lay_2 8 rfl rfl)
theorem dX3_lay_55 : decode cX3_lay 55 = .ok (.ifCond .ge 6, 3) := dk_156 0 6 (dk_at dksX3_lay_2 9 rfl rfl)
theorem dX3_lay_58 : decode cX3_lay 58 = .ok (.ldc 170, 2) := dk_18 170 (dk_at dksX3_lay_2 12 rfl rfl)
theorem dX3_lay_60 : decode cX3_lay 60 = .ok (.ireturn, 1) := dk_172 (dk_at dksX3_lay_2 14 rfl rfl)
theorem dX3_lay_61 : decode cX3_lay 61 = .ok (.aload_n 0, 1) := dk_42 (dk_at dksX3_lay_2 15 rfl rfl)
theorem dX3_lay_62 : decode cX3_lay 62 = .ok (.getfield 66, 3) := dk_180 0 66 (dk_at dksX3_lay_2 16 rfl rfl)
theorem dX3_lay_65 : decode cX3_lay 65 = .ok (.iload_n 1, 1) := dk_27 (dk_at dksX3_lay_2 19 rfl rfl)
theorem dX3_lay_66 : decode cX3_lay 66 = .ok (.iaload, 1) := dk_46 (dk_at dksX3_lay_2 20 rfl rfl)
theorem dX3_lay_67 : decode cX3_lay 67 = .ok (.istore 4, 2) := dk_54 4 (dk_at dksX3_lay_2 21 rfl rfl)
theorem dX3_lay_69 : decode cX3_lay 69 = .ok (.aload_n 0, 1) := dk_42 (dk_at dksX3_lay_2 23 rfl rfl)
theorem dX3_lay_70 : decode cX3_lay 70 = .ok (.getfield 66, 3) := dk_180 0 66 (dk_at dksX3_lay_3 0 rfl rfl)
theorem dX3_lay_73 : decode cX3_lay 73 = .ok (.iload_n 1, 1) := dk_27 (dk_at dksX3_lay_3 3 rfl rfl)
theorem dX3_lay_74 : decode cX3_lay 74 = .ok (.iload_n 2, 1) := dk_28 (dk_at dksX3_lay_3 4 rfl rfl)
theorem dX3_lay_75 : decode cX3_lay 75 = .ok (.iastore, 1) := dk_79 (dk_at dksX3_lay_3 5 rfl rfl)
theorem dX3_lay_76 : decode cX3_lay 76 = .ok (.aload_n 0, 1) := dk_42 (dk_at dksX3_lay_3 6 rfl rfl)
theorem dX3_lay_77 : decode cX3_lay 77 = .ok (.getfield 69, 3) := dk_180 0 69 (dk_at dksX3_lay_3 7 rfl rfl)
theorem dX3_lay_80 : decode cX3_lay 80 = .ok (.iload_n 1, 1) := dk_27 (dk_at dksX3_lay_3 10 rfl rfl)
theorem dX3_lay_81 : decode cX3_lay 81 = .ok (.iload_n 2, 1) := dk_28 (dk_at dksX3_lay_3 11 rfl rfl)
theorem dX3_lay_82 : decode cX3_lay 82 = .ok (.iconst 1, 1) := dk_4 (dk_at dksX3_lay_3 12 rfl rfl)
theorem dX3_lay_83 : decode cX3_lay 83 = .ok (.if_icmp .ne 12, 3) := dk_160 0 12 (dk_at dksX3_lay_3 13 rfl rfl)
theorem dX3_lay_86 : decode cX3_lay 86 = .ok (.aload_n 0, 1) := dk_42 (dk_at dksX3_lay_3 16 rfl rfl)
theorem dX3_lay_87 : decode cX3_lay 87 = .ok (.iload_n 3, 1) := dk_29 (dk_at dksX3_lay_3 17 rfl rfl)
theorem dX3_lay_88 : decode cX3_lay 88 = .ok (.iconst 0, 1) := dk_3 (dk_at dksX3_lay_3 18 rfl rfl)
theorem dX3_lay_89 : decode cX3_lay 89 = .ok (.invokevirtual 99, 3) := dk_182 0 99 (dk_at dksX3_lay_3 19 rfl rfl)
theorem dX3_lay_92 : decode cX3_lay 92 = .ok (.goto 18, 3) := dk_167 0 18 (dk_at dksX3_lay_4 0 rfl rfl)
theorem dX3_lay_95 : decode cX3_lay 95 = .ok (.iload_n 2, 1) := dk_28 (dk_at dksX3_lay_4 3 rfl rfl)
theorem dX3_lay_96 : decode cX3_lay 96 = .ok (.iconst 2, 1) := dk_5 (dk_at dksX3_lay_4 4 rfl rfl)
theorem dX3_lay_97 : decode cX3_lay 97 = .ok (.if_icmp .ne 12, 3) := dk_160 0 12 (dk_at dksX3_lay_4 5 rfl rfl)
theorem dX3_lay_100 : decode cX3_lay 100 = .ok (.aload_n 0, 1) := dk_42 (dk_at dksX3_lay_4 8 rfl rfl)
theorem dX3_lay_101 : decode cX3_lay 101 = .ok (.getfield 60, 3) := dk_180 0 60 (dk_at dksX3_lay_4 9 rfl rfl)
theorem dX3_lay_104 : decode cX3_lay 104 = .ok (.iload_n 3, 1) := dk_29 (dk_at dksX3_lay_4 12 rfl rfl)
theorem dX3_lay_105 : decode cX3_lay 105 = .ok (.iaload, 1) := dk_46 (dk_at dksX3_lay_4 13 rfl rfl)
theorem dX3_lay_106 : decode cX3_lay 106 = .ok (.goto 4, 3) := dk_167 0 4 (dk_at dksX3_lay_4 14 rfl rfl)
theorem dX3_lay_109 : decode cX3_lay 109 = .ok (.iload_n 3, 1) := dk_29 (dk_at dksX3_lay_4 17 rfl rfl)
theorem dX3_lay_110 : decode cX3_lay 110 = .ok (.iastore, 1) := dk_79 (dk_at dksX3_lay_4 18 rfl rfl)
theorem dX3_lay_111 : decode cX3_lay 111 = .ok (.aload_n 0, 1) := dk_42 (dk_at dksX3_lay_4 19 rfl rfl)
theorem dX3_lay_112 : decode cX3_lay 112 = .ok (.getfield 72, 3) := dk_180 0 72 (dk_at dksX3_lay_4 20 rfl rfl)
theorem dX3_lay_115 : decode cX3_lay 115 = .ok (.iload_n 1, 1) := dk_27 (dk_at dksX3_lay_4 23 rfl rfl)
theorem dX3_lay_116 : decode cX3_lay 116 = .ok (.iload_n 2, 1) := dk_28 (dk_at dksX3_lay_5 0 rfl rfl)
theorem dX3_lay_117 : decode cX3_lay 117 = .ok (.iconst 1, 1) := dk_4 (dk_at dksX3_lay_5 1 rfl rfl)
theorem dX3_lay_118 : decode cX3_lay 118 = .ok (.if_icmp .ne 11, 3) := dk_160 0 11 (dk_at dksX3_lay_5 2 rfl rfl)
theorem dX3_lay_121 : decode cX3_lay 121 = .ok (.aload_n 0, 1) := dk_42 (dk_at dksX3_lay_5 5 rfl rfl)
theorem dX3_lay_122 : decode cX3_lay 122 = .ok (.iload_n 3, 1) := dk_29 (dk_at dksX3_lay_5 6 rfl rfl)
theorem dX3_lay_123 : decode cX3_lay 123 = .ok (.invokevirtual 107, 3) := dk_182 0 107 (dk_at dksX3_lay_5 7 rfl rfl)
theorem dX3_lay_126 : decode cX3_lay 126 = .ok (.goto 4, 3) := dk_167 0 4 (dk_at dksX3_lay_5 10 rfl rfl)
theorem dX3_lay_129 : decode cX3_lay 129 = .ok (.iconst 0, 1) := dk_3 (dk_at dksX3_lay_5 13 rfl rfl)
theorem dX3_lay_130 : decode cX3_lay 130 = .ok (.iastore, 1) := dk_79 (dk_at dksX3_lay_5 14 rfl rfl)
theorem dX3_lay_131 : decode cX3_lay 131 = .ok (.iconst 0, 1) := dk_3 (dk_at dksX3_lay_5 15 rfl rfl)
theorem dX3_lay_132 : decode cX3_lay 132 = .ok (.istore 5, 2) := dk_54 5 (dk_at dksX3_lay_5 16 rfl rfl)
theorem dX3_lay_134 : decode cX3_lay 134 = .ok (.iload 5, 2) := dk_21 5 (dk_at dksX3_lay_5 18 rfl rfl)
theorem dX3_lay_136 : decode cX3_lay 136 = .ok (.bipush 24, 2) := dk_16 24 (dk_at dksX3_lay_5 20 rfl rfl)
theorem dX3_lay_138 : decode cX3_lay 138 = .ok (.if_icmp .ge 38, 3) := dk_162 0 38 (dk_at dksX3_lay_6 0 rfl rfl)
theorem dX3_lay_141 : decode cX3_lay 141 = .ok (.iload_n 2, 1) := dk_28 (dk_at dksX3_lay_6 3 rfl rfl)
theorem dX3_lay_142 : decode cX3_lay 142 = .ok (.iconst 2, 1) := dk_5 (dk_at dksX3_lay_6 4 rfl rfl)
theorem dX3_lay_143 : decode cX3_lay 143 = .ok (.if_icmp .ne 33, 3) := dk_160 0 33 (dk_at dksX3_lay_6 5 rfl rfl)
theorem dX3_lay_146 : decode cX3_lay 146 = .ok (.aload_n 0, 1) := dk_42 (dk_at dksX3_lay_6 8 rfl rfl)
theorem dX3_lay_147 : decode cX3_lay 147 = .ok (.getfield 75, 3) := dk_180 0 75 (dk_at dksX3_lay_6 9 rfl rfl)
theorem dX3_lay_150 : decode cX3_lay 150 = .ok (.bipush 24, 2) := dk_16 24 (dk_at dksX3_lay_6 12 rfl rfl)
theorem dX3_lay_152 : decode cX3_lay 152 = .ok (.iload_n 1, 1) := dk_27 (dk_at dksX3_lay_6 14 rfl rfl)
theorem dX3_lay_153 : decode cX3_lay 153 = .ok (.imul, 1) := dk_104 (dk_at dksX3_lay_6 15 rfl rfl)
theorem dX3_lay_154 : decode cX3_lay 154 = .ok (.iload 5, 2) := dk_21 5 (dk_at dksX3_lay_6 16 rfl rfl)
theorem dX3_lay_156 : decode cX3_lay 156 = .ok (.iadd, 1) := dk_96 (dk_at dksX3_lay_6 18 rfl rfl)
theorem dX3_lay_157 : decode cX3_lay 157 = .ok (.aload_n 0, 1) := dk_42 (dk_at dksX3_lay_6 19 rfl rfl)
theorem dX3_lay_158 : decode cX3_lay 158 = .ok (.getfield 63, 3) := dk_180 0 63 (dk_at dksX3_lay_6 20 rfl rfl)
theorem dX3_lay_161 : decode cX3_lay 161 = .ok (.bipush 24, 2) := dk_16 24 (dk_at dksX3_lay_7 0 rfl rfl)
theorem dX3_lay_163 : decode cX3_lay 163 = .ok (.iload_n 3, 1) := dk_29 (dk_at dksX3_lay_7 2 rfl rfl)
theorem dX3_lay_164 : decode cX3_lay 164 = .ok (.imul, 1) := dk_104 (dk_at dksX3_lay_7 3 rfl rfl)
theorem dX3_lay_165 : decode cX3_lay 165 = .ok (.iload 5, 2) := dk_21 5 (dk_at dksX3_lay_7 4 rfl rfl)
theorem dX3_lay_167 : decode cX3_lay 167 = .ok (.iadd, 1) := dk_96 (dk_at dksX3_lay_7 6 rfl rfl)
theorem dX3_lay_168 : decode cX3_lay 168 = .ok (.iaload, 1) := dk_46 (dk_at dksX3_lay_7 7 rfl rfl)
theorem dX3_lay_169 : decode cX3_lay 169 = .ok (.iastore, 1) := dk_79 (dk_at dksX3_lay_7 8 rfl rfl)
theorem dX3_lay_170 : decode cX3_lay 170 = .ok (.iinc 5 1, 3) := dk_132 5 1 (dk_at dksX3_lay_7 9 rfl rfl)
theorem dX3_lay_173 : decode cX3_lay 173 = .ok (.goto (-39), 3) := dk_167 255 217 (dk_at dksX3_lay_7 12 rfl rfl)
theorem dX3_lay_176 : decode cX3_lay 176 = .ok (.iload 4, 2) := dk_21 4 (dk_at dksX3_lay_7 15 rfl rfl)
theorem dX3_lay_178 : decode cX3_lay 178 = .ok (.ireturn, 1) := dk_172 (dk_at dksX3_lay_7 17 rfl rfl)
abbrev cX3_isSlot : ByteArray := prog_22_method_80_code
def yX3_isSlot : MethodName := ⟨RX3, "isSlot", "(I)Z"⟩
def dkwX3_isSlot_0 : List UInt8 := [26, 3, 7, 184, 0, 85, 172]
abbrev dktX3_isSlot_0 : List UInt8 := dkwX3_isSlot_0 ++ []
theorem dksX3_isSlot_0 : cX3_isSlot.data.toList.drop 0 = dktX3_isSlot_0 := by decide +kernel
theorem dX3_isSlot_0 : decode cX3_isSlot 0 = .ok (.iload_n 0, 1) := dk_26 (dk_at dksX3_isSlot_0 0 rfl rfl)
theorem dX3_isSlot_1 : decode cX3_isSlot 1 = .ok (.iconst 0, 1) := dk_3 (dk_at dksX3_isSlot_0 1 rfl rfl)
theorem dX3_isSlot_2 : decode cX3_isSlot 2 = .ok (.iconst 4, 1) := dk_7 (dk_at dksX3_isSlot_0 2 rfl rfl)
theorem dX3_isSlot_3 : decode cX3_isSlot 3 = .ok (.invokestatic 85, 3) := dk_184 0 85 (dk_at dksX3_isSlot_0 3 rfl rfl)
theorem dX3_isSlot_6 : decode cX3_isSlot 6 = .ok (.ireturn, 1) := dk_172 (dk_at dksX3_isSlot_0 6 rfl rfl)
abbrev cX3_ask : ByteArray := prog_22_method_87_code
def yX3_ask : MethodName := ⟨RX3, "ask", "(II)I"⟩
def dkwX3_ask_2 : List UInt8 := [184, 0, 111, 153, 0, 12, 42, 180, 0, 72, 27, 46, 167, 0, 5, 18, 115, 172]
abbrev dktX3_ask_2 : List UInt8 := dkwX3_ask_2 ++ []
def dkwX3_ask_1 : List UInt8 := [46, 154, 0, 6, 18, 170, 172, 42, 180, 0, 66, 27, 46, 4, 160, 0, 25, 42, 180, 0, 69, 27, 46, 28]
abbrev dktX3_ask_1 : List UInt8 := dkwX3_ask_1 ++ dktX3_ask_2
def dkwX3_ask_0 : List UInt8 := [27, 184, 1, 30, 153, 0, 12, 28, 3, 8, 184, 0, 85, 154, 0, 6, 18, 93, 172, 42, 180, 0, 66, 27]
abbrev dktX3_ask_0 : List UInt8 := dkwX3_ask_0 ++ dktX3_ask_1
theorem dksX3_ask_0 : cX3_ask.data.toList.drop 0 = dktX3_ask_0 := by decide +kernel
theorem dksX3_ask_1 : cX3_ask.data.toList.drop 24 = dktX3_ask_1 := dk_seg dksX3_ask_0 24 rfl rfl
theorem dksX3_ask_2 : cX3_ask.data.toList.drop 48 = dktX3_ask_2 := dk_seg dksX3_ask_1 24 rfl rfl
theorem dX3_ask_0 : decode cX3_ask 0 = .ok (.iload_n 1, 1) := dk_27 (dk_at dksX3_ask_0 0 rfl rfl)
theorem dX3_ask_1 : decode cX3_ask 1 = .ok (.invokestatic 286, 3) := dk_184 1 30 (dk_at dksX3_ask_0 1 rfl rfl)
theorem dX3_ask_4 : decode cX3_ask 4 = .ok (.ifCond .eq 12, 3) := dk_153 0 12 (dk_at dksX3_ask_0 4 rfl rfl)
theorem dX3_ask_7 : decode cX3_ask 7 = .ok (.iload_n 2, 1) := dk_28 (dk_at dksX3_ask_0 7 rfl rfl)
theorem dX3_ask_8 : decode cX3_ask 8 = .ok (.iconst 0, 1) := dk_3 (dk_at dksX3_ask_0 8 rfl rfl)
theorem dX3_ask_9 : decode cX3_ask 9 = .ok (.iconst 5, 1) := dk_8 (dk_at dksX3_ask_0 9 rfl rfl)
theorem dX3_ask_10 : decode cX3_ask 10 = .ok (.invokestatic 85, 3) := dk_184 0 85 (dk_at dksX3_ask_0 10 rfl rfl)
theorem dX3_ask_13 : decode cX3_ask 13 = .ok (.ifCond .ne 6, 3) := dk_154 0 6 (dk_at dksX3_ask_0 13 rfl rfl)
theorem dX3_ask_16 : decode cX3_ask 16 = .ok (.ldc 93, 2) := dk_18 93 (dk_at dksX3_ask_0 16 rfl rfl)
theorem dX3_ask_18 : decode cX3_ask 18 = .ok (.ireturn, 1) := dk_172 (dk_at dksX3_ask_0 18 rfl rfl)
theorem dX3_ask_19 : decode cX3_ask 19 = .ok (.aload_n 0, 1) := dk_42 (dk_at dksX3_ask_0 19 rfl rfl)
theorem dX3_ask_20 : decode cX3_ask 20 = .ok (.getfield 66, 3) := dk_180 0 66 (dk_at dksX3_ask_0 20 rfl rfl)
theorem dX3_ask_23 : decode cX3_ask 23 = .ok (.iload_n 1, 1) := dk_27 (dk_at dksX3_ask_0 23 rfl rfl)
theorem dX3_ask_24 : decode cX3_ask 24 = .ok (.iaload, 1) := dk_46 (dk_at dksX3_ask_1 0 rfl rfl)
theorem dX3_ask_25 : decode cX3_ask 25 = .ok (.ifCond .ne 6, 3) := dk_154 0 6 (dk_at dksX3_ask_1 1 rfl rfl)
theorem dX3_ask_28 : decode cX3_ask 28 = .ok (.ldc 170, 2) := dk_18 170 (dk_at dksX3_ask_1 4 rfl rfl)
theorem dX3_ask_30 : decode cX3_ask 30 = .ok (.ireturn, 1) := dk_172 (dk_at dksX3_ask_1 6 rfl rfl)
theorem dX3_ask_31 : decode cX3_ask 31 = .ok (.aload_n 0, 1) := dk_42 (dk_at dksX3_ask_1 7 rfl rfl)
theorem dX3_ask_32 : decode cX3_ask 32 = .ok (.getfield 66, 3) := dk_180 0 66 (dk_at dksX3_ask_1 8 rfl rfl)
theorem dX3_ask_35 : decode cX3_ask 35 = .ok (.iload_n 1, 1) := dk_27 (dk_at dksX3_ask_1 11 rfl rfl)
theorem dX3_ask_36 : decode cX3_ask 36 = .ok (.iaload, 1) := dk_46 (dk_at dksX3_ask_1 12 rfl rfl)
theorem dX3_ask_37 : decode cX3_ask 37 = .ok (.iconst 1, 1) := dk_4 (dk_at dksX3_ask_1 13 rfl rfl)
theorem dX3_ask_38 : decode cX3_ask 38 = .ok (.if_icmp .ne 25, 3) := dk_160 0 25 (dk_at dksX3_ask_1 14 rfl rfl)
theorem dX3_ask_41 : decode cX3_ask 41 = .ok (.aload_n 0, 1) := dk_42 (dk_at dksX3_ask_1 17 rfl rfl)
theorem dX3_ask_42 : decode cX3_ask 42 = .ok (.getfield 69, 3) := dk_180 0 69 (dk_at dksX3_ask_1 18 rfl rfl)
theorem dX3_ask_45 : decode cX3_ask 45 = .ok (.iload_n 1, 1) := dk_27 (dk_at dksX3_ask_1 21 rfl rfl)
theorem dX3_ask_46 : decode cX3_ask 46 = .ok (.iaload, 1) := dk_46 (dk_at dksX3_ask_1 22 rfl rfl)
theorem dX3_ask_47 : decode cX3_ask 47 = .ok (.iload_n 2, 1) := dk_28 (dk_at dksX3_ask_1 23 rfl rfl)
theorem dX3_ask_48 : decode cX3_ask 48 = .ok (.invokestatic 111, 3) := dk_184 0 111 (dk_at dksX3_ask_2 0 rfl rfl)
theorem dX3_ask_51 : decode cX3_ask 51 = .ok (.ifCond .eq 12, 3) := dk_153 0 12 (dk_at dksX3_ask_2 3 rfl rfl)
theorem dX3_ask_54 : decode cX3_ask 54 = .ok (.aload_n 0, 1) := dk_42 (dk_at dksX3_ask_2 6 rfl rfl)
theorem dX3_ask_55 : decode cX3_ask 55 = .ok (.getfield 72, 3) := dk_180 0 72 (dk_at dksX3_ask_2 7 rfl rfl)
theorem dX3_ask_58 : decode cX3_ask 58 = .ok (.iload_n 1, 1) := dk_27 (dk_at dksX3_ask_2 10 rfl rfl)
theorem dX3_ask_59 : decode cX3_ask 59 = .ok (.iaload, 1) := dk_46 (dk_at dksX3_ask_2 11 rfl rfl)
theorem dX3_ask_60 : decode cX3_ask 60 = .ok (.goto 5, 3) := dk_167 0 5 (dk_at dksX3_ask_2 12 rfl rfl)
theorem dX3_ask_63 : decode cX3_ask 63 = .ok (.ldc 115, 2) := dk_18 115 (dk_at dksX3_ask_2 15 rfl rfl)
theorem dX3_ask_65 : decode cX3_ask 65 = .ok (.ireturn, 1) := dk_172 (dk_at dksX3_ask_2 17 rfl rfl)
abbrev cX3_item : ByteArray := prog_22_method_88_code
def yX3_item : MethodName := ⟨RX3, "item", "(II)I"⟩
def dkwX3_item_3 : List UInt8 := [18, 84, 160, 0, 8, 18, 115, 167, 0, 4, 29, 172]
abbrev dktX3_item_3 : List UInt8 := dkwX3_item_3 ++ []
def dkwX3_item_2 : List UInt8 := [184, 0, 85, 154, 0, 7, 19, 1, 27, 172, 42, 180, 0, 75, 16, 24, 27, 104, 28, 96, 46, 62, 29]
abbrev dktX3_item_2 : List UInt8 := dkwX3_item_2 ++ dktX3_item_3
def dkwX3_item_1 : List UInt8 := [180, 0, 66, 27, 46, 5, 159, 0, 6, 18, 115, 172, 28, 3, 42, 180, 0, 69, 27, 46, 4, 100]
abbrev dktX3_item_1 : List UInt8 := dkwX3_item_1 ++ dktX3_item_2
def dkwX3_item_0 : List UInt8 := [27, 184, 1, 30, 154, 0, 6, 18, 93, 172, 42, 180, 0, 66, 27, 46, 154, 0, 6, 18, 170, 172, 42]
abbrev dktX3_item_0 : List UInt8 := dkwX3_item_0 ++ dktX3_item_1
theorem dksX3_item_0 : cX3_item.data.toList.drop 0 = dktX3_item_0 := by decide +kernel
theorem dksX3_item_1 : cX3_item.data.toList.drop 23 = dktX3_item_1 := dk_seg dksX3_item_0 23 rfl rfl
theorem dksX3_item_2 : cX3_item.data.toList.drop 45 = dktX3_item_2 := dk_seg dksX3_item_1 22 rfl rfl
theorem dksX3_item_3 : cX3_item.data.toList.drop 68 = dktX3_item_3 := dk_seg dksX3_item_2 23 rfl rfl
theorem dX3_item_0 : decode cX3_item 0 = .ok (.iload_n 1, 1) := dk_27 (dk_at dksX3_item_0 0 rfl rfl)
theorem dX3_item_1 : decode cX3_item 1 = .ok (.invokestatic 286, 3) := dk_184 1 30 (dk_at dksX3_item_0 1 rfl rfl)
theorem dX3_item_4 : decode cX3_item 4 = .ok (.ifCond .ne 6, 3) := dk_154 0 6 (dk_at dksX3_item_0 4 rfl rfl)
theorem dX3_item_7 : decode cX3_item 7 = .ok (.ldc 93, 2) := dk_18 93 (dk_at dksX3_item_0 7 rfl rfl)
theorem dX3_item_9 : decode cX3_item 9 = .ok (.ireturn, 1) := dk_172 (dk_at dksX3_item_0 9 rfl rfl)
theorem dX3_item_10 : decode cX3_item 10 = .ok (.aload_n 0, 1) := dk_42 (dk_at dksX3_item_0 10 rfl rfl)
theorem dX3_item_11 : decode cX3_item 11 = .ok (.getfield 66, 3) := dk_180 0 66 (dk_at dksX3_item_0 11 rfl rfl)
theorem dX3_item_14 : decode cX3_item 14 = .ok (.iload_n 1, 1) := dk_27 (dk_at dksX3_item_0 14 rfl rfl)
theorem dX3_item_15 : decode cX3_item 15 = .ok (.iaload, 1) := dk_46 (dk_at dksX3_item_0 15 rfl rfl)
theorem dX3_item_16 : decode cX3_item 16 = .ok (.ifCond .ne 6, 3) := dk_154 0 6 (dk_at dksX3_item_0 16 rfl rfl)
theorem dX3_item_19 : decode cX3_item 19 = .ok (.ldc 170, 2) := dk_18 170 (dk_at dksX3_item_0 19 rfl rfl)
theorem dX3_item_21 : decode cX3_item 21 = .ok (.ireturn, 1) := dk_172 (dk_at dksX3_item_0 21 rfl rfl)
theorem dX3_item_22 : decode cX3_item 22 = .ok (.aload_n 0, 1) := dk_42 (dk_at dksX3_item_0 22 rfl rfl)
theorem dX3_item_23 : decode cX3_item 23 = .ok (.getfield 66, 3) := dk_180 0 66 (dk_at dksX3_item_1 0 rfl rfl)
theorem dX3_item_26 : decode cX3_item 26 = .ok (.iload_n 1, 1) := dk_27 (dk_at dksX3_item_1 3 rfl rfl)
theorem dX3_item_27 : decode cX3_item 27 = .ok (.iaload, 1) := dk_46 (dk_at dksX3_item_1 4 rfl rfl)
theorem dX3_item_28 : decode cX3_item 28 = .ok (.iconst 2, 1) := dk_5 (dk_at dksX3_item_1 5 rfl rfl)
theorem dX3_item_29 : decode cX3_item 29 = .ok (.if_icmp .eq 6, 3) := dk_159 0 6 (dk_at dksX3_item_1 6 rfl rfl)
theorem dX3_item_32 : decode cX3_item 32 = .ok (.ldc 115, 2) := dk_18 115 (dk_at dksX3_item_1 9 rfl rfl)
theorem dX3_item_34 : decode cX3_item 34 = .ok (.ireturn, 1) := dk_172 (dk_at dksX3_item_1 11 rfl rfl)
theorem dX3_item_35 : decode cX3_item 35 = .ok (.iload_n 2, 1) := dk_28 (dk_at dksX3_item_1 12 rfl rfl)
theorem dX3_item_36 : decode cX3_item 36 = .ok (.iconst 0, 1) := dk_3 (dk_at dksX3_item_1 13 rfl rfl)
theorem dX3_item_37 : decode cX3_item 37 = .ok (.aload_n 0, 1) := dk_42 (dk_at dksX3_item_1 14 rfl rfl)
theorem dX3_item_38 : decode cX3_item 38 = .ok (.getfield 69, 3) := dk_180 0 69 (dk_at dksX3_item_1 15 rfl rfl)
theorem dX3_item_41 : decode cX3_item 41 = .ok (.iload_n 1, 1) := dk_27 (dk_at dksX3_item_1 18 rfl rfl)
theorem dX3_item_42 : decode cX3_item 42 = .ok (.iaload, 1) := dk_46 (dk_at dksX3_item_1 19 rfl rfl)
theorem dX3_item_43 : decode cX3_item 43 = .ok (.iconst 1, 1) := dk_4 (dk_at dksX3_item_1 20 rfl rfl)
theorem dX3_item_44 : decode cX3_item 44 = .ok (.isub, 1) := dk_100 (dk_at dksX3_item_1 21 rfl rfl)
theorem dX3_item_45 : decode cX3_item 45 = .ok (.invokestatic 85, 3) := dk_184 0 85 (dk_at dksX3_item_2 0 rfl rfl)
theorem dX3_item_48 : decode cX3_item 48 = .ok (.ifCond .ne 7, 3) := dk_154 0 7 (dk_at dksX3_item_2 3 rfl rfl)
theorem dX3_item_51 : decode cX3_item 51 = .ok (.ldc_w 283, 3) := dk_19 1 27 (dk_at dksX3_item_2 6 rfl rfl)
theorem dX3_item_54 : decode cX3_item 54 = .ok (.ireturn, 1) := dk_172 (dk_at dksX3_item_2 9 rfl rfl)
theorem dX3_item_55 : decode cX3_item 55 = .ok (.aload_n 0, 1) := dk_42 (dk_at dksX3_item_2 10 rfl rfl)
theorem dX3_item_56 : decode cX3_item 56 = .ok (.getfield 75, 3) := dk_180 0 75 (dk_at dksX3_item_2 11 rfl rfl)
theorem dX3_item_59 : decode cX3_item 59 = .ok (.bipush 24, 2) := dk_16 24 (dk_at dksX3_item_2 14 rfl rfl)
theorem dX3_item_61 : decode cX3_item 61 = .ok (.iload_n 1, 1) := dk_27 (dk_at dksX3_item_2 16 rfl rfl)
theorem dX3_item_62 : decode cX3_item 62 = .ok (.imul, 1) := dk_104 (dk_at dksX3_item_2 17 rfl rfl)
theorem dX3_item_63 : decode cX3_item 63 = .ok (.iload_n 2, 1) := dk_28 (dk_at dksX3_item_2 18 rfl rfl)
theorem dX3_item_64 : decode cX3_item 64 = .ok (.iadd, 1) := dk_96 (dk_at dksX3_item_2 19 rfl rfl)
theorem dX3_item_65 : decode cX3_item 65 = .ok (.iaload, 1) := dk_46 (dk_at dksX3_item_2 20 rfl rfl)
theorem dX3_item_66 : decode cX3_item 66 = .ok (.istore_n 3, 1) := dk_62 (dk_at dksX3_item_2 21 rfl rfl)
theorem dX3_item_67 : decode cX3_item 67 = .ok (.iload_n 3, 1) := dk_29 (dk_at dksX3_item_2 22 rfl rfl)
theorem dX3_item_68 : decode cX3_item 68 = .ok (.ldc 84, 2) := dk_18 84 (dk_at dksX3_item_3 0 rfl rfl)
theorem dX3_item_70 : decode cX3_item 70 = .ok (.if_icmp .ne 8, 3) := dk_160 0 8 (dk_at dksX3_item_3 2 rfl rfl)
theorem dX3_item_73 : decode cX3_item 73 = .ok (.ldc 115, 2) := dk_18 115 (dk_at dksX3_item_3 5 rfl rfl)
theorem dX3_item_75 : decode cX3_item 75 = .ok (.goto 4, 3) := dk_167 0 4 (dk_at dksX3_item_3 7 rfl rfl)
theorem dX3_item_78 : decode cX3_item 78 = .ok (.iload_n 3, 1) := dk_29 (dk_at dksX3_item_3 10 rfl rfl)
theorem dX3_item_79 : decode cX3_item 79 = .ok (.ireturn, 1) := dk_172 (dk_at dksX3_item_3 11 rfl rfl)
abbrev cX3_rest : ByteArray := prog_22_method_89_code
def yX3_rest : MethodName := ⟨RX3, "rest", "(II)I"⟩
def dkwX3_rest_2 : List UInt8 := [160, 0, 7, 3, 167, 0, 11, 42, 180, 0, 69, 27, 46, 28, 112, 172]
abbrev dktX3_rest_2 : List UInt8 := dkwX3_rest_2 ++ []
def dkwX3_rest_1 : List UInt8 := [180, 0, 66, 27, 46, 6, 159, 0, 6, 18, 115, 172, 28, 154, 0, 9, 19, 1, 33, 167, 0, 20, 28, 2]
abbrev dktX3_rest_1 : List UInt8 := dkwX3_rest_1 ++ dktX3_rest_2
def dkwX3_rest_0 : List UInt8 := [27, 184, 1, 30, 154, 0, 6, 18, 93, 172, 42, 180, 0, 66, 27, 46, 154, 0, 6, 18, 170, 172, 42]
abbrev dktX3_rest_0 : List UInt8 := dkwX3_rest_0 ++ dktX3_rest_1
theorem dksX3_rest_0 : cX3_rest.data.toList.drop 0 = dktX3_rest_0 := by decide +kernel
theorem dksX3_rest_1 : cX3_rest.data.toList.drop 23 = dktX3_rest_1 := dk_seg dksX3_rest_0 23 rfl rfl
theorem dksX3_rest_2 : cX3_rest.data.toList.drop 47 = dktX3_rest_2 := dk_seg dksX3_rest_1 24 rfl rfl
theorem dX3_rest_0 : decode cX3_rest 0 = .ok (.iload_n 1, 1) := dk_27 (dk_at dksX3_rest_0 0 rfl rfl)
theorem dX3_rest_1 : decode cX3_rest 1 = .ok (.invokestatic 286, 3) := dk_184 1 30 (dk_at dksX3_rest_0 1 rfl rfl)
theorem dX3_rest_4 : decode cX3_rest 4 = .ok (.ifCond .ne 6, 3) := dk_154 0 6 (dk_at dksX3_rest_0 4 rfl rfl)
theorem dX3_rest_7 : decode cX3_rest 7 = .ok (.ldc 93, 2) := dk_18 93 (dk_at dksX3_rest_0 7 rfl rfl)
theorem dX3_rest_9 : decode cX3_rest 9 = .ok (.ireturn, 1) := dk_172 (dk_at dksX3_rest_0 9 rfl rfl)
theorem dX3_rest_10 : decode cX3_rest 10 = .ok (.aload_n 0, 1) := dk_42 (dk_at dksX3_rest_0 10 rfl rfl)
theorem dX3_rest_11 : decode cX3_rest 11 = .ok (.getfield 66, 3) := dk_180 0 66 (dk_at dksX3_rest_0 11 rfl rfl)
theorem dX3_rest_14 : decode cX3_rest 14 = .ok (.iload_n 1, 1) := dk_27 (dk_at dksX3_rest_0 14 rfl rfl)
theorem dX3_rest_15 : decode cX3_rest 15 = .ok (.iaload, 1) := dk_46 (dk_at dksX3_rest_0 15 rfl rfl)
theorem dX3_rest_16 : decode cX3_rest 16 = .ok (.ifCond .ne 6, 3) := dk_154 0 6 (dk_at dksX3_rest_0 16 rfl rfl)
theorem dX3_rest_19 : decode cX3_rest 19 = .ok (.ldc 170, 2) := dk_18 170 (dk_at dksX3_rest_0 19 rfl rfl)
theorem dX3_rest_21 : decode cX3_rest 21 = .ok (.ireturn, 1) := dk_172 (dk_at dksX3_rest_0 21 rfl rfl)
theorem dX3_rest_22 : decode cX3_rest 22 = .ok (.aload_n 0, 1) := dk_42 (dk_at dksX3_rest_0 22 rfl rfl)
theorem dX3_rest_23 : decode cX3_rest 23 = .ok (.getfield 66, 3) := dk_180 0 66 (dk_at dksX3_rest_1 0 rfl rfl)
theorem dX3_rest_26 : decode cX3_rest 26 = .ok (.iload_n 1, 1) := dk_27 (dk_at dksX3_rest_1 3 rfl rfl)
theorem dX3_rest_27 : decode cX3_rest 27 = .ok (.iaload, 1) := dk_46 (dk_at dksX3_rest_1 4 rfl rfl)
theorem dX3_rest_28 : decode cX3_rest 28 = .ok (.iconst 3, 1) := dk_6 (dk_at dksX3_rest_1 5 rfl rfl)
theorem dX3_rest_29 : decode cX3_rest 29 = .ok (.if_icmp .eq 6, 3) := dk_159 0 6 (dk_at dksX3_rest_1 6 rfl rfl)
theorem dX3_rest_32 : decode cX3_rest 32 = .ok (.ldc 115, 2) := dk_18 115 (dk_at dksX3_rest_1 9 rfl rfl)
theorem dX3_rest_34 : decode cX3_rest 34 = .ok (.ireturn, 1) := dk_172 (dk_at dksX3_rest_1 11 rfl rfl)
theorem dX3_rest_35 : decode cX3_rest 35 = .ok (.iload_n 2, 1) := dk_28 (dk_at dksX3_rest_1 12 rfl rfl)
theorem dX3_rest_36 : decode cX3_rest 36 = .ok (.ifCond .ne 9, 3) := dk_154 0 9 (dk_at dksX3_rest_1 13 rfl rfl)
theorem dX3_rest_39 : decode cX3_rest 39 = .ok (.ldc_w 289, 3) := dk_19 1 33 (dk_at dksX3_rest_1 16 rfl rfl)
theorem dX3_rest_42 : decode cX3_rest 42 = .ok (.goto 20, 3) := dk_167 0 20 (dk_at dksX3_rest_1 19 rfl rfl)
theorem dX3_rest_45 : decode cX3_rest 45 = .ok (.iload_n 2, 1) := dk_28 (dk_at dksX3_rest_1 22 rfl rfl)
theorem dX3_rest_46 : decode cX3_rest 46 = .ok (.iconst (-1), 1) := dk_2 (dk_at dksX3_rest_1 23 rfl rfl)
theorem dX3_rest_47 : decode cX3_rest 47 = .ok (.if_icmp .ne 7, 3) := dk_160 0 7 (dk_at dksX3_rest_2 0 rfl rfl)
theorem dX3_rest_50 : decode cX3_rest 50 = .ok (.iconst 0, 1) := dk_3 (dk_at dksX3_rest_2 3 rfl rfl)
theorem dX3_rest_51 : decode cX3_rest 51 = .ok (.goto 11, 3) := dk_167 0 11 (dk_at dksX3_rest_2 4 rfl rfl)
theorem dX3_rest_54 : decode cX3_rest 54 = .ok (.aload_n 0, 1) := dk_42 (dk_at dksX3_rest_2 7 rfl rfl)
theorem dX3_rest_55 : decode cX3_rest 55 = .ok (.getfield 69, 3) := dk_180 0 69 (dk_at dksX3_rest_2 8 rfl rfl)
theorem dX3_rest_58 : decode cX3_rest 58 = .ok (.iload_n 1, 1) := dk_27 (dk_at dksX3_rest_2 11 rfl rfl)
theorem dX3_rest_59 : decode cX3_rest 59 = .ok (.iaload, 1) := dk_46 (dk_at dksX3_rest_2 12 rfl rfl)
theorem dX3_rest_60 : decode cX3_rest 60 = .ok (.iload_n 2, 1) := dk_28 (dk_at dksX3_rest_2 13 rfl rfl)
theorem dX3_rest_61 : decode cX3_rest 61 = .ok (.irem, 1) := dk_112 (dk_at dksX3_rest_2 14 rfl rfl)
theorem dX3_rest_62 : decode cX3_rest 62 = .ok (.ireturn, 1) := dk_172 (dk_at dksX3_rest_2 15 rfl rfl)
abbrev cX3_tell : ByteArray := prog_22_method_90_code
def yX3_tell : MethodName := ⟨RX3, "tell", "(I)I"⟩
def dkwX3_tell_1 : List UInt8 := [180, 1, 34, 4, 96, 181, 1, 34, 42, 180, 1, 34, 172]
abbrev dktX3_tell_1 : List UInt8 := dkwX3_tell_1 ++ []
def dkwX3_tell_0 : List UInt8 := [42, 180, 1, 34, 16, 60, 160, 0, 6, 18, 94, 172, 42, 180, 0, 81, 42, 180, 1, 34, 27, 79, 42, 89]
abbrev dktX3_tell_0 : List UInt8 := dkwX3_tell_0 ++ dktX3_tell_1
theorem dksX3_tell_0 : cX3_tell.data.toList.drop 0 = dktX3_tell_0 := by decide +kernel
theorem dksX3_tell_1 : cX3_tell.data.toList.drop 24 = dktX3_tell_1 := dk_seg dksX3_tell_0 24 rfl rfl
theorem dX3_tell_0 : decode cX3_tell 0 = .ok (.aload_n 0, 1) := dk_42 (dk_at dksX3_tell_0 0 rfl rfl)
theorem dX3_tell_1 : decode cX3_tell 1 = .ok (.getfield 290, 3) := dk_180 1 34 (dk_at dksX3_tell_0 1 rfl rfl)
theorem dX3_tell_4 : decode cX3_tell 4 = .ok (.bipush 60, 2) := dk_16 60 (dk_at dksX3_tell_0 4 rfl rfl)
theorem dX3_tell_6 : decode cX3_tell 6 = .ok (.if_icmp .ne 6, 3) := dk_160 0 6 (dk_at dksX3_tell_0 6 rfl rfl)
theorem dX3_tell_9 : decode cX3_tell 9 = .ok (.ldc 94, 2) := dk_18 94 (dk_at dksX3_tell_0 9 rfl rfl)
theorem dX3_tell_11 : decode cX3_tell 11 = .ok (.ireturn, 1) := dk_172 (dk_at dksX3_tell_0 11 rfl rfl)
theorem dX3_tell_12 : decode cX3_tell 12 = .ok (.aload_n 0, 1) := dk_42 (dk_at dksX3_tell_0 12 rfl rfl)
theorem dX3_tell_13 : decode cX3_tell 13 = .ok (.getfield 81, 3) := dk_180 0 81 (dk_at dksX3_tell_0 13 rfl rfl)
theorem dX3_tell_16 : decode cX3_tell 16 = .ok (.aload_n 0, 1) := dk_42 (dk_at dksX3_tell_0 16 rfl rfl)
theorem dX3_tell_17 : decode cX3_tell 17 = .ok (.getfield 290, 3) := dk_180 1 34 (dk_at dksX3_tell_0 17 rfl rfl)
theorem dX3_tell_20 : decode cX3_tell 20 = .ok (.iload_n 1, 1) := dk_27 (dk_at dksX3_tell_0 20 rfl rfl)
theorem dX3_tell_21 : decode cX3_tell 21 = .ok (.iastore, 1) := dk_79 (dk_at dksX3_tell_0 21 rfl rfl)
theorem dX3_tell_22 : decode cX3_tell 22 = .ok (.aload_n 0, 1) := dk_42 (dk_at dksX3_tell_0 22 rfl rfl)
theorem dX3_tell_23 : decode cX3_tell 23 = .ok (.dup, 1) := dk_89 (dk_at dksX3_tell_0 23 rfl rfl)
theorem dX3_tell_24 : decode cX3_tell 24 = .ok (.getfield 290, 3) := dk_180 1 34 (dk_at dksX3_tell_1 0 rfl rfl)
theorem dX3_tell_27 : decode cX3_tell 27 = .ok (.iconst 1, 1) := dk_4 (dk_at dksX3_tell_1 3 rfl rfl)
theorem dX3_tell_28 : decode cX3_tell 28 = .ok (.iadd, 1) := dk_96 (dk_at dksX3_tell_1 4 rfl rfl)
theorem dX3_tell_29 : decode cX3_tell 29 = .ok (.putfield 290, 3) := dk_181 1 34 (dk_at dksX3_tell_1 5 rfl rfl)
theorem dX3_tell_32 : decode cX3_tell 32 = .ok (.aload_n 0, 1) := dk_42 (dk_at dksX3_tell_1 8 rfl rfl)
theorem dX3_tell_33 : decode cX3_tell 33 = .ok (.getfield 290, 3) := dk_180 1 34 (dk_at dksX3_tell_1 9 rfl rfl)
theorem dX3_tell_36 : decode cX3_tell 36 = .ok (.ireturn, 1) := dk_172 (dk_at dksX3_tell_1 12 rfl rfl)
abbrev cX3_check : ByteArray := prog_22_method_91_code
def yX3_check : MethodName := ⟨RX3, "check", "(I)I"⟩
def dkwX3_check_9 : List UInt8 := [21, 4, 96, 172]
abbrev dktX3_check_9 : List UInt8 := dkwX3_check_9 ++ []
def dkwX3_check_8 : List UInt8 := [42, 180, 0, 9, 184, 1, 41, 21, 4, 28, 160, 0, 13, 21, 4, 29, 160, 0, 7, 3, 167, 0, 7, 4]
abbrev dktX3_check_8 : List UInt8 := dkwX3_check_8 ++ dktX3_check_9
def dkwX3_check_7 : List UInt8 := [182, 0, 192, 160, 0, 7, 4, 167, 0, 4, 3, 96, 54, 4, 132, 5, 1, 167, 255, 158, 42, 180, 0, 16]
abbrev dktX3_check_7 : List UInt8 := dkwX3_check_7 ++ dktX3_check_8
def dkwX3_check_6 : List UInt8 := [21, 5, 104, 4, 96, 160, 0, 27, 21, 4, 28, 162, 0, 21, 42, 180, 0, 81, 21, 4, 46, 42]
abbrev dktX3_check_6 : List UInt8 := dkwX3_check_6 ++ dktX3_check_7
def dkwX3_check_5 : List UInt8 := [21, 4, 46, 42, 182, 0, 189, 160, 0, 7, 4, 167, 0, 4, 3, 96, 54, 4, 21, 4, 21, 4, 5]
abbrev dktX3_check_5 : List UInt8 := dkwX3_check_5 ++ dktX3_check_6
def dkwX3_check_4 : List UInt8 := [104, 160, 0, 87, 42, 2, 182, 0, 177, 54, 6, 21, 4, 21, 4, 28, 162, 0, 21, 42, 180, 0, 81]
abbrev dktX3_check_4 : List UInt8 := dkwX3_check_4 ++ dktX3_check_5
def dkwX3_check_3 : List UInt8 := [184, 0, 128, 104, 62, 3, 54, 4, 3, 54, 5, 5, 21, 5, 104, 29, 162, 0, 96, 21, 4, 5, 21, 5]
abbrev dktX3_check_3 : List UInt8 := dkwX3_check_3 ++ dktX3_check_4
def dkwX3_check_2 : List UInt8 := [180, 0, 13, 42, 180, 0, 9, 184, 1, 41, 5, 17, 39, 15, 42, 180, 0, 9, 5, 46, 100, 3, 27]
abbrev dktX3_check_2 : List UInt8 := dkwX3_check_2 ++ dktX3_check_3
def dkwX3_check_1 : List UInt8 := [180, 1, 37, 154, 0, 7, 19, 1, 33, 172, 42, 180, 0, 9, 42, 180, 0, 16, 184, 1, 41, 42]
abbrev dktX3_check_1 : List UInt8 := dkwX3_check_1 ++ dktX3_check_2
def dkwX3_check_0 : List UInt8 := [42, 180, 1, 34, 61, 42, 3, 181, 1, 34, 27, 4, 16, 30, 184, 0, 85, 154, 0, 6, 18, 93, 172, 42]
abbrev dktX3_check_0 : List UInt8 := dkwX3_check_0 ++ dktX3_check_1
theorem dksX3_check_0 : cX3_check.data.toList.drop 0 = dktX3_check_0 := by decide +kernel
theorem dksX3_check_1 : cX3_check.data.toList.drop 24 = dktX3_check_1 := dk_seg dksX3_check_0 24 rfl rfl
theorem dksX3_check_2 : cX3_check.data.toList.drop 46 = dktX3_check_2 := dk_seg dksX3_check_1 22 rfl rfl
theorem dksX3_check_3 : cX3_check.data.toList.drop 69 = dktX3_check_3 := dk_seg dksX3_check_2 23 rfl rfl
theorem dksX3_check_4 : cX3_check.data.toList.drop 93 = dktX3_check_4 := dk_seg dksX3_check_3 24 rfl rfl
theorem dksX3_check_5 : cX3_check.data.toList.drop 116 = dktX3_check_5 := dk_seg dksX3_check_4 23 rfl rfl
theorem dksX3_check_6 : cX3_check.data.toList.drop 139 = dktX3_check_6 := dk_seg dksX3_check_5 23 rfl rfl
theorem dksX3_check_7 : cX3_check.data.toList.drop 161 = dktX3_check_7 := dk_seg dksX3_check_6 22 rfl rfl
theorem dksX3_check_8 : cX3_check.data.toList.drop 185 = dktX3_check_8 := dk_seg dksX3_check_7 24 rfl rfl
theorem dksX3_check_9 : cX3_check.data.toList.drop 209 = dktX3_check_9 := dk_seg dksX3_check_8 24 rfl rfl
theorem dX3_check_0 : decode cX3_check 0 = .ok (.aload_n 0, 1) := dk_42 (dk_at dksX3_check_0 0 rfl rfl)
theorem dX3_check_1 : decode cX3_check 1 = .ok (.getfield 290, 3) := dk_180 1 34 (dk_at dksX3_check_0 1 rfl rfl)
theorem dX3_check_4 : decode cX3_check 4 = .ok (.istore_n 2, 1) := dk_61 (dk_at dksX3_check_0 4 rfl rfl)
theorem dX3_check_5 : decode cX3_check 5 = .ok (.aload_n 0, 1) := dk_42 (dk_at dksX3_check_0 5 rfl rfl)
theorem dX3_check_6 : decode cX3_check 6 = .ok (.iconst 0, 1) := dk_3 (dk_at dksX3_check_0 6 rfl rfl)
theorem dX3_check_7 : decode cX3_check 7 = .ok (.putfield 290, 3) := dk_181 1 34 (dk_at dksX3_check_0 7 rfl rfl)
theorem dX3_check_10 : decode cX3_check 10 = .ok (.iload_n 1, 1) := dk_27 (dk_at dksX3_check_0 10 rfl rfl)
theorem dX3_check_11 : decode cX3_check 11 = .ok (.iconst 1, 1) := dk_4 (dk_at dksX3_check_0 11 rfl rfl)
theorem dX3_check_12 : decode cX3_check 12 = .ok (.bipush 30, 2) := dk_16 30 (dk_at dksX3_check_0 12 rfl rfl)
theorem dX3_check_14 : decode cX3_check 14 = .ok (.invokestatic 85, 3) := dk_184 0 85 (dk_at dksX3_check_0 14 rfl rfl)
theorem dX3_check_17 : decode cX3_check 17 = .ok (.ifCond .ne 6, 3) := dk_154 0 6 (dk_at dksX3_check_0 17 rfl rfl)
theorem dX3_check_20 : decode cX3_check 20 = .ok (.ldc 93, 2) := dk_18 93 (dk_at dksX3_check_0 20 rfl rfl)
theorem dX3_check_22 : decode cX3_check 22 = .ok (.ireturn, 1) := dk_172 (dk_at dksX3_check_0 22 rfl rfl)
theorem dX3_check_23 : decode cX3_check 23 = .ok (.aload_n 0, 1) := dk_42 (dk_at dksX3_check_0 23 rfl rfl)
theorem dX3_check_24 : decode cX3_check 24 = .ok (.getfield 293, 3) := dk_180 1 37 (dk_at dksX3_check_1 0 rfl rfl)
theorem dX3_check_27 : decode cX3_check 27 = .ok (.ifCond .ne 7, 3) := dk_154 0 7 (dk_at dksX3_check_1 3 rfl rfl)
theorem dX3_check_30 : decode cX3_check 30 = .ok (.ldc_w 289, 3) := dk_19 1 33 (dk_at dksX3_check_1 6 rfl rfl)
theorem dX3_check_33 : decode cX3_check 33 = .ok (.ireturn, 1) := dk_172 (dk_at dksX3_check_1 9 rfl rfl)
theorem dX3_check_34 : decode cX3_check 34 = .ok (.aload_n 0, 1) := dk_42 (dk_at dksX3_check_1 10 rfl rfl)
theorem dX3_check_35 : decode cX3_check 35 = .ok (.getfield 9, 3) := dk_180 0 9 (dk_at dksX3_check_1 11 rfl rfl)
theorem dX3_check_38 : decode cX3_check 38 = .ok (.aload_n 0, 1) := dk_42 (dk_at dksX3_check_1 14 rfl rfl)
theorem dX3_check_39 : decode cX3_check 39 = .ok (.getfield 16, 3) := dk_180 0 16 (dk_at dksX3_check_1 15 rfl rfl)
theorem dX3_check_42 : decode cX3_check 42 = .ok (.invokestatic 297, 3) := dk_184 1 41 (dk_at dksX3_check_1 18 rfl rfl)
theorem dX3_check_45 : decode cX3_check 45 = .ok (.aload_n 0, 1) := dk_42 (dk_at dksX3_check_1 21 rfl rfl)
theorem dX3_check_46 : decode cX3_check 46 = .ok (.getfield 13, 3) := dk_180 0 13 (dk_at dksX3_check_2 0 rfl rfl)
theorem dX3_check_49 : decode cX3_check 49 = .ok (.aload_n 0, 1) := dk_42 (dk_at dksX3_check_2 3 rfl rfl)
theorem dX3_check_50 : decode cX3_check 50 = .ok (.getfield 9, 3) := dk_180 0 9 (dk_at dksX3_check_2 4 rfl rfl)
theorem dX3_check_53 : decode cX3_check 53 = .ok (.invokestatic 297, 3) := dk_184 1 41 (dk_at dksX3_check_2 7 rfl rfl)
theorem dX3_check_56 : decode cX3_check 56 = .ok (.iconst 2, 1) := dk_5 (dk_at dksX3_check_2 10 rfl rfl)
theorem dX3_check_57 : decode cX3_check 57 = .ok (.sipush 9999, 3) := dk_17 39 15 (dk_at dksX3_check_2 11 rfl rfl)
theorem dX3_check_60 : decode cX3_check 60 = .ok (.aload_n 0, 1) := dk_42 (dk_at dksX3_check_2 14 rfl rfl)
theorem dX3_check_61 : decode cX3_check 61 = .ok (.getfield 9, 3) := dk_180 0 9 (dk_at dksX3_check_2 15 rfl rfl)
theorem dX3_check_64 : decode cX3_check 64 = .ok (.iconst 2, 1) := dk_5 (dk_at dksX3_check_2 18 rfl rfl)
theorem dX3_check_65 : decode cX3_check 65 = .ok (.iaload, 1) := dk_46 (dk_at dksX3_check_2 19 rfl rfl)
theorem dX3_check_66 : decode cX3_check 66 = .ok (.isub, 1) := dk_100 (dk_at dksX3_check_2 20 rfl rfl)
theorem dX3_check_67 : decode cX3_check 67 = .ok (.iconst 0, 1) := dk_3 (dk_at dksX3_check_2 21 rfl rfl)
theorem dX3_check_68 : decode cX3_check 68 = .ok (.iload_n 1, 1) := dk_27 (dk_at dksX3_check_2 22 rfl rfl)
theorem dX3_check_69 : decode cX3_check 69 = .ok (.invokestatic 128, 3) := dk_184 0 128 (dk_at dksX3_check_3 0 rfl rfl)
theorem dX3_check_72 : decode cX3_check 72 = .ok (.imul, 1) := dk_104 (dk_at dksX3_check_3 3 rfl rfl)
theorem dX3_check_73 : decode cX3_check 73 = .ok (.istore_n 3, 1) := dk_62 (dk_at dksX3_check_3 4 rfl rfl)
theorem dX3_check_74 : decode cX3_check 74 = .ok (.iconst 0, 1) := dk_3 (dk_at dksX3_check_3 5 rfl rfl)
theorem dX3_check_75 : decode cX3_check 75 = .ok (.istore 4, 2) := dk_54 4 (dk_at dksX3_check_3 6 rfl rfl)
theorem dX3_check_77 : decode cX3_check 77 = .ok (.iconst 0, 1) := dk_3 (dk_at dksX3_check_3 8 rfl rfl)
theorem dX3_check_78 : decode cX3_check 78 = .ok (.istore 5, 2) := dk_54 5 (dk_at dksX3_check_3 9 rfl rfl)
theorem dX3_check_80 : decode cX3_check 80 = .ok (.iconst 2, 1) := dk_5 (dk_at dksX3_check_3 11 rfl rfl)
theorem dX3_check_81 : decode cX3_check 81 = .ok (.iload 5, 2) := dk_21 5 (dk_at dksX3_check_3 12 rfl rfl)
theorem dX3_check_83 : decode cX3_check 83 = .ok (.imul, 1) := dk_104 (dk_at dksX3_check_3 14 rfl rfl)
theorem dX3_check_84 : decode cX3_check 84 = .ok (.iload_n 3, 1) := dk_29 (dk_at dksX3_check_3 15 rfl rfl)
theorem dX3_check_85 : decode cX3_check 85 = .ok (.if_icmp .ge 96, 3) := dk_162 0 96 (dk_at dksX3_check_3 16 rfl rfl)
theorem dX3_check_88 : decode cX3_check 88 = .ok (.iload 4, 2) := dk_21 4 (dk_at dksX3_check_3 19 rfl rfl)
theorem dX3_check_90 : decode cX3_check 90 = .ok (.iconst 2, 1) := dk_5 (dk_at dksX3_check_3 21 rfl rfl)
theorem dX3_check_91 : decode cX3_check 91 = .ok (.iload 5, 2) := dk_21 5 (dk_at dksX3_check_3 22 rfl rfl)
theorem dX3_check_93 : decode cX3_check 93 = .ok (.imul, 1) := dk_104 (dk_at dksX3_check_4 0 rfl rfl)
theorem dX3_check_94 : decode cX3_check 94 = .ok (.if_icmp .ne 87, 3) := dk_160 0 87 (dk_at dksX3_check_4 1 rfl rfl)
theorem dX3_check_97 : decode cX3_check 97 = .ok (.aload_n 0, 1) := dk_42 (dk_at dksX3_check_4 4 rfl rfl)
theorem dX3_check_98 : decode cX3_check 98 = .ok (.iconst (-1), 1) := dk_2 (dk_at dksX3_check_4 5 rfl rfl)
theorem dX3_check_99 : decode cX3_check 99 = .ok (.invokevirtual 177, 3) := dk_182 0 177 (dk_at dksX3_check_4 6 rfl rfl)
theorem dX3_check_102 : decode cX3_check 102 = .ok (.istore 6, 2) := dk_54 6 (dk_at dksX3_check_4 9 rfl rfl)
theorem dX3_check_104 : decode cX3_check 104 = .ok (.iload 4, 2) := dk_21 4 (dk_at dksX3_check_4 11 rfl rfl)
theorem dX3_check_106 : decode cX3_check 106 = .ok (.iload 4, 2) := dk_21 4 (dk_at dksX3_check_4 13 rfl rfl)
theorem dX3_check_108 : decode cX3_check 108 = .ok (.iload_n 2, 1) := dk_28 (dk_at dksX3_check_4 15 rfl rfl)
theorem dX3_check_109 : decode cX3_check 109 = .ok (.if_icmp .ge 21, 3) := dk_162 0 21 (dk_at dksX3_check_4 16 rfl rfl)
theorem dX3_check_112 : decode cX3_check 112 = .ok (.aload_n 0, 1) := dk_42 (dk_at dksX3_check_4 19 rfl rfl)
theorem dX3_check_113 : decode cX3_check 113 = .ok (.getfield 81, 3) := dk_180 0 81 (dk_at dksX3_check_4 20 rfl rfl)
theorem dX3_check_116 : decode cX3_check 116 = .ok (.iload 4, 2) := dk_21 4 (dk_at dksX3_check_5 0 rfl rfl)
theorem dX3_check_118 : decode cX3_check 118 = .ok (.iaload, 1) := dk_46 (dk_at dksX3_check_5 2 rfl rfl)
theorem dX3_check_119 : decode cX3_check 119 = .ok (.aload_n 0, 1) := dk_42 (dk_at dksX3_check_5 3 rfl rfl)
theorem dX3_check_120 : decode cX3_check 120 = .ok (.invokevirtual 189, 3) := dk_182 0 189 (dk_at dksX3_check_5 4 rfl rfl)
theorem dX3_check_123 : decode cX3_check 123 = .ok (.if_icmp .ne 7, 3) := dk_160 0 7 (dk_at dksX3_check_5 7 rfl rfl)
theorem dX3_check_126 : decode cX3_check 126 = .ok (.iconst 1, 1) := dk_4 (dk_at dksX3_check_5 10 rfl rfl)
theorem dX3_check_127 : decode cX3_check 127 = .ok (.goto 4, 3) := dk_167 0 4 (dk_at dksX3_check_5 11 rfl rfl)
theorem dX3_check_130 : decode cX3_check 130 = .ok (.iconst 0, 1) := dk_3 (dk_at dksX3_check_5 14 rfl rfl)
theorem dX3_check_131 : decode cX3_check 131 = .ok (.iadd, 1) := dk_96 (dk_at dksX3_check_5 15 rfl rfl)
theorem dX3_check_132 : decode cX3_check 132 = .ok (.istore 4, 2) := dk_54 4 (dk_at dksX3_check_5 16 rfl rfl)
theorem dX3_check_134 : decode cX3_check 134 = .ok (.iload 4, 2) := dk_21 4 (dk_at dksX3_check_5 18 rfl rfl)
theorem dX3_check_136 : decode cX3_check 136 = .ok (.iload 4, 2) := dk_21 4 (dk_at dksX3_check_5 20 rfl rfl)
theorem dX3_check_138 : decode cX3_check 138 = .ok (.iconst 2, 1) := dk_5 (dk_at dksX3_check_5 22 rfl rfl)
theorem dX3_check_139 : decode cX3_check 139 = .ok (.iload 5, 2) := dk_21 5 (dk_at dksX3_check_6 0 rfl rfl)
theorem dX3_check_141 : decode cX3_check 141 = .ok (.imul, 1) := dk_104 (dk_at dksX3_check_6 2 rfl rfl)
theorem dX3_check_142 : decode cX3_check 142 = .ok (.iconst 1, 1) := dk_4 (dk_at dksX3_check_6 3 rfl rfl)
theorem dX3_check_143 : decode cX3_check 143 = .ok (.iadd, 1) := dk_96 (dk_at dksX3_check_6 4 rfl rfl)
theorem dX3_check_144 : decode cX3_check 144 = .ok (.if_icmp .ne 27, 3) := dk_160 0 27 (dk_at dksX3_check_6 5 rfl rfl)
theorem dX3_check_147 : decode cX3_check 147 = .ok (.iload 4, 2) := dk_21 4 (dk_at dksX3_check_6 8 rfl rfl)
theorem dX3_check_149 : decode cX3_check 149 = .ok (.iload_n 2, 1) := dk_28 (dk_at dksX3_check_6 10 rfl rfl)
theorem dX3_check_150 : decode cX3_check 150 = .ok (.if_icmp .ge 21, 3) := dk_162 0 21 (dk_at dksX3_check_6 11 rfl rfl)
theorem dX3_check_153 : decode cX3_check 153 = .ok (.aload_n 0, 1) := dk_42 (dk_at dksX3_check_6 14 rfl rfl)
theorem dX3_check_154 : decode cX3_check 154 = .ok (.getfield 81, 3) := dk_180 0 81 (dk_at dksX3_check_6 15 rfl rfl)
theorem dX3_check_157 : decode cX3_check 157 = .ok (.iload 4, 2) := dk_21 4 (dk_at dksX3_check_6 18 rfl rfl)
theorem dX3_check_159 : decode cX3_check 159 = .ok (.iaload, 1) := dk_46 (dk_at dksX3_check_6 20 rfl rfl)
theorem dX3_check_160 : decode cX3_check 160 = .ok (.aload_n 0, 1) := dk_42 (dk_at dksX3_check_6 21 rfl rfl)
theorem dX3_check_161 : decode cX3_check 161 = .ok (.invokevirtual 192, 3) := dk_182 0 192 (dk_at dksX3_check_7 0 rfl rfl)
theorem dX3_check_164 : decode cX3_check 164 = .ok (.if_icmp .ne 7, 3) := dk_160 0 7 (dk_at dksX3_check_7 3 rfl rfl)
theorem dX3_check_167 : decode cX3_check 167 = .ok (.iconst 1, 1) := dk_4 (dk_at dksX3_check_7 6 rfl rfl)
theorem dX3_check_168 : decode cX3_check 168 = .ok (.goto 4, 3) := dk_167 0 4 (dk_at dksX3_check_7 7 rfl rfl)
theorem dX3_check_171 : decode cX3_check 171 = .ok (.iconst 0, 1) := dk_3 (dk_at dksX3_check_7 10 rfl rfl)
theorem dX3_check_172 : decode cX3_check 172 = .ok (.iadd, 1) := dk_96 (dk_at dksX3_check_7 11 rfl rfl)
theorem dX3_check_173 : decode cX3_check 173 = .ok (.istore 4, 2) := dk_54 4 (dk_at dksX3_check_7 12 rfl rfl)
theorem dX3_check_175 : decode cX3_check 175 = .ok (.iinc 5 1, 3) := dk_132 5 1 (dk_at dksX3_check_7 14 rfl rfl)
theorem dX3_check_178 : decode cX3_check 178 = .ok (.goto (-98), 3) := dk_167 255 158 (dk_at dksX3_check_7 17 rfl rfl)
theorem dX3_check_181 : decode cX3_check 181 = .ok (.aload_n 0, 1) := dk_42 (dk_at dksX3_check_7 20 rfl rfl)
theorem dX3_check_182 : decode cX3_check 182 = .ok (.getfield 16, 3) := dk_180 0 16 (dk_at dksX3_check_7 21 rfl rfl)
theorem dX3_check_185 : decode cX3_check 185 = .ok (.aload_n 0, 1) := dk_42 (dk_at dksX3_check_8 0 rfl rfl)
theorem dX3_check_186 : decode cX3_check 186 = .ok (.getfield 9, 3) := dk_180 0 9 (dk_at dksX3_check_8 1 rfl rfl)
theorem dX3_check_189 : decode cX3_check 189 = .ok (.invokestatic 297, 3) := dk_184 1 41 (dk_at dksX3_check_8 4 rfl rfl)
theorem dX3_check_192 : decode cX3_check 192 = .ok (.iload 4, 2) := dk_21 4 (dk_at dksX3_check_8 7 rfl rfl)
theorem dX3_check_194 : decode cX3_check 194 = .ok (.iload_n 2, 1) := dk_28 (dk_at dksX3_check_8 9 rfl rfl)
theorem dX3_check_195 : decode cX3_check 195 = .ok (.if_icmp .ne 13, 3) := dk_160 0 13 (dk_at dksX3_check_8 10 rfl rfl)
theorem dX3_check_198 : decode cX3_check 198 = .ok (.iload 4, 2) := dk_21 4 (dk_at dksX3_check_8 13 rfl rfl)
theorem dX3_check_200 : decode cX3_check 200 = .ok (.iload_n 3, 1) := dk_29 (dk_at dksX3_check_8 15 rfl rfl)
theorem dX3_check_201 : decode cX3_check 201 = .ok (.if_icmp .ne 7, 3) := dk_160 0 7 (dk_at dksX3_check_8 16 rfl rfl)
theorem dX3_check_204 : decode cX3_check 204 = .ok (.iconst 0, 1) := dk_3 (dk_at dksX3_check_8 19 rfl rfl)
theorem dX3_check_205 : decode cX3_check 205 = .ok (.goto 7, 3) := dk_167 0 7 (dk_at dksX3_check_8 20 rfl rfl)
theorem dX3_check_208 : decode cX3_check 208 = .ok (.iconst 1, 1) := dk_4 (dk_at dksX3_check_8 23 rfl rfl)
theorem dX3_check_209 : decode cX3_check 209 = .ok (.iload 4, 2) := dk_21 4 (dk_at dksX3_check_9 0 rfl rfl)
theorem dX3_check_211 : decode cX3_check 211 = .ok (.iadd, 1) := dk_96 (dk_at dksX3_check_9 2 rfl rfl)
theorem dX3_check_212 : decode cX3_check 212 = .ok (.ireturn, 1) := dk_172 (dk_at dksX3_check_9 3 rfl rfl)
abbrev cX3_copyAll : ByteArray := prog_22_method_4_code
def yX3_copyAll : MethodName := ⟨RX3, "copyAll", "([I[I)V"⟩
def dkwX3_copyAll_0 : List UInt8 := [3, 61, 28, 17, 5, 168, 162, 0, 15, 43, 28, 42, 28, 46, 79, 132, 2, 1, 167, 255, 240, 177]
abbrev dktX3_copyAll_0 : List UInt8 := dkwX3_copyAll_0 ++ []
theorem dksX3_copyAll_0 : cX3_copyAll.data.toList.drop 0 = dktX3_copyAll_0 := by decide +kernel
theorem dX3_copyAll_0 : decode cX3_copyAll 0 = .ok (.iconst 0, 1) := dk_3 (dk_at dksX3_copyAll_0 0 rfl rfl)
theorem dX3_copyAll_1 : decode cX3_copyAll 1 = .ok (.istore_n 2, 1) := dk_61 (dk_at dksX3_copyAll_0 1 rfl rfl)
theorem dX3_copyAll_2 : decode cX3_copyAll 2 = .ok (.iload_n 2, 1) := dk_28 (dk_at dksX3_copyAll_0 2 rfl rfl)
theorem dX3_copyAll_3 : decode cX3_copyAll 3 = .ok (.sipush 1448, 3) := dk_17 5 168 (dk_at dksX3_copyAll_0 3 rfl rfl)
theorem dX3_copyAll_6 : decode cX3_copyAll 6 = .ok (.if_icmp .ge 15, 3) := dk_162 0 15 (dk_at dksX3_copyAll_0 6 rfl rfl)
theorem dX3_copyAll_9 : decode cX3_copyAll 9 = .ok (.aload_n 1, 1) := dk_43 (dk_at dksX3_copyAll_0 9 rfl rfl)
theorem dX3_copyAll_10 : decode cX3_copyAll 10 = .ok (.iload_n 2, 1) := dk_28 (dk_at dksX3_copyAll_0 10 rfl rfl)
theorem dX3_copyAll_11 : decode cX3_copyAll 11 = .ok (.aload_n 0, 1) := dk_42 (dk_at dksX3_copyAll_0 11 rfl rfl)
theorem dX3_copyAll_12 : decode cX3_copyAll 12 = .ok (.iload_n 2, 1) := dk_28 (dk_at dksX3_copyAll_0 12 rfl rfl)
theorem dX3_copyAll_13 : decode cX3_copyAll 13 = .ok (.iaload, 1) := dk_46 (dk_at dksX3_copyAll_0 13 rfl rfl)
theorem dX3_copyAll_14 : decode cX3_copyAll 14 = .ok (.iastore, 1) := dk_79 (dk_at dksX3_copyAll_0 14 rfl rfl)
theorem dX3_copyAll_15 : decode cX3_copyAll 15 = .ok (.iinc 2 1, 3) := dk_132 2 1 (dk_at dksX3_copyAll_0 15 rfl rfl)
theorem dX3_copyAll_18 : decode cX3_copyAll 18 = .ok (.goto (-16), 3) := dk_167 255 240 (dk_at dksX3_copyAll_0 18 rfl rfl)
theorem dX3_copyAll_21 : decode cX3_copyAll 21 = .ok (.return_, 1) := dk_177 (dk_at dksX3_copyAll_0 21 rfl rfl)
abbrev cX3_keep : ByteArray := prog_22_method_92_code
def yX3_keep : MethodName := ⟨RX3, "keep", "()I"⟩
def dkwX3_keep_0 : List UInt8 := [42, 180, 0, 9, 42, 180, 0, 13, 184, 1, 41, 42, 4, 181, 1, 37, 42, 180, 0, 9, 4, 46, 172]
abbrev dktX3_keep_0 : List UInt8 := dkwX3_keep_0 ++ []
theorem dksX3_keep_0 : cX3_keep.data.toList.drop 0 = dktX3_keep_0 := by decide +kernel
theorem dX3_keep_0 : decode cX3_keep 0 = .ok (.aload_n 0, 1) := dk_42 (dk_at dksX3_keep_0 0 rfl rfl)
theorem dX3_keep_1 : decode cX3_keep 1 = .ok (.getfield 9, 3) := dk_180 0 9 (dk_at dksX3_keep_0 1 rfl rfl)
theorem dX3_keep_4 : decode cX3_keep 4 = .ok (.aload_n 0, 1) := dk_42 (dk_at dksX3_keep_0 4 rfl rfl)
theorem dX3_keep_5 : decode cX3_keep 5 = .ok (.getfield 13, 3) := dk_180 0 13 (dk_at dksX3_keep_0 5 rfl rfl)
theorem dX3_keep_8 : decode cX3_keep 8 = .ok (.invokestatic 297, 3) := dk_184 1 41 (dk_at dksX3_keep_0 8 rfl rfl)
theorem dX3_keep_11 : decode cX3_keep 11 = .ok (.aload_n 0, 1) := dk_42 (dk_at dksX3_keep_0 11 rfl rfl)
theorem dX3_keep_12 : decode cX3_keep 12 = .ok (.iconst 1, 1) := dk_4 (dk_at dksX3_keep_0 12 rfl rfl)
theorem dX3_keep_13 : decode cX3_keep 13 = .ok (.putfield 293, 3) := dk_181 1 37 (dk_at dksX3_keep_0 13 rfl rfl)
theorem dX3_keep_16 : decode cX3_keep 16 = .ok (.aload_n 0, 1) := dk_42 (dk_at dksX3_keep_0 16 rfl rfl)
theorem dX3_keep_17 : decode cX3_keep 17 = .ok (.getfield 9, 3) := dk_180 0 9 (dk_at dksX3_keep_0 17 rfl rfl)
theorem dX3_keep_20 : decode cX3_keep 20 = .ok (.iconst 1, 1) := dk_4 (dk_at dksX3_keep_0 20 rfl rfl)
theorem dX3_keep_21 : decode cX3_keep 21 = .ok (.iaload, 1) := dk_46 (dk_at dksX3_keep_0 21 rfl rfl)
theorem dX3_keep_22 : decode cX3_keep 22 = .ok (.ireturn, 1) := dk_172 (dk_at dksX3_keep_0 22 rfl rfl)
abbrev cX3_back : ByteArray := prog_22_method_93_code
def yX3_back : MethodName := ⟨RX3, "back", "()I"⟩
def dkwX3_back_1 : List UInt8 := [180, 0, 9, 4, 46, 172]
abbrev dktX3_back_1 : List UInt8 := dkwX3_back_1 ++ []
def dkwX3_back_0 : List UInt8 := [42, 180, 1, 37, 154, 0, 7, 19, 1, 33, 172, 42, 180, 0, 13, 42, 180, 0, 9, 184, 1, 41, 42]
abbrev dktX3_back_0 : List UInt8 := dkwX3_back_0 ++ dktX3_back_1
theorem dksX3_back_0 : cX3_back.data.toList.drop 0 = dktX3_back_0 := by decide +kernel
theorem dksX3_back_1 : cX3_back.data.toList.drop 23 = dktX3_back_1 := dk_seg dksX3_back_0 23 rfl rfl
theorem dX3_back_0 : decode cX3_back 0 = .ok (.aload_n 0, 1) := dk_42 (dk_at dksX3_back_0 0 rfl rfl)
theorem dX3_back_1 : decode cX3_back 1 = .ok (.getfield 293, 3) := dk_180 1 37 (dk_at dksX3_back_0 1 rfl rfl)
theorem dX3_back_4 : decode cX3_back 4 = .ok (.ifCond .ne 7, 3) := dk_154 0 7 (dk_at dksX3_back_0 4 rfl rfl)
theorem dX3_back_7 : decode cX3_back 7 = .ok (.ldc_w 289, 3) := dk_19 1 33 (dk_at dksX3_back_0 7 rfl rfl)
theorem dX3_back_10 : decode cX3_back 10 = .ok (.ireturn, 1) := dk_172 (dk_at dksX3_back_0 10 rfl rfl)
theorem dX3_back_11 : decode cX3_back 11 = .ok (.aload_n 0, 1) := dk_42 (dk_at dksX3_back_0 11 rfl rfl)
theorem dX3_back_12 : decode cX3_back 12 = .ok (.getfield 13, 3) := dk_180 0 13 (dk_at dksX3_back_0 12 rfl rfl)
theorem dX3_back_15 : decode cX3_back 15 = .ok (.aload_n 0, 1) := dk_42 (dk_at dksX3_back_0 15 rfl rfl)
theorem dX3_back_16 : decode cX3_back 16 = .ok (.getfield 9, 3) := dk_180 0 9 (dk_at dksX3_back_0 16 rfl rfl)
theorem dX3_back_19 : decode cX3_back 19 = .ok (.invokestatic 297, 3) := dk_184 1 41 (dk_at dksX3_back_0 19 rfl rfl)
theorem dX3_back_22 : decode cX3_back 22 = .ok (.aload_n 0, 1) := dk_42 (dk_at dksX3_back_0 22 rfl rfl)
theorem dX3_back_23 : decode cX3_back 23 = .ok (.getfield 9, 3) := dk_180 0 9 (dk_at dksX3_back_1 0 rfl rfl)
theorem dX3_back_26 : decode cX3_back 26 = .ok (.iconst 1, 1) := dk_4 (dk_at dksX3_back_1 3 rfl rfl)
theorem dX3_back_27 : decode cX3_back 27 = .ok (.iaload, 1) := dk_46 (dk_at dksX3_back_1 4 rfl rfl)
theorem dX3_back_28 : decode cX3_back 28 = .ok (.ireturn, 1) := dk_172 (dk_at dksX3_back_1 5 rfl rfl)
abbrev cX3_count : ByteArray := prog_22_method_94_code
def yX3_count : MethodName := ⟨RX3, "count", "(I)I"⟩
def dkwX3_count_4 : List UInt8 := [180, 0, 213, 172, 42, 180, 0, 9, 3, 46, 172, 18, 93, 172]
abbrev dktX3_count_4 : List UInt8 := dkwX3_count_4 ++ []
def dkwX3_count_3 : List UInt8 := [46, 172, 42, 180, 0, 9, 7, 46, 172, 42, 180, 0, 9, 8, 46, 172, 42, 180, 1, 34, 172, 42]
abbrev dktX3_count_3 : List UInt8 := dkwX3_count_3 ++ dktX3_count_4
def dkwX3_count_2 : List UInt8 := [42, 180, 0, 9, 4, 46, 172, 42, 182, 0, 189, 172, 42, 180, 0, 9, 5, 46, 172, 42, 180, 0, 9, 6]
abbrev dktX3_count_2 : List UInt8 := dkwX3_count_2 ++ dktX3_count_3
def dkwX3_count_1 : List UInt8 := [170, 0, 0, 0, 0, 0, 108, 0, 0, 0, 0, 0, 0, 0, 8, 0, 0, 0, 51, 0, 0, 0, 58, 0, 0, 0, 63, 0, 0, 0, 70, 0, 0, 0, 77, 0, 0, 0, 84, 0, 0, 0, 91, 0, 0, 0, 96, 0, 0, 0, 101]
abbrev dktX3_count_1 : List UInt8 := dkwX3_count_1 ++ dktX3_count_2
def dkwX3_count_0 : List UInt8 := [27]
abbrev dktX3_count_0 : List UInt8 := dkwX3_count_0 ++ dktX3_count_1
theorem dksX3_count_0 : cX3_count.data.toList.drop 0 = dktX3_count_0 := by decide +kernel
theorem dksX3_count_1 : cX3_count.data.toList.drop 1 = dktX3_count_1 := dk_seg dksX3_count_0 1 rfl rfl
theorem dksX3_count_2 : cX3_count.data.toList.drop 52 = dktX3_count_2 := dk_seg dksX3_count_1 51 rfl rfl
theorem dksX3_count_3 : cX3_count.data.toList.drop 76 = dktX3_count_3 := dk_seg dksX3_count_2 24 rfl rfl
theorem dksX3_count_4 : cX3_count.data.toList.drop 98 = dktX3_count_4 := dk_seg dksX3_count_3 22 rfl rfl
theorem dX3_count_0 : decode cX3_count 0 = .ok (.iload_n 1, 1) := dk_27 (dk_at dksX3_count_0 0 rfl rfl)
theorem dX3_count_1 : decode cX3_count 1 = .ok (.tableswitch 108 0 8 #[51, 58, 63, 70, 77, 84, 91, 96, 101], 51) := by decide +kernel
theorem dX3_count_52 : decode cX3_count 52 = .ok (.aload_n 0, 1) := dk_42 (dk_at dksX3_count_2 0 rfl rfl)
theorem dX3_count_53 : decode cX3_count 53 = .ok (.getfield 9, 3) := dk_180 0 9 (dk_at dksX3_count_2 1 rfl rfl)
theorem dX3_count_56 : decode cX3_count 56 = .ok (.iconst 1, 1) := dk_4 (dk_at dksX3_count_2 4 rfl rfl)
theorem dX3_count_57 : decode cX3_count 57 = .ok (.iaload, 1) := dk_46 (dk_at dksX3_count_2 5 rfl rfl)
theorem dX3_count_58 : decode cX3_count 58 = .ok (.ireturn, 1) := dk_172 (dk_at dksX3_count_2 6 rfl rfl)
theorem dX3_count_59 : decode cX3_count 59 = .ok (.aload_n 0, 1) := dk_42 (dk_at dksX3_count_2 7 rfl rfl)
theorem dX3_count_60 : decode cX3_count 60 = .ok (.invokevirtual 189, 3) := dk_182 0 189 (dk_at dksX3_count_2 8 rfl rfl)
theorem dX3_count_63 : decode cX3_count 63 = .ok (.ireturn, 1) := dk_172 (dk_at dksX3_count_2 11 rfl rfl)
theorem dX3_count_64 : decode cX3_count 64 = .ok (.aload_n 0, 1) := dk_42 (dk_at dksX3_count_2 12 rfl rfl)
theorem dX3_count_65 : decode cX3_count 65 = .ok (.getfield 9, 3) := dk_180 0 9 (dk_at dksX3_count_2 13 rfl rfl)
theorem dX3_count_68 : decode cX3_count 68 = .ok (.iconst 2, 1) := dk_5 (dk_at dksX3_count_2 16 rfl rfl)
theorem dX3_count_69 : decode cX3_count 69 = .ok (.iaload, 1) := dk_46 (dk_at dksX3_count_2 17 rfl rfl)
theorem dX3_count_70 : decode cX3_count 70 = .ok (.ireturn, 1) := dk_172 (dk_at dksX3_count_2 18 rfl rfl)
theorem dX3_count_71 : decode cX3_count 71 = .ok (.aload_n 0, 1) := dk_42 (dk_at dksX3_count_2 19 rfl rfl)
theorem dX3_count_72 : decode cX3_count 72 = .ok (.getfield 9, 3) := dk_180 0 9 (dk_at dksX3_count_2 20 rfl rfl)
theorem dX3_count_75 : decode cX3_count 75 = .ok (.iconst 3, 1) := dk_6 (dk_at dksX3_count_2 23 rfl rfl)
theorem dX3_count_76 : decode cX3_count 76 = .ok (.iaload, 1) := dk_46 (dk_at dksX3_count_3 0 rfl rfl)
theorem dX3_count_77 : decode cX3_count 77 = .ok (.ireturn, 1) := dk_172 (dk_at dksX3_count_3 1 rfl rfl)
theorem dX3_count_78 : decode cX3_count 78 = .ok (.aload_n 0, 1) := dk_42 (dk_at dksX3_count_3 2 rfl rfl)
theorem dX3_count_79 : decode cX3_count 79 = .ok (.getfield 9, 3) := dk_180 0 9 (dk_at dksX3_count_3 3 rfl rfl)
theorem dX3_count_82 : decode cX3_count 82 = .ok (.iconst 4, 1) := dk_7 (dk_at dksX3_count_3 6 rfl rfl)
theorem dX3_count_83 : decode cX3_count 83 = .ok (.iaload, 1) := dk_46 (dk_at dksX3_count_3 7 rfl rfl)
theorem dX3_count_84 : decode cX3_count 84 = .ok (.ireturn, 1) := dk_172 (dk_at dksX3_count_3 8 rfl rfl)
theorem dX3_count_85 : decode cX3_count 85 = .ok (.aload_n 0, 1) := dk_42 (dk_at dksX3_count_3 9 rfl rfl)
theorem dX3_count_86 : decode cX3_count 86 = .ok (.getfield 9, 3) := dk_180 0 9 (dk_at dksX3_count_3 10 rfl rfl)
theorem dX3_count_89 : decode cX3_count 89 = .ok (.iconst 5, 1) := dk_8 (dk_at dksX3_count_3 13 rfl rfl)
theorem dX3_count_90 : decode cX3_count 90 = .ok (.iaload, 1) := dk_46 (dk_at dksX3_count_3 14 rfl rfl)
theorem dX3_count_91 : decode cX3_count 91 = .ok (.ireturn, 1) := dk_172 (dk_at dksX3_count_3 15 rfl rfl)
theorem dX3_count_92 : decode cX3_count 92 = .ok (.aload_n 0, 1) := dk_42 (dk_at dksX3_count_3 16 rfl rfl)
theorem dX3_count_93 : decode cX3_count 93 = .ok (.getfield 290, 3) := dk_180 1 34 (dk_at dksX3_count_3 17 rfl rfl)
theorem dX3_count_96 : decode cX3_count 96 = .ok (.ireturn, 1) := dk_172 (dk_at dksX3_count_3 20 rfl rfl)
theorem dX3_count_97 : decode cX3_count 97 = .ok (.aload_n 0, 1) := dk_42 (dk_at dksX3_count_3 21 rfl rfl)
theorem dX3_count_98 : decode cX3_count 98 = .ok (.getfield 213, 3) := dk_180 0 213 (dk_at dksX3_count_4 0 rfl rfl)
theorem dX3_count_101 : decode cX3_count 101 = .ok (.ireturn, 1) := dk_172 (dk_at dksX3_count_4 3 rfl rfl)
theorem dX3_count_102 : decode cX3_count 102 = .ok (.aload_n 0, 1) := dk_42 (dk_at dksX3_count_4 4 rfl rfl)
theorem dX3_count_103 : decode cX3_count 103 = .ok (.getfield 9, 3) := dk_180 0 9 (dk_at dksX3_count_4 5 rfl rfl)
theorem dX3_count_106 : decode cX3_count 106 = .ok (.iconst 0, 1) := dk_3 (dk_at dksX3_count_4 8 rfl rfl)
theorem dX3_count_107 : decode cX3_count 107 = .ok (.iaload, 1) := dk_46 (dk_at dksX3_count_4 9 rfl rfl)
theorem dX3_count_108 : decode cX3_count 108 = .ok (.ireturn, 1) := dk_172 (dk_at dksX3_count_4 10 rfl rfl)
theorem dX3_count_109 : decode cX3_count 109 = .ok (.ldc 93, 2) := dk_18 93 (dk_at dksX3_count_4 11 rfl rfl)
theorem dX3_count_111 : decode cX3_count 111 = .ok (.ireturn, 1) := dk_172 (dk_at dksX3_count_4 13 rfl rfl)
theorem q75 : (Jvm.Cond.initialized "TwoGuildsModel") ∈ lw_all := lw_g (lw_at lw_m1 4 rfl) rfl
theorem q1354 : (Jvm.Cond.instantiable "TwoGuildsModel" (36 : Nat)) ∈ lw_all := lw_g (lw_at lw_m6 83 rfl) rfl
theorem q1356 : (Jvm.Cond.instanceMethod ({ cls := "TwoGuildsModel", name := "<init>", desc := "()V" } : Jvm.MethodName)) ∈ lw_all := lw_g (lw_at lw_m6 85 rfl) rfl
theorem q1357 : (Jvm.Cond.code ({ cls := "TwoGuildsModel", name := "<init>", desc := "()V" } : Jvm.MethodName) prog_22_method_1_code (1 : Nat) (Option.none : Option Jvm.ClassFile.FieldType)) ∈ lw_all := lw_g (lw_at lw_m6 86 rfl) rfl
theorem q1358 : (Jvm.Cond.methodLink "TwoGuildsModel" (1 : Nat) ({ cls := "java/lang/Object", name := "<init>", desc := "()V" } : Jvm.MethodName)) ∈ lw_all := lw_g (lw_at lw_m6 87 rfl) rfl
theorem q1359 : (Jvm.Cond.fieldLink "TwoGuildsModel" (9 : Nat) "TwoGuildsModel" "now" "[I") ∈ lw_all := lw_g (lw_at lw_m6 88 rfl) rfl
theorem q1360 : (Jvm.Cond.fieldLink "TwoGuildsModel" (13 : Nat) "TwoGuildsModel" "image" "[I") ∈ lw_all := lw_g (lw_at lw_m6 89 rfl) rfl
theorem q1361 : (Jvm.Cond.fieldLink "TwoGuildsModel" (16 : Nat) "TwoGuildsModel" "aside" "[I") ∈ lw_all := lw_g (lw_at lw_m6 90 rfl) rfl
theorem q1362 : (Jvm.Cond.fieldLink "TwoGuildsModel" (293 : Nat) "TwoGuildsModel" "hasImage" "Z") ∈ lw_all := lw_g (lw_at lw_m6 91 rfl) rfl
theorem q1363 : (Jvm.Cond.fieldLink "TwoGuildsModel" (19 : Nat) "TwoGuildsModel" "values" "[I") ∈ lw_all := lw_g (lw_at lw_m6 92 rfl) rfl
theorem q1364 : (Jvm.Cond.fieldLink "TwoGuildsModel" (22 : Nat) "TwoGuildsModel" "bests" "[I") ∈ lw_all := lw_g (lw_at lw_m6 93 rfl) rfl
theorem q1365 : (Jvm.Cond.fieldLink "TwoGuildsModel" (25 : Nat) "TwoGuildsModel" "before" "[I") ∈ lw_all := lw_g (lw_at lw_m6 94 rfl) rfl
theorem q1366 : (Jvm.Cond.fieldLink "TwoGuildsModel" (28 : Nat) "TwoGuildsModel" "joined" "[I") ∈ lw_all := lw_g (lw_at lw_m6 95 rfl) rfl
theorem q1367 : (Jvm.Cond.fieldLink "TwoGuildsModel" (31 : Nat) "TwoGuildsModel" "tape" "[I") ∈ lw_all := lw_g (lw_at lw_m6 96 rfl) rfl
theorem q1368 : (Jvm.Cond.fieldLink "TwoGuildsModel" (213 : Nat) "TwoGuildsModel" "taped" "I") ∈ lw_all := lw_g (lw_at lw_m6 97 rfl) rfl
theorem q1369 : (Jvm.Cond.fieldLink "TwoGuildsModel" (217 : Nat) "TwoGuildsModel" "next" "I") ∈ lw_all := lw_g (lw_at lw_m6 98 rfl) rfl
theorem q1370 : (Jvm.Cond.fieldLink "TwoGuildsModel" (220 : Nat) "TwoGuildsModel" "from" "I") ∈ lw_all := lw_g (lw_at lw_m6 99 rfl) rfl
theorem q1371 : (Jvm.Cond.fieldLink "TwoGuildsModel" (226 : Nat) "TwoGuildsModel" "token" "I") ∈ lw_all := lw_g (lw_at lw_m6 100 rfl) rfl
theorem q1372 : (Jvm.Cond.fieldLink "TwoGuildsModel" (232 : Nat) "TwoGuildsModel" "value" "I") ∈ lw_all := lw_g (lw_at lw_m6 101 rfl) rfl
theorem q1373 : (Jvm.Cond.fieldLink "TwoGuildsModel" (223 : Nat) "TwoGuildsModel" "ended" "I") ∈ lw_all := lw_g (lw_at lw_m6 102 rfl) rfl
theorem q1374 : (Jvm.Cond.fieldLink "TwoGuildsModel" (238 : Nat) "TwoGuildsModel" "key" "I") ∈ lw_all := lw_g (lw_at lw_m6 103 rfl) rfl
theorem q1375 : (Jvm.Cond.fieldLink "TwoGuildsModel" (34 : Nat) "TwoGuildsModel" "keys" "[C") ∈ lw_all := lw_g (lw_at lw_m6 104 rfl) rfl
theorem q1376 : (Jvm.Cond.fieldLink "TwoGuildsModel" (38 : Nat) "TwoGuildsModel" "keyAt" "[I") ∈ lw_all := lw_g (lw_at lw_m6 105 rfl) rfl
theorem q1377 : (Jvm.Cond.fieldLink "TwoGuildsModel" (41 : Nat) "TwoGuildsModel" "code" "[I") ∈ lw_all := lw_g (lw_at lw_m6 106 rfl) rfl
theorem q1378 : (Jvm.Cond.fieldLink "TwoGuildsModel" (250 : Nat) "TwoGuildsModel" "codes" "I") ∈ lw_all := lw_g (lw_at lw_m6 107 rfl) rfl
theorem q1379 : (Jvm.Cond.fieldLink "TwoGuildsModel" (256 : Nat) "TwoGuildsModel" "atoms" "I") ∈ lw_all := lw_g (lw_at lw_m6 108 rfl) rfl
theorem q1380 : (Jvm.Cond.fieldLink "TwoGuildsModel" (44 : Nat) "TwoGuildsModel" "waits" "[I") ∈ lw_all := lw_g (lw_at lw_m6 109 rfl) rfl
theorem q1381 : (Jvm.Cond.fieldLink "TwoGuildsModel" (244 : Nat) "TwoGuildsModel" "held" "I") ∈ lw_all := lw_g (lw_at lw_m6 110 rfl) rfl
theorem q1382 : (Jvm.Cond.fieldLink "TwoGuildsModel" (47 : Nat) "TwoGuildsModel" "tested" "[Z") ∈ lw_all := lw_g (lw_at lw_m6 111 rfl) rfl
theorem q1383 : (Jvm.Cond.fieldLink "TwoGuildsModel" (51 : Nat) "TwoGuildsModel" "stack" "[I") ∈ lw_all := lw_g (lw_at lw_m6 112 rfl) rfl
theorem q1384 : (Jvm.Cond.fieldLink "TwoGuildsModel" (54 : Nat) "TwoGuildsModel" "facts" "[I") ∈ lw_all := lw_g (lw_at lw_m6 113 rfl) rfl
theorem q1385 : (Jvm.Cond.fieldLink "TwoGuildsModel" (57 : Nat) "TwoGuildsModel" "sorts" "[I") ∈ lw_all := lw_g (lw_at lw_m6 114 rfl) rfl
theorem q1386 : (Jvm.Cond.fieldLink "TwoGuildsModel" (60 : Nat) "TwoGuildsModel" "sizes" "[I") ∈ lw_all := lw_g (lw_at lw_m6 115 rfl) rfl
theorem q1387 : (Jvm.Cond.fieldLink "TwoGuildsModel" (63 : Nat) "TwoGuildsModel" "cells" "[I") ∈ lw_all := lw_g (lw_at lw_m6 116 rfl) rfl
theorem q1388 : (Jvm.Cond.fieldLink "TwoGuildsModel" (66 : Nat) "TwoGuildsModel" "holds" "[I") ∈ lw_all := lw_g (lw_at lw_m6 117 rfl) rfl
theorem q1389 : (Jvm.Cond.fieldLink "TwoGuildsModel" (69 : Nat) "TwoGuildsModel" "holdsA" "[I") ∈ lw_all := lw_g (lw_at lw_m6 118 rfl) rfl
theorem q1390 : (Jvm.Cond.fieldLink "TwoGuildsModel" (72 : Nat) "TwoGuildsModel" "holdsB" "[I") ∈ lw_all := lw_g (lw_at lw_m6 119 rfl) rfl
theorem q1391 : (Jvm.Cond.fieldLink "TwoGuildsModel" (75 : Nat) "TwoGuildsModel" "heldCells" "[I") ∈ lw_all := lw_g (lw_at lw_m6 120 rfl) rfl
theorem q1392 : (Jvm.Cond.fieldLink "TwoGuildsModel" (78 : Nat) "TwoGuildsModel" "moved" "[I") ∈ lw_all := lw_g (lw_at lw_m6 121 rfl) rfl
theorem q1393 : (Jvm.Cond.fieldLink "TwoGuildsModel" (81 : Nat) "TwoGuildsModel" "tells" "[I") ∈ lw_all := lw_g (lw_at lw_m6 122 rfl) rfl
theorem q1394 : (Jvm.Cond.fieldLink "TwoGuildsModel" (290 : Nat) "TwoGuildsModel" "waiting" "I") ∈ lw_all := lw_g (lw_at lw_m6 123 rfl) rfl
theorem q1395 : (Jvm.Cond.laysFinal "TwoGuildsModel" "TwoGuildsModel" "now" "[I") ∈ lw_all := lw_g (lw_at lw_m6 124 rfl) rfl
theorem q1396 : (Jvm.Cond.soleField "TwoGuildsModel" "now") ∈ lw_all := lw_g (lw_at lw_m6 125 rfl) rfl
theorem q1397 : (Jvm.Cond.laysFinal "TwoGuildsModel" "TwoGuildsModel" "image" "[I") ∈ lw_all := lw_g (lw_at lw_m6 126 rfl) rfl
theorem q1398 : (Jvm.Cond.soleField "TwoGuildsModel" "image") ∈ lw_all := lw_g (lw_at lw_m6 127 rfl) rfl
theorem q1399 : (Jvm.Cond.laysFinal "TwoGuildsModel" "TwoGuildsModel" "aside" "[I") ∈ lw_all := lw_g (lw_at lw_m6 128 rfl) rfl
theorem q1400 : (Jvm.Cond.soleField "TwoGuildsModel" "aside") ∈ lw_all := lw_g (lw_at lw_m6 129 rfl) rfl
theorem q1401 : (Jvm.Cond.lays "TwoGuildsModel" "TwoGuildsModel" "hasImage" "Z") ∈ lw_all := lw_g (lw_at lw_m6 130 rfl) rfl
theorem q1402 : (Jvm.Cond.soleField "TwoGuildsModel" "hasImage") ∈ lw_all := lw_g (lw_at lw_m6 131 rfl) rfl
theorem q1403 : (Jvm.Cond.laysFinal "TwoGuildsModel" "TwoGuildsModel" "values" "[I") ∈ lw_all := lw_g (lw_at lw_m6 132 rfl) rfl
theorem q1404 : (Jvm.Cond.soleField "TwoGuildsModel" "values") ∈ lw_all := lw_g (lw_at lw_m6 133 rfl) rfl
theorem q1405 : (Jvm.Cond.laysFinal "TwoGuildsModel" "TwoGuildsModel" "bests" "[I") ∈ lw_all := lw_g (lw_at lw_m6 134 rfl) rfl
theorem q1406 : (Jvm.Cond.soleField "TwoGuildsModel" "bests") ∈ lw_all := lw_g (lw_at lw_m6 135 rfl) rfl
theorem q1407 : (Jvm.Cond.laysFinal "TwoGuildsModel" "TwoGuildsModel" "before" "[I") ∈ lw_all := lw_g (lw_at lw_m6 136 rfl) rfl
theorem q1408 : (Jvm.Cond.soleField "TwoGuildsModel" "before") ∈ lw_all := lw_g (lw_at lw_m6 137 rfl) rfl
theorem q1409 : (Jvm.Cond.laysFinal "TwoGuildsModel" "TwoGuildsModel" "joined" "[I") ∈ lw_all := lw_g (lw_at lw_m6 138 rfl) rfl
theorem q1410 : (Jvm.Cond.soleField "TwoGuildsModel" "joined") ∈ lw_all := lw_g (lw_at lw_m6 139 rfl) rfl
theorem q1411 : (Jvm.Cond.laysFinal "TwoGuildsModel" "TwoGuildsModel" "tape" "[I") ∈ lw_all := lw_g (lw_at lw_m6 140 rfl) rfl
theorem q1412 : (Jvm.Cond.soleField "TwoGuildsModel" "tape") ∈ lw_all := lw_g (lw_at lw_m6 141 rfl) rfl
theorem q1413 : (Jvm.Cond.lays "TwoGuildsModel" "TwoGuildsModel" "taped" "I") ∈ lw_all := lw_g (lw_at lw_m6 142 rfl) rfl
theorem q1414 : (Jvm.Cond.soleField "TwoGuildsModel" "taped") ∈ lw_all := lw_g (lw_at lw_m6 143 rfl) rfl
theorem q1415 : (Jvm.Cond.lays "TwoGuildsModel" "TwoGuildsModel" "next" "I") ∈ lw_all := lw_g (lw_at lw_m6 144 rfl) rfl
theorem q1416 : (Jvm.Cond.soleField "TwoGuildsModel" "next") ∈ lw_all := lw_g (lw_at lw_m6 145 rfl) rfl
theorem q1417 : (Jvm.Cond.lays "TwoGuildsModel" "TwoGuildsModel" "from" "I") ∈ lw_all := lw_g (lw_at lw_m6 146 rfl) rfl
theorem q1418 : (Jvm.Cond.soleField "TwoGuildsModel" "from") ∈ lw_all := lw_g (lw_at lw_m6 147 rfl) rfl
theorem q1419 : (Jvm.Cond.lays "TwoGuildsModel" "TwoGuildsModel" "token" "I") ∈ lw_all := lw_g (lw_at lw_m6 148 rfl) rfl
theorem q1420 : (Jvm.Cond.soleField "TwoGuildsModel" "token") ∈ lw_all := lw_g (lw_at lw_m6 149 rfl) rfl
theorem q1421 : (Jvm.Cond.lays "TwoGuildsModel" "TwoGuildsModel" "value" "I") ∈ lw_all := lw_g (lw_at lw_m6 150 rfl) rfl
theorem q1422 : (Jvm.Cond.soleField "TwoGuildsModel" "value") ∈ lw_all := lw_g (lw_at lw_m6 151 rfl) rfl
theorem q1423 : (Jvm.Cond.lays "TwoGuildsModel" "TwoGuildsModel" "ended" "I") ∈ lw_all := lw_g (lw_at lw_m6 152 rfl) rfl
theorem q1424 : (Jvm.Cond.soleField "TwoGuildsModel" "ended") ∈ lw_all := lw_g (lw_at lw_m6 153 rfl) rfl
theorem q1425 : (Jvm.Cond.lays "TwoGuildsModel" "TwoGuildsModel" "key" "I") ∈ lw_all := lw_g (lw_at lw_m6 154 rfl) rfl
theorem q1426 : (Jvm.Cond.soleField "TwoGuildsModel" "key") ∈ lw_all := lw_g (lw_at lw_m6 155 rfl) rfl
theorem q1427 : (Jvm.Cond.laysFinal "TwoGuildsModel" "TwoGuildsModel" "keys" "[C") ∈ lw_all := lw_g (lw_at lw_m6 156 rfl) rfl
theorem q1428 : (Jvm.Cond.soleField "TwoGuildsModel" "keys") ∈ lw_all := lw_g (lw_at lw_m6 157 rfl) rfl
theorem q1429 : (Jvm.Cond.laysFinal "TwoGuildsModel" "TwoGuildsModel" "keyAt" "[I") ∈ lw_all := lw_g (lw_at lw_m6 158 rfl) rfl
theorem q1430 : (Jvm.Cond.soleField "TwoGuildsModel" "keyAt") ∈ lw_all := lw_g (lw_at lw_m6 159 rfl) rfl
theorem q1431 : (Jvm.Cond.laysFinal "TwoGuildsModel" "TwoGuildsModel" "code" "[I") ∈ lw_all := lw_g (lw_at lw_m6 160 rfl) rfl
theorem q1432 : (Jvm.Cond.soleField "TwoGuildsModel" "code") ∈ lw_all := lw_g (lw_at lw_m6 161 rfl) rfl
theorem q1433 : (Jvm.Cond.lays "TwoGuildsModel" "TwoGuildsModel" "codes" "I") ∈ lw_all := lw_g (lw_at lw_m6 162 rfl) rfl
theorem q1434 : (Jvm.Cond.soleField "TwoGuildsModel" "codes") ∈ lw_all := lw_g (lw_at lw_m6 163 rfl) rfl
theorem q1435 : (Jvm.Cond.lays "TwoGuildsModel" "TwoGuildsModel" "atoms" "I") ∈ lw_all := lw_g (lw_at lw_m6 164 rfl) rfl
theorem q1436 : (Jvm.Cond.soleField "TwoGuildsModel" "atoms") ∈ lw_all := lw_g (lw_at lw_m6 165 rfl) rfl
theorem q1437 : (Jvm.Cond.laysFinal "TwoGuildsModel" "TwoGuildsModel" "waits" "[I") ∈ lw_all := lw_g (lw_at lw_m6 166 rfl) rfl
theorem q1438 : (Jvm.Cond.soleField "TwoGuildsModel" "waits") ∈ lw_all := lw_g (lw_at lw_m6 167 rfl) rfl
theorem q1439 : (Jvm.Cond.lays "TwoGuildsModel" "TwoGuildsModel" "held" "I") ∈ lw_all := lw_g (lw_at lw_m6 168 rfl) rfl
theorem q1440 : (Jvm.Cond.soleField "TwoGuildsModel" "held") ∈ lw_all := lw_g (lw_at lw_m6 169 rfl) rfl
theorem q1441 : (Jvm.Cond.laysFinal "TwoGuildsModel" "TwoGuildsModel" "tested" "[Z") ∈ lw_all := lw_g (lw_at lw_m6 170 rfl) rfl
theorem q1442 : (Jvm.Cond.soleField "TwoGuildsModel" "tested") ∈ lw_all := lw_g (lw_at lw_m6 171 rfl) rfl
theorem q1443 : (Jvm.Cond.laysFinal "TwoGuildsModel" "TwoGuildsModel" "stack" "[I") ∈ lw_all := lw_g (lw_at lw_m6 172 rfl) rfl
theorem q1444 : (Jvm.Cond.soleField "TwoGuildsModel" "stack") ∈ lw_all := lw_g (lw_at lw_m6 173 rfl) rfl
theorem q1445 : (Jvm.Cond.laysFinal "TwoGuildsModel" "TwoGuildsModel" "facts" "[I") ∈ lw_all := lw_g (lw_at lw_m6 174 rfl) rfl
theorem q1446 : (Jvm.Cond.soleField "TwoGuildsModel" "facts") ∈ lw_all := lw_g (lw_at lw_m6 175 rfl) rfl
theorem q1447 : (Jvm.Cond.laysFinal "TwoGuildsModel" "TwoGuildsModel" "sorts" "[I") ∈ lw_all := lw_g (lw_at lw_m6 176 rfl) rfl
theorem q1448 : (Jvm.Cond.soleField "TwoGuildsModel" "sorts") ∈ lw_all := lw_g (lw_at lw_m6 177 rfl) rfl
theorem q1449 : (Jvm.Cond.laysFinal "TwoGuildsModel" "TwoGuildsModel" "sizes" "[I") ∈ lw_all := lw_g (lw_at lw_m6 178 rfl) rfl
theorem q1450 : (Jvm.Cond.soleField "TwoGuildsModel" "sizes") ∈ lw_all := lw_g (lw_at lw_m6 179 rfl) rfl
theorem q1451 : (Jvm.Cond.laysFinal "TwoGuildsModel" "TwoGuildsModel" "cells" "[I") ∈ lw_all := lw_g (lw_at lw_m6 180 rfl) rfl
theorem q1452 : (Jvm.Cond.soleField "TwoGuildsModel" "cells") ∈ lw_all := lw_g (lw_at lw_m6 181 rfl) rfl
theorem q1453 : (Jvm.Cond.laysFinal "TwoGuildsModel" "TwoGuildsModel" "holds" "[I") ∈ lw_all := lw_g (lw_at lw_m6 182 rfl) rfl
theorem q1454 : (Jvm.Cond.soleField "TwoGuildsModel" "holds") ∈ lw_all := lw_g (lw_at lw_m6 183 rfl) rfl
theorem q1455 : (Jvm.Cond.laysFinal "TwoGuildsModel" "TwoGuildsModel" "holdsA" "[I") ∈ lw_all := lw_g (lw_at lw_m6 184 rfl) rfl
theorem q1456 : (Jvm.Cond.soleField "TwoGuildsModel" "holdsA") ∈ lw_all := lw_g (lw_at lw_m6 185 rfl) rfl
theorem q1457 : (Jvm.Cond.laysFinal "TwoGuildsModel" "TwoGuildsModel" "holdsB" "[I") ∈ lw_all := lw_g (lw_at lw_m6 186 rfl) rfl
theorem q1458 : (Jvm.Cond.soleField "TwoGuildsModel" "holdsB") ∈ lw_all := lw_g (lw_at lw_m6 187 rfl) rfl
theorem q1459 : (Jvm.Cond.laysFinal "TwoGuildsModel" "TwoGuildsModel" "heldCells" "[I") ∈ lw_all := lw_g (lw_at lw_m6 188 rfl) rfl
theorem q1460 : (Jvm.Cond.soleField "TwoGuildsModel" "heldCells") ∈ lw_all := lw_g (lw_at lw_m6 189 rfl) rfl
theorem q1461 : (Jvm.Cond.laysFinal "TwoGuildsModel" "TwoGuildsModel" "moved" "[I") ∈ lw_all := lw_g (lw_at lw_m6 190 rfl) rfl
theorem q1462 : (Jvm.Cond.soleField "TwoGuildsModel" "moved") ∈ lw_all := lw_g (lw_at lw_m6 191 rfl) rfl
theorem q1463 : (Jvm.Cond.laysFinal "TwoGuildsModel" "TwoGuildsModel" "tells" "[I") ∈ lw_all := lw_g (lw_at lw_m6 192 rfl) rfl
theorem q1464 : (Jvm.Cond.soleField "TwoGuildsModel" "tells") ∈ lw_all := lw_g (lw_at lw_m6 193 rfl) rfl
theorem q1465 : (Jvm.Cond.lays "TwoGuildsModel" "TwoGuildsModel" "waiting" "I") ∈ lw_all := lw_g (lw_at lw_m6 194 rfl) rfl
theorem q1466 : (Jvm.Cond.soleField "TwoGuildsModel" "waiting") ∈ lw_all := lw_g (lw_at lw_m6 195 rfl) rfl
theorem q1467 : (Jvm.Cond.superclass "TwoGuildsModel" "java/lang/Object") ∈ lw_all := lw_g (lw_at lw_m6 196 rfl) rfl
theorem q1471 : (Jvm.Cond.instanceMethod ({ cls := "TwoGuildsModel", name := "glove", desc := "(IIII)I" } : Jvm.MethodName)) ∈ lw_all := lw_g (lw_at lw_m6 200 rfl) rfl
theorem q1472 : (Jvm.Cond.selects "TwoGuildsModel" ({ cls := "TwoGuildsModel", name := "glove", desc := "(IIII)I" } : Jvm.MethodName) ({ cls := "TwoGuildsModel", name := "glove", desc := "(IIII)I" } : Jvm.MethodName)) ∈ lw_all := lw_g (lw_at lw_m6 201 rfl) rfl
theorem q1473 : (Jvm.Cond.code ({ cls := "TwoGuildsModel", name := "glove", desc := "(IIII)I" } : Jvm.MethodName) prog_22_method_12_code (5 : Nat) (Option.some Jvm.ClassFile.FieldType.int)) ∈ lw_all := lw_g (lw_at lw_m6 202 rfl) rfl
theorem q1474 : (Jvm.Cond.methodLink "TwoGuildsModel" (85 : Nat) ({ cls := "TwoGuildsModel", name := "in", desc := "(III)Z" } : Jvm.MethodName)) ∈ lw_all := lw_g (lw_at lw_m6 203 rfl) rfl
theorem q1475 : (Jvm.Cond.static ({ cls := "TwoGuildsModel", name := "in", desc := "(III)Z" } : Jvm.MethodName)) ∈ lw_all := lw_g (lw_at lw_m6 204 rfl) rfl
theorem q1476 : (Jvm.Cond.code ({ cls := "TwoGuildsModel", name := "in", desc := "(III)Z" } : Jvm.MethodName) prog_22_method_2_code (3 : Nat) (Option.some Jvm.ClassFile.FieldType.boolean)) ∈ lw_all := lw_g (lw_at lw_m6 205 rfl) rfl
theorem q1477 : (Jvm.Cond.constant "TwoGuildsModel" (93 : Nat) (-1000000001 : Int32)) ∈ lw_all := lw_g (lw_at lw_m6 206 rfl) rfl
theorem q1478 : (Jvm.Cond.constant "TwoGuildsModel" (94 : Nat) (-1000000003 : Int32)) ∈ lw_all := lw_g (lw_at lw_m6 207 rfl) rfl
theorem q1479 : (Jvm.Cond.methodLink "TwoGuildsModel" (95 : Nat) ({ cls := "TwoGuildsModel", name := "comes", desc := "(IIII)I" } : Jvm.MethodName)) ∈ lw_all := lw_g (lw_at lw_m6 208 rfl) rfl
theorem q1480 : (Jvm.Cond.privateMethod ({ cls := "TwoGuildsModel", name := "comes", desc := "(IIII)I" } : Jvm.MethodName)) ∈ lw_tbl := lw_at lw_m6 209 rfl
theorem q1481 : (Jvm.Cond.instanceMethod ({ cls := "TwoGuildsModel", name := "comes", desc := "(IIII)I" } : Jvm.MethodName)) ∈ lw_all := lw_g (lw_at lw_m6 210 rfl) rfl
theorem q1482 : (Jvm.Cond.code ({ cls := "TwoGuildsModel", name := "comes", desc := "(IIII)I" } : Jvm.MethodName) prog_22_method_10_code (6 : Nat) (Option.some Jvm.ClassFile.FieldType.int)) ∈ lw_all := lw_g (lw_at lw_m6 211 rfl) rfl
theorem q1483 : (Jvm.Cond.methodLink "TwoGuildsModel" (89 : Nat) ({ cls := "TwoGuildsModel", name := "put", desc := "(III)V" } : Jvm.MethodName)) ∈ lw_all := lw_g (lw_at lw_m6 212 rfl) rfl
theorem q1484 : (Jvm.Cond.privateMethod ({ cls := "TwoGuildsModel", name := "put", desc := "(III)V" } : Jvm.MethodName)) ∈ lw_tbl := lw_at lw_m6 213 rfl
theorem q1485 : (Jvm.Cond.instanceMethod ({ cls := "TwoGuildsModel", name := "put", desc := "(III)V" } : Jvm.MethodName)) ∈ lw_all := lw_g (lw_at lw_m6 214 rfl) rfl
theorem q1486 : (Jvm.Cond.code ({ cls := "TwoGuildsModel", name := "put", desc := "(III)V" } : Jvm.MethodName) prog_22_method_8_code (4 : Nat) (Option.none : Option Jvm.ClassFile.FieldType)) ∈ lw_all := lw_g (lw_at lw_m6 215 rfl) rfl
theorem q1488 : (Jvm.Cond.instanceMethod ({ cls := "TwoGuildsModel", name := "told", desc := "(II)I" } : Jvm.MethodName)) ∈ lw_all := lw_g (lw_at lw_m6 217 rfl) rfl
theorem q1489 : (Jvm.Cond.selects "TwoGuildsModel" ({ cls := "TwoGuildsModel", name := "told", desc := "(II)I" } : Jvm.MethodName) ({ cls := "TwoGuildsModel", name := "told", desc := "(II)I" } : Jvm.MethodName)) ∈ lw_all := lw_g (lw_at lw_m6 218 rfl) rfl
theorem q1490 : (Jvm.Cond.code ({ cls := "TwoGuildsModel", name := "told", desc := "(II)I" } : Jvm.MethodName) prog_22_method_14_code (3 : Nat) (Option.some Jvm.ClassFile.FieldType.int)) ∈ lw_all := lw_g (lw_at lw_m6 219 rfl) rfl
theorem q1491 : (Jvm.Cond.methodLink "TwoGuildsModel" (103 : Nat) ({ cls := "TwoGuildsModel", name := "isGlove", desc := "(I)Z" } : Jvm.MethodName)) ∈ lw_all := lw_g (lw_at lw_m6 220 rfl) rfl
theorem q1492 : (Jvm.Cond.privateMethod ({ cls := "TwoGuildsModel", name := "isGlove", desc := "(I)Z" } : Jvm.MethodName)) ∈ lw_tbl := lw_at lw_m6 221 rfl
theorem q1493 : (Jvm.Cond.instanceMethod ({ cls := "TwoGuildsModel", name := "isGlove", desc := "(I)Z" } : Jvm.MethodName)) ∈ lw_all := lw_g (lw_at lw_m6 222 rfl) rfl
theorem q1494 : (Jvm.Cond.code ({ cls := "TwoGuildsModel", name := "isGlove", desc := "(I)Z" } : Jvm.MethodName) prog_22_method_6_code (2 : Nat) (Option.some Jvm.ClassFile.FieldType.boolean)) ∈ lw_all := lw_g (lw_at lw_m6 223 rfl) rfl
theorem q1495 : (Jvm.Cond.methodLink "TwoGuildsModel" (99 : Nat) ({ cls := "TwoGuildsModel", name := "of", desc := "(II)I" } : Jvm.MethodName)) ∈ lw_all := lw_g (lw_at lw_m6 224 rfl) rfl
theorem q1496 : (Jvm.Cond.privateMethod ({ cls := "TwoGuildsModel", name := "of", desc := "(II)I" } : Jvm.MethodName)) ∈ lw_tbl := lw_at lw_m6 225 rfl
theorem q1497 : (Jvm.Cond.instanceMethod ({ cls := "TwoGuildsModel", name := "of", desc := "(II)I" } : Jvm.MethodName)) ∈ lw_all := lw_g (lw_at lw_m6 226 rfl) rfl
theorem q1498 : (Jvm.Cond.code ({ cls := "TwoGuildsModel", name := "of", desc := "(II)I" } : Jvm.MethodName) prog_22_method_7_code (3 : Nat) (Option.some Jvm.ClassFile.FieldType.int)) ∈ lw_all := lw_g (lw_at lw_m6 227 rfl) rfl
theorem q1499 : (Jvm.Cond.methodLink "TwoGuildsModel" (107 : Nat) ({ cls := "TwoGuildsModel", name := "worthOf", desc := "(I)I" } : Jvm.MethodName)) ∈ lw_all := lw_g (lw_at lw_m6 228 rfl) rfl
theorem q1500 : (Jvm.Cond.privateMethod ({ cls := "TwoGuildsModel", name := "worthOf", desc := "(I)I" } : Jvm.MethodName)) ∈ lw_tbl := lw_at lw_m6 229 rfl
theorem q1501 : (Jvm.Cond.instanceMethod ({ cls := "TwoGuildsModel", name := "worthOf", desc := "(I)I" } : Jvm.MethodName)) ∈ lw_all := lw_g (lw_at lw_m6 230 rfl) rfl
theorem q1502 : (Jvm.Cond.code ({ cls := "TwoGuildsModel", name := "worthOf", desc := "(I)I" } : Jvm.MethodName) prog_22_method_13_code (3 : Nat) (Option.some Jvm.ClassFile.FieldType.int)) ∈ lw_all := lw_g (lw_at lw_m6 231 rfl) rfl
theorem q1504 : (Jvm.Cond.instanceMethod ({ cls := "TwoGuildsModel", name := "as", desc := "(II)I" } : Jvm.MethodName)) ∈ lw_all := lw_g (lw_at lw_m6 233 rfl) rfl
theorem q1505 : (Jvm.Cond.selects "TwoGuildsModel" ({ cls := "TwoGuildsModel", name := "as", desc := "(II)I" } : Jvm.MethodName) ({ cls := "TwoGuildsModel", name := "as", desc := "(II)I" } : Jvm.MethodName)) ∈ lw_all := lw_g (lw_at lw_m6 234 rfl) rfl
theorem q1506 : (Jvm.Cond.code ({ cls := "TwoGuildsModel", name := "as", desc := "(II)I" } : Jvm.MethodName) prog_22_method_16_code (3 : Nat) (Option.some Jvm.ClassFile.FieldType.int)) ∈ lw_all := lw_g (lw_at lw_m6 235 rfl) rfl
theorem q1507 : (Jvm.Cond.methodLink "TwoGuildsModel" (111 : Nat) ({ cls := "TwoGuildsModel", name := "isUnder", desc := "(II)Z" } : Jvm.MethodName)) ∈ lw_all := lw_g (lw_at lw_m6 236 rfl) rfl
theorem q1508 : (Jvm.Cond.static ({ cls := "TwoGuildsModel", name := "isUnder", desc := "(II)Z" } : Jvm.MethodName)) ∈ lw_all := lw_g (lw_at lw_m6 237 rfl) rfl
theorem q1509 : (Jvm.Cond.code ({ cls := "TwoGuildsModel", name := "isUnder", desc := "(II)Z" } : Jvm.MethodName) prog_22_method_15_code (2 : Nat) (Option.some Jvm.ClassFile.FieldType.boolean)) ∈ lw_all := lw_g (lw_at lw_m6 238 rfl) rfl
theorem q1510 : (Jvm.Cond.constant "TwoGuildsModel" (115 : Nat) (-1000000012 : Int32)) ∈ lw_all := lw_g (lw_at lw_m6 239 rfl) rfl
theorem q1512 : (Jvm.Cond.instanceMethod ({ cls := "TwoGuildsModel", name := "turns", desc := "(II)I" } : Jvm.MethodName)) ∈ lw_all := lw_g (lw_at lw_m7 1 rfl) rfl
theorem q1513 : (Jvm.Cond.selects "TwoGuildsModel" ({ cls := "TwoGuildsModel", name := "turns", desc := "(II)I" } : Jvm.MethodName) ({ cls := "TwoGuildsModel", name := "turns", desc := "(II)I" } : Jvm.MethodName)) ∈ lw_all := lw_g (lw_at lw_m7 2 rfl) rfl
theorem q1514 : (Jvm.Cond.code ({ cls := "TwoGuildsModel", name := "turns", desc := "(II)I" } : Jvm.MethodName) prog_22_method_17_code (3 : Nat) (Option.some Jvm.ClassFile.FieldType.int)) ∈ lw_all := lw_g (lw_at lw_m7 3 rfl) rfl
theorem q1515 : (Jvm.Cond.methodLink "TwoGuildsModel" (116 : Nat) ({ cls := "TwoGuildsModel", name := "becomes", desc := "(II)I" } : Jvm.MethodName)) ∈ lw_all := lw_g (lw_at lw_m7 4 rfl) rfl
theorem q1516 : (Jvm.Cond.privateMethod ({ cls := "TwoGuildsModel", name := "becomes", desc := "(II)I" } : Jvm.MethodName)) ∈ lw_tbl := lw_at lw_m7 5 rfl
theorem q1517 : (Jvm.Cond.instanceMethod ({ cls := "TwoGuildsModel", name := "becomes", desc := "(II)I" } : Jvm.MethodName)) ∈ lw_all := lw_g (lw_at lw_m7 6 rfl) rfl
theorem q1518 : (Jvm.Cond.code ({ cls := "TwoGuildsModel", name := "becomes", desc := "(II)I" } : Jvm.MethodName) prog_22_method_9_code (4 : Nat) (Option.some Jvm.ClassFile.FieldType.int)) ∈ lw_all := lw_g (lw_at lw_m7 7 rfl) rfl
theorem q1520 : (Jvm.Cond.instanceMethod ({ cls := "TwoGuildsModel", name := "set", desc := "(III)I" } : Jvm.MethodName)) ∈ lw_all := lw_g (lw_at lw_m7 9 rfl) rfl
theorem q1521 : (Jvm.Cond.selects "TwoGuildsModel" ({ cls := "TwoGuildsModel", name := "set", desc := "(III)I" } : Jvm.MethodName) ({ cls := "TwoGuildsModel", name := "set", desc := "(III)I" } : Jvm.MethodName)) ∈ lw_all := lw_g (lw_at lw_m7 10 rfl) rfl
theorem q1522 : (Jvm.Cond.code ({ cls := "TwoGuildsModel", name := "set", desc := "(III)I" } : Jvm.MethodName) prog_22_method_18_code (4 : Nat) (Option.some Jvm.ClassFile.FieldType.int)) ∈ lw_all := lw_g (lw_at lw_m7 11 rfl) rfl
theorem q1523 : (Jvm.Cond.methodLink "TwoGuildsModel" (119 : Nat) ({ cls := "TwoGuildsModel", name := "mostOf", desc := "(I)I" } : Jvm.MethodName)) ∈ lw_all := lw_g (lw_at lw_m7 12 rfl) rfl
theorem q1524 : (Jvm.Cond.static ({ cls := "TwoGuildsModel", name := "mostOf", desc := "(I)I" } : Jvm.MethodName)) ∈ lw_all := lw_g (lw_at lw_m7 13 rfl) rfl
theorem q1525 : (Jvm.Cond.code ({ cls := "TwoGuildsModel", name := "mostOf", desc := "(I)I" } : Jvm.MethodName) prog_22_method_11_code (1 : Nat) (Option.some Jvm.ClassFile.FieldType.int)) ∈ lw_all := lw_g (lw_at lw_m7 14 rfl) rfl
theorem q1527 : (Jvm.Cond.instanceMethod ({ cls := "TwoGuildsModel", name := "fits", desc := "(II)I" } : Jvm.MethodName)) ∈ lw_all := lw_g (lw_at lw_m7 16 rfl) rfl
theorem q1528 : (Jvm.Cond.selects "TwoGuildsModel" ({ cls := "TwoGuildsModel", name := "fits", desc := "(II)I" } : Jvm.MethodName) ({ cls := "TwoGuildsModel", name := "fits", desc := "(II)I" } : Jvm.MethodName)) ∈ lw_all := lw_g (lw_at lw_m7 17 rfl) rfl
theorem q1529 : (Jvm.Cond.code ({ cls := "TwoGuildsModel", name := "fits", desc := "(II)I" } : Jvm.MethodName) prog_22_method_20_code (3 : Nat) (Option.some Jvm.ClassFile.FieldType.int)) ∈ lw_all := lw_g (lw_at lw_m7 18 rfl) rfl
theorem q1530 : (Jvm.Cond.methodLink "TwoGuildsModel" (122 : Nat) ({ cls := "TwoGuildsModel", name := "doesFit", desc := "(II)Z" } : Jvm.MethodName)) ∈ lw_all := lw_g (lw_at lw_m7 19 rfl) rfl
theorem q1531 : (Jvm.Cond.privateMethod ({ cls := "TwoGuildsModel", name := "doesFit", desc := "(II)Z" } : Jvm.MethodName)) ∈ lw_tbl := lw_at lw_m7 20 rfl
theorem q1532 : (Jvm.Cond.instanceMethod ({ cls := "TwoGuildsModel", name := "doesFit", desc := "(II)Z" } : Jvm.MethodName)) ∈ lw_all := lw_g (lw_at lw_m7 21 rfl) rfl
theorem q1533 : (Jvm.Cond.code ({ cls := "TwoGuildsModel", name := "doesFit", desc := "(II)Z" } : Jvm.MethodName) prog_22_method_19_code (7 : Nat) (Option.some Jvm.ClassFile.FieldType.boolean)) ∈ lw_all := lw_g (lw_at lw_m7 22 rfl) rfl
theorem q1535 : (Jvm.Cond.instanceMethod ({ cls := "TwoGuildsModel", name := "value", desc := "(II)I" } : Jvm.MethodName)) ∈ lw_all := lw_g (lw_at lw_m7 24 rfl) rfl
theorem q1536 : (Jvm.Cond.selects "TwoGuildsModel" ({ cls := "TwoGuildsModel", name := "value", desc := "(II)I" } : Jvm.MethodName) ({ cls := "TwoGuildsModel", name := "value", desc := "(II)I" } : Jvm.MethodName)) ∈ lw_all := lw_g (lw_at lw_m7 25 rfl) rfl
theorem q1537 : (Jvm.Cond.code ({ cls := "TwoGuildsModel", name := "value", desc := "(II)I" } : Jvm.MethodName) prog_22_method_23_code (3 : Nat) (Option.some Jvm.ClassFile.FieldType.int)) ∈ lw_all := lw_g (lw_at lw_m7 26 rfl) rfl
theorem q1538 : (Jvm.Cond.methodLink "TwoGuildsModel" (135 : Nat) ({ cls := "TwoGuildsModel", name := "isPair", desc := "(II)Z" } : Jvm.MethodName)) ∈ lw_all := lw_g (lw_at lw_m7 27 rfl) rfl
theorem q1539 : (Jvm.Cond.privateMethod ({ cls := "TwoGuildsModel", name := "isPair", desc := "(II)Z" } : Jvm.MethodName)) ∈ lw_tbl := lw_at lw_m7 28 rfl
theorem q1540 : (Jvm.Cond.instanceMethod ({ cls := "TwoGuildsModel", name := "isPair", desc := "(II)Z" } : Jvm.MethodName)) ∈ lw_all := lw_g (lw_at lw_m7 29 rfl) rfl
theorem q1541 : (Jvm.Cond.code ({ cls := "TwoGuildsModel", name := "isPair", desc := "(II)Z" } : Jvm.MethodName) prog_22_method_21_code (4 : Nat) (Option.some Jvm.ClassFile.FieldType.boolean)) ∈ lw_all := lw_g (lw_at lw_m7 30 rfl) rfl
theorem q1542 : (Jvm.Cond.methodLink "TwoGuildsModel" (138 : Nat) ({ cls := "TwoGuildsModel", name := "valueOf", desc := "(II)I" } : Jvm.MethodName)) ∈ lw_all := lw_g (lw_at lw_m7 31 rfl) rfl
theorem q1543 : (Jvm.Cond.privateMethod ({ cls := "TwoGuildsModel", name := "valueOf", desc := "(II)I" } : Jvm.MethodName)) ∈ lw_tbl := lw_at lw_m7 32 rfl
theorem q1544 : (Jvm.Cond.instanceMethod ({ cls := "TwoGuildsModel", name := "valueOf", desc := "(II)I" } : Jvm.MethodName)) ∈ lw_all := lw_g (lw_at lw_m7 33 rfl) rfl
theorem q1545 : (Jvm.Cond.code ({ cls := "TwoGuildsModel", name := "valueOf", desc := "(II)I" } : Jvm.MethodName) prog_22_method_22_code (7 : Nat) (Option.some Jvm.ClassFile.FieldType.int)) ∈ lw_all := lw_g (lw_at lw_m7 34 rfl) rfl
theorem q1546 : (Jvm.Cond.methodLink "TwoGuildsModel" (125 : Nat) ({ cls := "TwoGuildsModel", name := "counts", desc := "(I)I" } : Jvm.MethodName)) ∈ lw_all := lw_g (lw_at lw_m7 35 rfl) rfl
theorem q1547 : (Jvm.Cond.privateMethod ({ cls := "TwoGuildsModel", name := "counts", desc := "(I)I" } : Jvm.MethodName)) ∈ lw_tbl := lw_at lw_m7 36 rfl
theorem q1548 : (Jvm.Cond.instanceMethod ({ cls := "TwoGuildsModel", name := "counts", desc := "(I)I" } : Jvm.MethodName)) ∈ lw_all := lw_g (lw_at lw_m7 37 rfl) rfl
theorem q1549 : (Jvm.Cond.code ({ cls := "TwoGuildsModel", name := "counts", desc := "(I)I" } : Jvm.MethodName) prog_22_method_75_code (3 : Nat) (Option.some Jvm.ClassFile.FieldType.int)) ∈ lw_all := lw_g (lw_at lw_m7 38 rfl) rfl
theorem q1550 : (Jvm.Cond.methodLink "TwoGuildsModel" (128 : Nat) ({ cls := "TwoGuildsModel", name := "within", desc := "(III)I" } : Jvm.MethodName)) ∈ lw_all := lw_g (lw_at lw_m7 39 rfl) rfl
theorem q1551 : (Jvm.Cond.static ({ cls := "TwoGuildsModel", name := "within", desc := "(III)I" } : Jvm.MethodName)) ∈ lw_all := lw_g (lw_at lw_m7 40 rfl) rfl
theorem q1552 : (Jvm.Cond.code ({ cls := "TwoGuildsModel", name := "within", desc := "(III)I" } : Jvm.MethodName) prog_22_method_3_code (3 : Nat) (Option.some Jvm.ClassFile.FieldType.int)) ∈ lw_all := lw_g (lw_at lw_m7 41 rfl) rfl
theorem q1553 : (Jvm.Cond.methodLink "TwoGuildsModel" (132 : Nat) ({ cls := "TwoGuildsModel", name := "worksOut", desc := "(I)I" } : Jvm.MethodName)) ∈ lw_all := lw_g (lw_at lw_m7 42 rfl) rfl
theorem q1554 : (Jvm.Cond.privateMethod ({ cls := "TwoGuildsModel", name := "worksOut", desc := "(I)I" } : Jvm.MethodName)) ∈ lw_tbl := lw_at lw_m7 43 rfl
theorem q1555 : (Jvm.Cond.instanceMethod ({ cls := "TwoGuildsModel", name := "worksOut", desc := "(I)I" } : Jvm.MethodName)) ∈ lw_all := lw_g (lw_at lw_m7 44 rfl) rfl
theorem q1556 : (Jvm.Cond.code ({ cls := "TwoGuildsModel", name := "worksOut", desc := "(I)I" } : Jvm.MethodName) prog_22_method_78_code (6 : Nat) (Option.some Jvm.ClassFile.FieldType.int)) ∈ lw_all := lw_g (lw_at lw_m7 45 rfl) rfl
theorem q1557 : (Jvm.Cond.methodLink "TwoGuildsModel" (279 : Nat) ({ cls := "TwoGuildsModel", name := "two", desc := "(III)I" } : Jvm.MethodName)) ∈ lw_all := lw_g (lw_at lw_m7 46 rfl) rfl
theorem q1558 : (Jvm.Cond.static ({ cls := "TwoGuildsModel", name := "two", desc := "(III)I" } : Jvm.MethodName)) ∈ lw_all := lw_g (lw_at lw_m7 47 rfl) rfl
theorem q1559 : (Jvm.Cond.code ({ cls := "TwoGuildsModel", name := "two", desc := "(III)I" } : Jvm.MethodName) prog_22_method_77_code (3 : Nat) (Option.some Jvm.ClassFile.FieldType.int)) ∈ lw_all := lw_g (lw_at lw_m7 48 rfl) rfl
theorem q1560 : (Jvm.Cond.constant "TwoGuildsModel" (84 : Nat) (-1000000005 : Int32)) ∈ lw_all := lw_g (lw_at lw_m7 49 rfl) rfl
theorem q1562 : (Jvm.Cond.instanceMethod ({ cls := "TwoGuildsModel", name := "deal", desc := "(I)I" } : Jvm.MethodName)) ∈ lw_all := lw_g (lw_at lw_m7 51 rfl) rfl
theorem q1563 : (Jvm.Cond.selects "TwoGuildsModel" ({ cls := "TwoGuildsModel", name := "deal", desc := "(I)I" } : Jvm.MethodName) ({ cls := "TwoGuildsModel", name := "deal", desc := "(I)I" } : Jvm.MethodName)) ∈ lw_all := lw_g (lw_at lw_m7 52 rfl) rfl
theorem q1564 : (Jvm.Cond.code ({ cls := "TwoGuildsModel", name := "deal", desc := "(I)I" } : Jvm.MethodName) prog_22_method_25_code (7 : Nat) (Option.some Jvm.ClassFile.FieldType.int)) ∈ lw_all := lw_g (lw_at lw_m7 53 rfl) rfl
theorem q1565 : (Jvm.Cond.methodLink "TwoGuildsModel" (142 : Nat) ({ cls := "TwoGuildsModel", name := "draw", desc := "()I" } : Jvm.MethodName)) ∈ lw_all := lw_g (lw_at lw_m7 54 rfl) rfl
theorem q1566 : (Jvm.Cond.privateMethod ({ cls := "TwoGuildsModel", name := "draw", desc := "()I" } : Jvm.MethodName)) ∈ lw_tbl := lw_at lw_m7 55 rfl
theorem q1567 : (Jvm.Cond.instanceMethod ({ cls := "TwoGuildsModel", name := "draw", desc := "()I" } : Jvm.MethodName)) ∈ lw_all := lw_g (lw_at lw_m7 56 rfl) rfl
theorem q1568 : (Jvm.Cond.code ({ cls := "TwoGuildsModel", name := "draw", desc := "()I" } : Jvm.MethodName) prog_22_method_24_code (1 : Nat) (Option.some Jvm.ClassFile.FieldType.int)) ∈ lw_all := lw_g (lw_at lw_m7 57 rfl) rfl
theorem q1569 : (Jvm.Cond.constant "TwoGuildsModel" (141 : Nat) (1103515245 : Int32)) ∈ lw_all := lw_g (lw_at lw_m7 58 rfl) rfl
theorem q1571 : (Jvm.Cond.instanceMethod ({ cls := "TwoGuildsModel", name := "seed", desc := "(I)I" } : Jvm.MethodName)) ∈ lw_all := lw_g (lw_at lw_m7 60 rfl) rfl
theorem q1572 : (Jvm.Cond.selects "TwoGuildsModel" ({ cls := "TwoGuildsModel", name := "seed", desc := "(I)I" } : Jvm.MethodName) ({ cls := "TwoGuildsModel", name := "seed", desc := "(I)I" } : Jvm.MethodName)) ∈ lw_all := lw_g (lw_at lw_m7 61 rfl) rfl
theorem q1573 : (Jvm.Cond.code ({ cls := "TwoGuildsModel", name := "seed", desc := "(I)I" } : Jvm.MethodName) prog_22_method_26_code (2 : Nat) (Option.some Jvm.ClassFile.FieldType.int)) ∈ lw_all := lw_g (lw_at lw_m7 62 rfl) rfl
theorem q1575 : (Jvm.Cond.instanceMethod ({ cls := "TwoGuildsModel", name := "best", desc := "(I)I" } : Jvm.MethodName)) ∈ lw_all := lw_g (lw_at lw_m7 64 rfl) rfl
theorem q1576 : (Jvm.Cond.selects "TwoGuildsModel" ({ cls := "TwoGuildsModel", name := "best", desc := "(I)I" } : Jvm.MethodName) ({ cls := "TwoGuildsModel", name := "best", desc := "(I)I" } : Jvm.MethodName)) ∈ lw_all := lw_g (lw_at lw_m7 65 rfl) rfl
theorem q1577 : (Jvm.Cond.code ({ cls := "TwoGuildsModel", name := "best", desc := "(I)I" } : Jvm.MethodName) prog_22_method_31_code (2 : Nat) (Option.some Jvm.ClassFile.FieldType.int)) ∈ lw_all := lw_g (lw_at lw_m7 66 rfl) rfl
theorem q1578 : (Jvm.Cond.methodLink "TwoGuildsModel" (152 : Nat) ({ cls := "TwoGuildsModel", name := "all", desc := "()I" } : Jvm.MethodName)) ∈ lw_all := lw_g (lw_at lw_m7 67 rfl) rfl
theorem q1579 : (Jvm.Cond.privateMethod ({ cls := "TwoGuildsModel", name := "all", desc := "()I" } : Jvm.MethodName)) ∈ lw_tbl := lw_at lw_m7 68 rfl
theorem q1580 : (Jvm.Cond.instanceMethod ({ cls := "TwoGuildsModel", name := "all", desc := "()I" } : Jvm.MethodName)) ∈ lw_all := lw_g (lw_at lw_m7 69 rfl) rfl
theorem q1581 : (Jvm.Cond.code ({ cls := "TwoGuildsModel", name := "all", desc := "()I" } : Jvm.MethodName) prog_22_method_30_code (1 : Nat) (Option.some Jvm.ClassFile.FieldType.int)) ∈ lw_all := lw_g (lw_at lw_m7 70 rfl) rfl
theorem q1582 : (Jvm.Cond.methodLink "TwoGuildsModel" (155 : Nat) ({ cls := "TwoGuildsModel", name := "findBests", desc := "()V" } : Jvm.MethodName)) ∈ lw_all := lw_g (lw_at lw_m7 71 rfl) rfl
theorem q1583 : (Jvm.Cond.privateMethod ({ cls := "TwoGuildsModel", name := "findBests", desc := "()V" } : Jvm.MethodName)) ∈ lw_tbl := lw_at lw_m7 72 rfl
theorem q1584 : (Jvm.Cond.instanceMethod ({ cls := "TwoGuildsModel", name := "findBests", desc := "()V" } : Jvm.MethodName)) ∈ lw_all := lw_g (lw_at lw_m7 73 rfl) rfl
theorem q1585 : (Jvm.Cond.code ({ cls := "TwoGuildsModel", name := "findBests", desc := "()V" } : Jvm.MethodName) prog_22_method_27_code (4 : Nat) (Option.none : Option Jvm.ClassFile.FieldType)) ∈ lw_all := lw_g (lw_at lw_m7 74 rfl) rfl
theorem q1586 : (Jvm.Cond.methodLink "TwoGuildsModel" (146 : Nat) ({ cls := "TwoGuildsModel", name := "bestFrom", desc := "(I)I" } : Jvm.MethodName)) ∈ lw_all := lw_g (lw_at lw_m7 75 rfl) rfl
theorem q1587 : (Jvm.Cond.privateMethod ({ cls := "TwoGuildsModel", name := "bestFrom", desc := "(I)I" } : Jvm.MethodName)) ∈ lw_tbl := lw_at lw_m7 76 rfl
theorem q1588 : (Jvm.Cond.instanceMethod ({ cls := "TwoGuildsModel", name := "bestFrom", desc := "(I)I" } : Jvm.MethodName)) ∈ lw_all := lw_g (lw_at lw_m7 77 rfl) rfl
theorem q1589 : (Jvm.Cond.code ({ cls := "TwoGuildsModel", name := "bestFrom", desc := "(I)I" } : Jvm.MethodName) prog_22_method_29_code (7 : Nat) (Option.some Jvm.ClassFile.FieldType.int)) ∈ lw_all := lw_g (lw_at lw_m7 78 rfl) rfl
theorem q1590 : (Jvm.Cond.methodLink "TwoGuildsModel" (149 : Nat) ({ cls := "TwoGuildsModel", name := "firstOf", desc := "(I)I" } : Jvm.MethodName)) ∈ lw_all := lw_g (lw_at lw_m7 79 rfl) rfl
theorem q1591 : (Jvm.Cond.static ({ cls := "TwoGuildsModel", name := "firstOf", desc := "(I)I" } : Jvm.MethodName)) ∈ lw_all := lw_g (lw_at lw_m7 80 rfl) rfl
theorem q1592 : (Jvm.Cond.code ({ cls := "TwoGuildsModel", name := "firstOf", desc := "(I)I" } : Jvm.MethodName) prog_22_method_28_code (2 : Nat) (Option.some Jvm.ClassFile.FieldType.int)) ∈ lw_all := lw_g (lw_at lw_m7 81 rfl) rfl
theorem q1594 : (Jvm.Cond.instanceMethod ({ cls := "TwoGuildsModel", name := "partner", desc := "(I)I" } : Jvm.MethodName)) ∈ lw_all := lw_g (lw_at lw_m7 83 rfl) rfl
theorem q1595 : (Jvm.Cond.selects "TwoGuildsModel" ({ cls := "TwoGuildsModel", name := "partner", desc := "(I)I" } : Jvm.MethodName) ({ cls := "TwoGuildsModel", name := "partner", desc := "(I)I" } : Jvm.MethodName)) ∈ lw_all := lw_g (lw_at lw_m7 84 rfl) rfl
theorem q1596 : (Jvm.Cond.code ({ cls := "TwoGuildsModel", name := "partner", desc := "(I)I" } : Jvm.MethodName) prog_22_method_32_code (9 : Nat) (Option.some Jvm.ClassFile.FieldType.int)) ∈ lw_all := lw_g (lw_at lw_m7 85 rfl) rfl
theorem q1597 : (Jvm.Cond.methodLink "TwoGuildsModel" (158 : Nat) ({ cls := "TwoGuildsModel", name := "told0", desc := "(I)I" } : Jvm.MethodName)) ∈ lw_all := lw_g (lw_at lw_m7 86 rfl) rfl
theorem q1598 : (Jvm.Cond.static ({ cls := "TwoGuildsModel", name := "told0", desc := "(I)I" } : Jvm.MethodName)) ∈ lw_all := lw_g (lw_at lw_m7 87 rfl) rfl
theorem q1599 : (Jvm.Cond.code ({ cls := "TwoGuildsModel", name := "told0", desc := "(I)I" } : Jvm.MethodName) prog_22_method_5_code (1 : Nat) (Option.some Jvm.ClassFile.FieldType.int)) ∈ lw_all := lw_g (lw_at lw_m7 88 rfl) rfl
theorem q1601 : (Jvm.Cond.instanceMethod ({ cls := "TwoGuildsModel", name := "adds", desc := "(I)I" } : Jvm.MethodName)) ∈ lw_all := lw_g (lw_at lw_m7 90 rfl) rfl
theorem q1602 : (Jvm.Cond.selects "TwoGuildsModel" ({ cls := "TwoGuildsModel", name := "adds", desc := "(I)I" } : Jvm.MethodName) ({ cls := "TwoGuildsModel", name := "adds", desc := "(I)I" } : Jvm.MethodName)) ∈ lw_all := lw_g (lw_at lw_m7 91 rfl) rfl
theorem q1603 : (Jvm.Cond.code ({ cls := "TwoGuildsModel", name := "adds", desc := "(I)I" } : Jvm.MethodName) prog_22_method_33_code (2 : Nat) (Option.some Jvm.ClassFile.FieldType.int)) ∈ lw_all := lw_g (lw_at lw_m7 92 rfl) rfl
theorem q1605 : (Jvm.Cond.instanceMethod ({ cls := "TwoGuildsModel", name := "leaves", desc := "(I)I" } : Jvm.MethodName)) ∈ lw_all := lw_g (lw_at lw_m7 94 rfl) rfl
theorem q1606 : (Jvm.Cond.selects "TwoGuildsModel" ({ cls := "TwoGuildsModel", name := "leaves", desc := "(I)I" } : Jvm.MethodName) ({ cls := "TwoGuildsModel", name := "leaves", desc := "(I)I" } : Jvm.MethodName)) ∈ lw_all := lw_g (lw_at lw_m7 95 rfl) rfl
theorem q1607 : (Jvm.Cond.code ({ cls := "TwoGuildsModel", name := "leaves", desc := "(I)I" } : Jvm.MethodName) prog_22_method_37_code (5 : Nat) (Option.some Jvm.ClassFile.FieldType.int)) ∈ lw_all := lw_g (lw_at lw_m7 96 rfl) rfl
theorem q1608 : (Jvm.Cond.methodLink "TwoGuildsModel" (167 : Nat) ({ cls := "TwoGuildsModel", name := "isSheet", desc := "(I)Z" } : Jvm.MethodName)) ∈ lw_all := lw_g (lw_at lw_m7 97 rfl) rfl
theorem q1609 : (Jvm.Cond.static ({ cls := "TwoGuildsModel", name := "isSheet", desc := "(I)Z" } : Jvm.MethodName)) ∈ lw_all := lw_g (lw_at lw_m7 98 rfl) rfl
theorem q1610 : (Jvm.Cond.code ({ cls := "TwoGuildsModel", name := "isSheet", desc := "(I)Z" } : Jvm.MethodName) prog_22_method_79_code (1 : Nat) (Option.some Jvm.ClassFile.FieldType.boolean)) ∈ lw_all := lw_g (lw_at lw_m7 99 rfl) rfl
theorem q1611 : (Jvm.Cond.constant "TwoGuildsModel" (170 : Nat) (-1000000011 : Int32)) ∈ lw_all := lw_g (lw_at lw_m7 100 rfl) rfl
theorem q1612 : (Jvm.Cond.methodLink "TwoGuildsModel" (171 : Nat) ({ cls := "TwoGuildsModel", name := "hasBy", desc := "(II)I" } : Jvm.MethodName)) ∈ lw_all := lw_g (lw_at lw_m7 101 rfl) rfl
theorem q1613 : (Jvm.Cond.privateMethod ({ cls := "TwoGuildsModel", name := "hasBy", desc := "(II)I" } : Jvm.MethodName)) ∈ lw_tbl := lw_at lw_m7 102 rfl
theorem q1614 : (Jvm.Cond.instanceMethod ({ cls := "TwoGuildsModel", name := "hasBy", desc := "(II)I" } : Jvm.MethodName)) ∈ lw_all := lw_g (lw_at lw_m7 103 rfl) rfl
theorem q1615 : (Jvm.Cond.code ({ cls := "TwoGuildsModel", name := "hasBy", desc := "(II)I" } : Jvm.MethodName) prog_22_method_36_code (4 : Nat) (Option.some Jvm.ClassFile.FieldType.int)) ∈ lw_all := lw_g (lw_at lw_m7 104 rfl) rfl
theorem q1616 : (Jvm.Cond.methodLink "TwoGuildsModel" (164 : Nat) ({ cls := "TwoGuildsModel", name := "arePartners", desc := "(III)Z" } : Jvm.MethodName)) ∈ lw_all := lw_g (lw_at lw_m7 105 rfl) rfl
theorem q1617 : (Jvm.Cond.privateMethod ({ cls := "TwoGuildsModel", name := "arePartners", desc := "(III)Z" } : Jvm.MethodName)) ∈ lw_tbl := lw_at lw_m7 106 rfl
theorem q1618 : (Jvm.Cond.instanceMethod ({ cls := "TwoGuildsModel", name := "arePartners", desc := "(III)Z" } : Jvm.MethodName)) ∈ lw_all := lw_g (lw_at lw_m7 107 rfl) rfl
theorem q1619 : (Jvm.Cond.code ({ cls := "TwoGuildsModel", name := "arePartners", desc := "(III)Z" } : Jvm.MethodName) prog_22_method_35_code (4 : Nat) (Option.some Jvm.ClassFile.FieldType.boolean)) ∈ lw_all := lw_g (lw_at lw_m7 108 rfl) rfl
theorem q1620 : (Jvm.Cond.methodLink "TwoGuildsModel" (161 : Nat) ({ cls := "TwoGuildsModel", name := "isTold", desc := "(III)Z" } : Jvm.MethodName)) ∈ lw_all := lw_g (lw_at lw_m7 109 rfl) rfl
theorem q1621 : (Jvm.Cond.privateMethod ({ cls := "TwoGuildsModel", name := "isTold", desc := "(III)Z" } : Jvm.MethodName)) ∈ lw_tbl := lw_at lw_m7 110 rfl
theorem q1622 : (Jvm.Cond.instanceMethod ({ cls := "TwoGuildsModel", name := "isTold", desc := "(III)Z" } : Jvm.MethodName)) ∈ lw_all := lw_g (lw_at lw_m7 111 rfl) rfl
theorem q1623 : (Jvm.Cond.code ({ cls := "TwoGuildsModel", name := "isTold", desc := "(III)Z" } : Jvm.MethodName) prog_22_method_34_code (4 : Nat) (Option.some Jvm.ClassFile.FieldType.boolean)) ∈ lw_all := lw_g (lw_at lw_m7 112 rfl) rfl
theorem q1625 : (Jvm.Cond.instanceMethod ({ cls := "TwoGuildsModel", name := "loss", desc := "(I)I" } : Jvm.MethodName)) ∈ lw_all := lw_g (lw_at lw_m7 114 rfl) rfl
theorem q1626 : (Jvm.Cond.selects "TwoGuildsModel" ({ cls := "TwoGuildsModel", name := "loss", desc := "(I)I" } : Jvm.MethodName) ({ cls := "TwoGuildsModel", name := "loss", desc := "(I)I" } : Jvm.MethodName)) ∈ lw_all := lw_g (lw_at lw_m7 115 rfl) rfl
theorem q1627 : (Jvm.Cond.code ({ cls := "TwoGuildsModel", name := "loss", desc := "(I)I" } : Jvm.MethodName) prog_22_method_38_code (2 : Nat) (Option.some Jvm.ClassFile.FieldType.int)) ∈ lw_all := lw_g (lw_at lw_m7 116 rfl) rfl
theorem q1629 : (Jvm.Cond.instanceMethod ({ cls := "TwoGuildsModel", name := "days", desc := "(I)I" } : Jvm.MethodName)) ∈ lw_all := lw_g (lw_at lw_m7 118 rfl) rfl
theorem q1630 : (Jvm.Cond.selects "TwoGuildsModel" ({ cls := "TwoGuildsModel", name := "days", desc := "(I)I" } : Jvm.MethodName) ({ cls := "TwoGuildsModel", name := "days", desc := "(I)I" } : Jvm.MethodName)) ∈ lw_all := lw_g (lw_at lw_m7 119 rfl) rfl
theorem q1631 : (Jvm.Cond.code ({ cls := "TwoGuildsModel", name := "days", desc := "(I)I" } : Jvm.MethodName) prog_22_method_42_code (2 : Nat) (Option.some Jvm.ClassFile.FieldType.int)) ∈ lw_all := lw_g (lw_at lw_m7 120 rfl) rfl
theorem q1632 : (Jvm.Cond.methodLink "TwoGuildsModel" (180 : Nat) ({ cls := "TwoGuildsModel", name := "goesOn", desc := "(II)I" } : Jvm.MethodName)) ∈ lw_all := lw_g (lw_at lw_m7 121 rfl) rfl
theorem q1633 : (Jvm.Cond.privateMethod ({ cls := "TwoGuildsModel", name := "goesOn", desc := "(II)I" } : Jvm.MethodName)) ∈ lw_tbl := lw_at lw_m7 122 rfl
theorem q1634 : (Jvm.Cond.instanceMethod ({ cls := "TwoGuildsModel", name := "goesOn", desc := "(II)I" } : Jvm.MethodName)) ∈ lw_all := lw_g (lw_at lw_m7 123 rfl) rfl
theorem q1635 : (Jvm.Cond.code ({ cls := "TwoGuildsModel", name := "goesOn", desc := "(II)I" } : Jvm.MethodName) prog_22_method_41_code (5 : Nat) (Option.some Jvm.ClassFile.FieldType.int)) ∈ lw_all := lw_g (lw_at lw_m7 124 rfl) rfl
theorem q1636 : (Jvm.Cond.methodLink "TwoGuildsModel" (177 : Nat) ({ cls := "TwoGuildsModel", name := "day", desc := "(I)I" } : Jvm.MethodName)) ∈ lw_all := lw_g (lw_at lw_m7 125 rfl) rfl
theorem q1637 : (Jvm.Cond.privateMethod ({ cls := "TwoGuildsModel", name := "day", desc := "(I)I" } : Jvm.MethodName)) ∈ lw_tbl := lw_at lw_m7 126 rfl
theorem q1638 : (Jvm.Cond.instanceMethod ({ cls := "TwoGuildsModel", name := "day", desc := "(I)I" } : Jvm.MethodName)) ∈ lw_all := lw_g (lw_at lw_m7 127 rfl) rfl
theorem q1639 : (Jvm.Cond.code ({ cls := "TwoGuildsModel", name := "day", desc := "(I)I" } : Jvm.MethodName) prog_22_method_40_code (6 : Nat) (Option.some Jvm.ClassFile.FieldType.int)) ∈ lw_all := lw_g (lw_at lw_m7 128 rfl) rfl
theorem q1640 : (Jvm.Cond.methodLink "TwoGuildsModel" (174 : Nat) ({ cls := "TwoGuildsModel", name := "wearsBy", desc := "(II)I" } : Jvm.MethodName)) ∈ lw_all := lw_g (lw_at lw_m7 129 rfl) rfl
theorem q1641 : (Jvm.Cond.privateMethod ({ cls := "TwoGuildsModel", name := "wearsBy", desc := "(II)I" } : Jvm.MethodName)) ∈ lw_tbl := lw_at lw_m7 130 rfl
theorem q1642 : (Jvm.Cond.instanceMethod ({ cls := "TwoGuildsModel", name := "wearsBy", desc := "(II)I" } : Jvm.MethodName)) ∈ lw_all := lw_g (lw_at lw_m7 131 rfl) rfl
theorem q1643 : (Jvm.Cond.code ({ cls := "TwoGuildsModel", name := "wearsBy", desc := "(II)I" } : Jvm.MethodName) prog_22_method_39_code (4 : Nat) (Option.some Jvm.ClassFile.FieldType.int)) ∈ lw_all := lw_g (lw_at lw_m7 132 rfl) rfl
theorem q1645 : (Jvm.Cond.instanceMethod ({ cls := "TwoGuildsModel", name := "behind", desc := "(II)I" } : Jvm.MethodName)) ∈ lw_all := lw_g (lw_at lw_m7 134 rfl) rfl
theorem q1646 : (Jvm.Cond.selects "TwoGuildsModel" ({ cls := "TwoGuildsModel", name := "behind", desc := "(II)I" } : Jvm.MethodName) ({ cls := "TwoGuildsModel", name := "behind", desc := "(II)I" } : Jvm.MethodName)) ∈ lw_all := lw_g (lw_at lw_m7 135 rfl) rfl
theorem q1647 : (Jvm.Cond.code ({ cls := "TwoGuildsModel", name := "behind", desc := "(II)I" } : Jvm.MethodName) prog_22_method_48_code (5 : Nat) (Option.some Jvm.ClassFile.FieldType.int)) ∈ lw_all := lw_g (lw_at lw_m7 136 rfl) rfl
theorem q1648 : (Jvm.Cond.methodLink "TwoGuildsModel" (183 : Nat) ({ cls := "TwoGuildsModel", name := "thinks", desc := "()V" } : Jvm.MethodName)) ∈ lw_all := lw_g (lw_at lw_m7 137 rfl) rfl
theorem q1649 : (Jvm.Cond.privateMethod ({ cls := "TwoGuildsModel", name := "thinks", desc := "()V" } : Jvm.MethodName)) ∈ lw_tbl := lw_at lw_m7 138 rfl
theorem q1650 : (Jvm.Cond.instanceMethod ({ cls := "TwoGuildsModel", name := "thinks", desc := "()V" } : Jvm.MethodName)) ∈ lw_all := lw_g (lw_at lw_m7 139 rfl) rfl
theorem q1651 : (Jvm.Cond.code ({ cls := "TwoGuildsModel", name := "thinks", desc := "()V" } : Jvm.MethodName) prog_22_method_43_code (2 : Nat) (Option.none : Option Jvm.ClassFile.FieldType)) ∈ lw_all := lw_g (lw_at lw_m7 140 rfl) rfl
theorem q1652 : (Jvm.Cond.methodLink "TwoGuildsModel" (186 : Nat) ({ cls := "TwoGuildsModel", name := "bestOfAll", desc := "()I" } : Jvm.MethodName)) ∈ lw_all := lw_g (lw_at lw_m7 141 rfl) rfl
theorem q1653 : (Jvm.Cond.privateMethod ({ cls := "TwoGuildsModel", name := "bestOfAll", desc := "()I" } : Jvm.MethodName)) ∈ lw_tbl := lw_at lw_m7 142 rfl
theorem q1654 : (Jvm.Cond.instanceMethod ({ cls := "TwoGuildsModel", name := "bestOfAll", desc := "()I" } : Jvm.MethodName)) ∈ lw_all := lw_g (lw_at lw_m7 143 rfl) rfl
theorem q1655 : (Jvm.Cond.code ({ cls := "TwoGuildsModel", name := "bestOfAll", desc := "()I" } : Jvm.MethodName) prog_22_method_47_code (1 : Nat) (Option.some Jvm.ClassFile.FieldType.int)) ∈ lw_all := lw_g (lw_at lw_m7 144 rfl) rfl
theorem q1656 : (Jvm.Cond.methodLink "TwoGuildsModel" (189 : Nat) ({ cls := "TwoGuildsModel", name := "lostMany", desc := "()I" } : Jvm.MethodName)) ∈ lw_all := lw_g (lw_at lw_m7 145 rfl) rfl
theorem q1657 : (Jvm.Cond.privateMethod ({ cls := "TwoGuildsModel", name := "lostMany", desc := "()I" } : Jvm.MethodName)) ∈ lw_tbl := lw_at lw_m7 146 rfl
theorem q1658 : (Jvm.Cond.instanceMethod ({ cls := "TwoGuildsModel", name := "lostMany", desc := "()I" } : Jvm.MethodName)) ∈ lw_all := lw_g (lw_at lw_m7 147 rfl) rfl
theorem q1659 : (Jvm.Cond.code ({ cls := "TwoGuildsModel", name := "lostMany", desc := "()I" } : Jvm.MethodName) prog_22_method_45_code (3 : Nat) (Option.some Jvm.ClassFile.FieldType.int)) ∈ lw_all := lw_g (lw_at lw_m7 148 rfl) rfl
theorem q1660 : (Jvm.Cond.methodLink "TwoGuildsModel" (192 : Nat) ({ cls := "TwoGuildsModel", name := "wearAll", desc := "()I" } : Jvm.MethodName)) ∈ lw_all := lw_g (lw_at lw_m7 149 rfl) rfl
theorem q1661 : (Jvm.Cond.privateMethod ({ cls := "TwoGuildsModel", name := "wearAll", desc := "()I" } : Jvm.MethodName)) ∈ lw_tbl := lw_at lw_m7 150 rfl
theorem q1662 : (Jvm.Cond.instanceMethod ({ cls := "TwoGuildsModel", name := "wearAll", desc := "()I" } : Jvm.MethodName)) ∈ lw_all := lw_g (lw_at lw_m7 151 rfl) rfl
theorem q1663 : (Jvm.Cond.code ({ cls := "TwoGuildsModel", name := "wearAll", desc := "()I" } : Jvm.MethodName) prog_22_method_46_code (3 : Nat) (Option.some Jvm.ClassFile.FieldType.int)) ∈ lw_all := lw_g (lw_at lw_m7 152 rfl) rfl
theorem q1664 : (Jvm.Cond.methodLink "TwoGuildsModel" (195 : Nat) ({ cls := "TwoGuildsModel", name := "putsBack", desc := "()V" } : Jvm.MethodName)) ∈ lw_all := lw_g (lw_at lw_m7 153 rfl) rfl
theorem q1665 : (Jvm.Cond.privateMethod ({ cls := "TwoGuildsModel", name := "putsBack", desc := "()V" } : Jvm.MethodName)) ∈ lw_tbl := lw_at lw_m7 154 rfl
theorem q1666 : (Jvm.Cond.instanceMethod ({ cls := "TwoGuildsModel", name := "putsBack", desc := "()V" } : Jvm.MethodName)) ∈ lw_all := lw_g (lw_at lw_m7 155 rfl) rfl
theorem q1667 : (Jvm.Cond.code ({ cls := "TwoGuildsModel", name := "putsBack", desc := "()V" } : Jvm.MethodName) prog_22_method_44_code (2 : Nat) (Option.none : Option Jvm.ClassFile.FieldType)) ∈ lw_all := lw_g (lw_at lw_m7 156 rfl) rfl
theorem q1669 : (Jvm.Cond.instanceMethod ({ cls := "TwoGuildsModel", name := "keepHome", desc := "(I)I" } : Jvm.MethodName)) ∈ lw_all := lw_g (lw_at lw_m7 158 rfl) rfl
theorem q1670 : (Jvm.Cond.selects "TwoGuildsModel" ({ cls := "TwoGuildsModel", name := "keepHome", desc := "(I)I" } : Jvm.MethodName) ({ cls := "TwoGuildsModel", name := "keepHome", desc := "(I)I" } : Jvm.MethodName)) ∈ lw_all := lw_g (lw_at lw_m7 159 rfl) rfl
theorem q1671 : (Jvm.Cond.code ({ cls := "TwoGuildsModel", name := "keepHome", desc := "(I)I" } : Jvm.MethodName) prog_22_method_49_code (7 : Nat) (Option.some Jvm.ClassFile.FieldType.int)) ∈ lw_all := lw_g (lw_at lw_m7 160 rfl) rfl
theorem q1673 : (Jvm.Cond.instanceMethod ({ cls := "TwoGuildsModel", name := "fine", desc := "()I" } : Jvm.MethodName)) ∈ lw_all := lw_g (lw_at lw_m7 162 rfl) rfl
theorem q1674 : (Jvm.Cond.selects "TwoGuildsModel" ({ cls := "TwoGuildsModel", name := "fine", desc := "()I" } : Jvm.MethodName) ({ cls := "TwoGuildsModel", name := "fine", desc := "()I" } : Jvm.MethodName)) ∈ lw_all := lw_g (lw_at lw_m7 163 rfl) rfl
theorem q1675 : (Jvm.Cond.code ({ cls := "TwoGuildsModel", name := "fine", desc := "()I" } : Jvm.MethodName) prog_22_method_50_code (2 : Nat) (Option.some Jvm.ClassFile.FieldType.int)) ∈ lw_all := lw_g (lw_at lw_m7 164 rfl) rfl
theorem q1677 : (Jvm.Cond.instanceMethod ({ cls := "TwoGuildsModel", name := "worn", desc := "(II)I" } : Jvm.MethodName)) ∈ lw_all := lw_g (lw_at lw_m7 166 rfl) rfl
theorem q1678 : (Jvm.Cond.selects "TwoGuildsModel" ({ cls := "TwoGuildsModel", name := "worn", desc := "(II)I" } : Jvm.MethodName) ({ cls := "TwoGuildsModel", name := "worn", desc := "(II)I" } : Jvm.MethodName)) ∈ lw_all := lw_g (lw_at lw_m7 167 rfl) rfl
theorem q1679 : (Jvm.Cond.code ({ cls := "TwoGuildsModel", name := "worn", desc := "(II)I" } : Jvm.MethodName) prog_22_method_52_code (3 : Nat) (Option.some Jvm.ClassFile.FieldType.int)) ∈ lw_all := lw_g (lw_at lw_m7 168 rfl) rfl
theorem q1680 : (Jvm.Cond.methodLink "TwoGuildsModel" (198 : Nat) ({ cls := "TwoGuildsModel", name := "isWord", desc := "(I)Z" } : Jvm.MethodName)) ∈ lw_all := lw_g (lw_at lw_m7 169 rfl) rfl
theorem q1681 : (Jvm.Cond.static ({ cls := "TwoGuildsModel", name := "isWord", desc := "(I)Z" } : Jvm.MethodName)) ∈ lw_all := lw_g (lw_at lw_m7 170 rfl) rfl
theorem q1682 : (Jvm.Cond.code ({ cls := "TwoGuildsModel", name := "isWord", desc := "(I)Z" } : Jvm.MethodName) prog_22_method_51_code (1 : Nat) (Option.some Jvm.ClassFile.FieldType.boolean)) ∈ lw_all := lw_g (lw_at lw_m7 171 rfl) rfl
theorem q1684 : (Jvm.Cond.instanceMethod ({ cls := "TwoGuildsModel", name := "forget", desc := "()I" } : Jvm.MethodName)) ∈ lw_all := lw_g (lw_at lw_m7 173 rfl) rfl
theorem q1685 : (Jvm.Cond.selects "TwoGuildsModel" ({ cls := "TwoGuildsModel", name := "forget", desc := "()I" } : Jvm.MethodName) ({ cls := "TwoGuildsModel", name := "forget", desc := "()I" } : Jvm.MethodName)) ∈ lw_all := lw_g (lw_at lw_m7 174 rfl) rfl
theorem q1686 : (Jvm.Cond.code ({ cls := "TwoGuildsModel", name := "forget", desc := "()I" } : Jvm.MethodName) prog_22_method_53_code (1 : Nat) (Option.some Jvm.ClassFile.FieldType.int)) ∈ lw_all := lw_g (lw_at lw_m7 175 rfl) rfl
theorem q1688 : (Jvm.Cond.instanceMethod ({ cls := "TwoGuildsModel", name := "joins", desc := "()I" } : Jvm.MethodName)) ∈ lw_all := lw_g (lw_at lw_m7 177 rfl) rfl
theorem q1689 : (Jvm.Cond.selects "TwoGuildsModel" ({ cls := "TwoGuildsModel", name := "joins", desc := "()I" } : Jvm.MethodName) ({ cls := "TwoGuildsModel", name := "joins", desc := "()I" } : Jvm.MethodName)) ∈ lw_all := lw_g (lw_at lw_m7 178 rfl) rfl
theorem q1690 : (Jvm.Cond.code ({ cls := "TwoGuildsModel", name := "joins", desc := "()I" } : Jvm.MethodName) prog_22_method_57_code (1 : Nat) (Option.some Jvm.ClassFile.FieldType.int)) ∈ lw_all := lw_g (lw_at lw_m7 179 rfl) rfl
theorem q1691 : (Jvm.Cond.methodLink "TwoGuildsModel" (210 : Nat) ({ cls := "TwoGuildsModel", name := "findJoins", desc := "()I" } : Jvm.MethodName)) ∈ lw_all := lw_g (lw_at lw_m7 180 rfl) rfl
theorem q1692 : (Jvm.Cond.privateMethod ({ cls := "TwoGuildsModel", name := "findJoins", desc := "()I" } : Jvm.MethodName)) ∈ lw_tbl := lw_at lw_m7 181 rfl
theorem q1693 : (Jvm.Cond.instanceMethod ({ cls := "TwoGuildsModel", name := "findJoins", desc := "()I" } : Jvm.MethodName)) ∈ lw_all := lw_g (lw_at lw_m7 182 rfl) rfl
theorem q1694 : (Jvm.Cond.code ({ cls := "TwoGuildsModel", name := "findJoins", desc := "()I" } : Jvm.MethodName) prog_22_method_56_code (4 : Nat) (Option.some Jvm.ClassFile.FieldType.int)) ∈ lw_all := lw_g (lw_at lw_m7 183 rfl) rfl
theorem q1695 : (Jvm.Cond.methodLink "TwoGuildsModel" (207 : Nat) ({ cls := "TwoGuildsModel", name := "holdsJoin", desc := "(I)Z" } : Jvm.MethodName)) ∈ lw_all := lw_g (lw_at lw_m7 184 rfl) rfl
theorem q1696 : (Jvm.Cond.privateMethod ({ cls := "TwoGuildsModel", name := "holdsJoin", desc := "(I)Z" } : Jvm.MethodName)) ∈ lw_tbl := lw_at lw_m7 185 rfl
theorem q1697 : (Jvm.Cond.instanceMethod ({ cls := "TwoGuildsModel", name := "holdsJoin", desc := "(I)Z" } : Jvm.MethodName)) ∈ lw_all := lw_g (lw_at lw_m7 186 rfl) rfl
theorem q1698 : (Jvm.Cond.code ({ cls := "TwoGuildsModel", name := "holdsJoin", desc := "(I)Z" } : Jvm.MethodName) prog_22_method_55_code (5 : Nat) (Option.some Jvm.ClassFile.FieldType.boolean)) ∈ lw_all := lw_g (lw_at lw_m7 187 rfl) rfl
theorem q1699 : (Jvm.Cond.methodLink "TwoGuildsModel" (204 : Nat) ({ cls := "TwoGuildsModel", name := "gives", desc := "(II)I" } : Jvm.MethodName)) ∈ lw_all := lw_g (lw_at lw_m7 188 rfl) rfl
theorem q1700 : (Jvm.Cond.static ({ cls := "TwoGuildsModel", name := "gives", desc := "(II)I" } : Jvm.MethodName)) ∈ lw_all := lw_g (lw_at lw_m7 189 rfl) rfl
theorem q1701 : (Jvm.Cond.code ({ cls := "TwoGuildsModel", name := "gives", desc := "(II)I" } : Jvm.MethodName) prog_22_method_54_code (2 : Nat) (Option.some Jvm.ClassFile.FieldType.int)) ∈ lw_all := lw_g (lw_at lw_m7 190 rfl) rfl
theorem q1702 : (Jvm.Cond.fieldLink "TwoGuildsModel" (201 : Nat) "TwoGuildsModel" "FIVES" "[I") ∈ lw_all := lw_g (lw_at lw_m7 191 rfl) rfl
theorem q1703 : (Jvm.Cond.laysStatic "TwoGuildsModel" "FIVES" "[I") ∈ lw_tbl := lw_at lw_m7 192 rfl
theorem q1705 : (Jvm.Cond.instanceMethod ({ cls := "TwoGuildsModel", name := "sure", desc := "(I)I" } : Jvm.MethodName)) ∈ lw_all := lw_g (lw_at lw_m7 194 rfl) rfl
theorem q1706 : (Jvm.Cond.selects "TwoGuildsModel" ({ cls := "TwoGuildsModel", name := "sure", desc := "(I)I" } : Jvm.MethodName) ({ cls := "TwoGuildsModel", name := "sure", desc := "(I)I" } : Jvm.MethodName)) ∈ lw_all := lw_g (lw_at lw_m7 195 rfl) rfl
theorem q1707 : (Jvm.Cond.code ({ cls := "TwoGuildsModel", name := "sure", desc := "(I)I" } : Jvm.MethodName) prog_22_method_58_code (5 : Nat) (Option.some Jvm.ClassFile.FieldType.int)) ∈ lw_all := lw_g (lw_at lw_m7 196 rfl) rfl
theorem q1709 : (Jvm.Cond.instanceMethod ({ cls := "TwoGuildsModel", name := "better", desc := "(I)I" } : Jvm.MethodName)) ∈ lw_all := lw_g (lw_at lw_m7 198 rfl) rfl
theorem q1710 : (Jvm.Cond.selects "TwoGuildsModel" ({ cls := "TwoGuildsModel", name := "better", desc := "(I)I" } : Jvm.MethodName) ({ cls := "TwoGuildsModel", name := "better", desc := "(I)I" } : Jvm.MethodName)) ∈ lw_all := lw_g (lw_at lw_m7 199 rfl) rfl
theorem q1711 : (Jvm.Cond.code ({ cls := "TwoGuildsModel", name := "better", desc := "(I)I" } : Jvm.MethodName) prog_22_method_59_code (7 : Nat) (Option.some Jvm.ClassFile.FieldType.int)) ∈ lw_all := lw_g (lw_at lw_m7 200 rfl) rfl
theorem q1713 : (Jvm.Cond.instanceMethod ({ cls := "TwoGuildsModel", name := "feed", desc := "(III)I" } : Jvm.MethodName)) ∈ lw_all := lw_g (lw_at lw_m7 202 rfl) rfl
theorem q1714 : (Jvm.Cond.selects "TwoGuildsModel" ({ cls := "TwoGuildsModel", name := "feed", desc := "(III)I" } : Jvm.MethodName) ({ cls := "TwoGuildsModel", name := "feed", desc := "(III)I" } : Jvm.MethodName)) ∈ lw_all := lw_g (lw_at lw_m7 203 rfl) rfl
theorem q1715 : (Jvm.Cond.code ({ cls := "TwoGuildsModel", name := "feed", desc := "(III)I" } : Jvm.MethodName) prog_22_method_60_code (6 : Nat) (Option.some Jvm.ClassFile.FieldType.int)) ∈ lw_all := lw_g (lw_at lw_m7 204 rfl) rfl
theorem q1717 : (Jvm.Cond.instanceMethod ({ cls := "TwoGuildsModel", name := "trim", desc := "(I)I" } : Jvm.MethodName)) ∈ lw_all := lw_g (lw_at lw_m7 206 rfl) rfl
theorem q1718 : (Jvm.Cond.selects "TwoGuildsModel" ({ cls := "TwoGuildsModel", name := "trim", desc := "(I)I" } : Jvm.MethodName) ({ cls := "TwoGuildsModel", name := "trim", desc := "(I)I" } : Jvm.MethodName)) ∈ lw_all := lw_g (lw_at lw_m7 207 rfl) rfl
theorem q1719 : (Jvm.Cond.code ({ cls := "TwoGuildsModel", name := "trim", desc := "(I)I" } : Jvm.MethodName) prog_22_method_61_code (2 : Nat) (Option.some Jvm.ClassFile.FieldType.int)) ∈ lw_all := lw_g (lw_at lw_m7 208 rfl) rfl
theorem q1721 : (Jvm.Cond.instanceMethod ({ cls := "TwoGuildsModel", name := "text", desc := "()I" } : Jvm.MethodName)) ∈ lw_all := lw_g (lw_at lw_m7 210 rfl) rfl
theorem q1722 : (Jvm.Cond.selects "TwoGuildsModel" ({ cls := "TwoGuildsModel", name := "text", desc := "()I" } : Jvm.MethodName) ({ cls := "TwoGuildsModel", name := "text", desc := "()I" } : Jvm.MethodName)) ∈ lw_all := lw_g (lw_at lw_m7 211 rfl) rfl
theorem q1723 : (Jvm.Cond.code ({ cls := "TwoGuildsModel", name := "text", desc := "()I" } : Jvm.MethodName) prog_22_method_73_code (4 : Nat) (Option.some Jvm.ClassFile.FieldType.int)) ∈ lw_all := lw_g (lw_at lw_m7 212 rfl) rfl
theorem q1724 : (Jvm.Cond.methodLink "TwoGuildsModel" (241 : Nat) ({ cls := "TwoGuildsModel", name := "go", desc := "()V" } : Jvm.MethodName)) ∈ lw_all := lw_g (lw_at lw_m7 213 rfl) rfl
theorem q1725 : (Jvm.Cond.privateMethod ({ cls := "TwoGuildsModel", name := "go", desc := "()V" } : Jvm.MethodName)) ∈ lw_tbl := lw_at lw_m7 214 rfl
theorem q1726 : (Jvm.Cond.instanceMethod ({ cls := "TwoGuildsModel", name := "go", desc := "()V" } : Jvm.MethodName)) ∈ lw_all := lw_g (lw_at lw_m7 215 rfl) rfl
theorem q1727 : (Jvm.Cond.code ({ cls := "TwoGuildsModel", name := "go", desc := "()V" } : Jvm.MethodName) prog_22_method_64_code (2 : Nat) (Option.none : Option Jvm.ClassFile.FieldType)) ∈ lw_all := lw_g (lw_at lw_m7 216 rfl) rfl
theorem q1728 : (Jvm.Cond.methodLink "TwoGuildsModel" (229 : Nat) ({ cls := "TwoGuildsModel", name := "isLetter", desc := "(I)Z" } : Jvm.MethodName)) ∈ lw_all := lw_g (lw_at lw_m7 217 rfl) rfl
theorem q1729 : (Jvm.Cond.privateMethod ({ cls := "TwoGuildsModel", name := "isLetter", desc := "(I)Z" } : Jvm.MethodName)) ∈ lw_tbl := lw_at lw_m7 218 rfl
theorem q1730 : (Jvm.Cond.instanceMethod ({ cls := "TwoGuildsModel", name := "isLetter", desc := "(I)Z" } : Jvm.MethodName)) ∈ lw_all := lw_g (lw_at lw_m7 219 rfl) rfl
theorem q1731 : (Jvm.Cond.code ({ cls := "TwoGuildsModel", name := "isLetter", desc := "(I)Z" } : Jvm.MethodName) prog_22_method_62_code (2 : Nat) (Option.some Jvm.ClassFile.FieldType.boolean)) ∈ lw_all := lw_g (lw_at lw_m7 220 rfl) rfl
theorem q1732 : (Jvm.Cond.methodLink "TwoGuildsModel" (235 : Nat) ({ cls := "TwoGuildsModel", name := "isFigure", desc := "(I)Z" } : Jvm.MethodName)) ∈ lw_all := lw_g (lw_at lw_m7 221 rfl) rfl
theorem q1733 : (Jvm.Cond.privateMethod ({ cls := "TwoGuildsModel", name := "isFigure", desc := "(I)Z" } : Jvm.MethodName)) ∈ lw_tbl := lw_at lw_m7 222 rfl
theorem q1734 : (Jvm.Cond.instanceMethod ({ cls := "TwoGuildsModel", name := "isFigure", desc := "(I)Z" } : Jvm.MethodName)) ∈ lw_all := lw_g (lw_at lw_m7 223 rfl) rfl
theorem q1735 : (Jvm.Cond.code ({ cls := "TwoGuildsModel", name := "isFigure", desc := "(I)Z" } : Jvm.MethodName) prog_22_method_63_code (2 : Nat) (Option.some Jvm.ClassFile.FieldType.boolean)) ∈ lw_all := lw_g (lw_at lw_m7 224 rfl) rfl
theorem q1736 : (Jvm.Cond.methodLink "TwoGuildsModel" (273 : Nat) ({ cls := "TwoGuildsModel", name := "takesKey", desc := "()Z" } : Jvm.MethodName)) ∈ lw_all := lw_g (lw_at lw_m7 225 rfl) rfl
theorem q1737 : (Jvm.Cond.privateMethod ({ cls := "TwoGuildsModel", name := "takesKey", desc := "()Z" } : Jvm.MethodName)) ∈ lw_tbl := lw_at lw_m7 226 rfl
theorem q1738 : (Jvm.Cond.instanceMethod ({ cls := "TwoGuildsModel", name := "takesKey", desc := "()Z" } : Jvm.MethodName)) ∈ lw_all := lw_g (lw_at lw_m7 227 rfl) rfl
theorem q1739 : (Jvm.Cond.code ({ cls := "TwoGuildsModel", name := "takesKey", desc := "()Z" } : Jvm.MethodName) prog_22_method_65_code (5 : Nat) (Option.some Jvm.ClassFile.FieldType.boolean)) ∈ lw_all := lw_g (lw_at lw_m7 228 rfl) rfl
theorem q1740 : (Jvm.Cond.methodLink "TwoGuildsModel" (276 : Nat) ({ cls := "TwoGuildsModel", name := "takesE", desc := "()Z" } : Jvm.MethodName)) ∈ lw_all := lw_g (lw_at lw_m7 229 rfl) rfl
theorem q1741 : (Jvm.Cond.privateMethod ({ cls := "TwoGuildsModel", name := "takesE", desc := "()Z" } : Jvm.MethodName)) ∈ lw_tbl := lw_at lw_m7 230 rfl
theorem q1742 : (Jvm.Cond.instanceMethod ({ cls := "TwoGuildsModel", name := "takesE", desc := "()Z" } : Jvm.MethodName)) ∈ lw_all := lw_g (lw_at lw_m7 231 rfl) rfl
theorem q1743 : (Jvm.Cond.code ({ cls := "TwoGuildsModel", name := "takesE", desc := "()Z" } : Jvm.MethodName) prog_22_method_71_code (5 : Nat) (Option.some Jvm.ClassFile.FieldType.boolean)) ∈ lw_all := lw_g (lw_at lw_m7 232 rfl) rfl
theorem q1744 : (Jvm.Cond.methodLink "TwoGuildsModel" (263 : Nat) ({ cls := "TwoGuildsModel", name := "takesPart", desc := "()Z" } : Jvm.MethodName)) ∈ lw_all := lw_g (lw_at lw_m7 233 rfl) rfl
theorem q1745 : (Jvm.Cond.privateMethod ({ cls := "TwoGuildsModel", name := "takesPart", desc := "()Z" } : Jvm.MethodName)) ∈ lw_tbl := lw_at lw_m7 234 rfl
theorem q1746 : (Jvm.Cond.instanceMethod ({ cls := "TwoGuildsModel", name := "takesPart", desc := "()Z" } : Jvm.MethodName)) ∈ lw_all := lw_g (lw_at lw_m7 235 rfl) rfl
theorem q1747 : (Jvm.Cond.code ({ cls := "TwoGuildsModel", name := "takesPart", desc := "()Z" } : Jvm.MethodName) prog_22_method_70_code (2 : Nat) (Option.some Jvm.ClassFile.FieldType.boolean)) ∈ lw_all := lw_g (lw_at lw_m7 236 rfl) rfl
theorem q1748 : (Jvm.Cond.methodLink "TwoGuildsModel" (253 : Nat) ({ cls := "TwoGuildsModel", name := "nameOf", desc := "(I)I" } : Jvm.MethodName)) ∈ lw_all := lw_g (lw_at lw_m7 237 rfl) rfl
theorem q1749 : (Jvm.Cond.privateMethod ({ cls := "TwoGuildsModel", name := "nameOf", desc := "(I)I" } : Jvm.MethodName)) ∈ lw_tbl := lw_at lw_m7 238 rfl
theorem q1750 : (Jvm.Cond.instanceMethod ({ cls := "TwoGuildsModel", name := "nameOf", desc := "(I)I" } : Jvm.MethodName)) ∈ lw_all := lw_g (lw_at lw_m7 239 rfl) rfl
theorem q1751 : (Jvm.Cond.code ({ cls := "TwoGuildsModel", name := "nameOf", desc := "(I)I" } : Jvm.MethodName) prog_22_method_66_code (2 : Nat) (Option.some Jvm.ClassFile.FieldType.int)) ∈ lw_all := lw_g (lw_at lw_m8 0 rfl) rfl
theorem q1752 : (Jvm.Cond.methodLink "TwoGuildsModel" (259 : Nat) ({ cls := "TwoGuildsModel", name := "settle", desc := "(I)V" } : Jvm.MethodName)) ∈ lw_all := lw_g (lw_at lw_m8 1 rfl) rfl
theorem q1753 : (Jvm.Cond.privateMethod ({ cls := "TwoGuildsModel", name := "settle", desc := "(I)V" } : Jvm.MethodName)) ∈ lw_tbl := lw_at lw_m8 2 rfl
theorem q1754 : (Jvm.Cond.instanceMethod ({ cls := "TwoGuildsModel", name := "settle", desc := "(I)V" } : Jvm.MethodName)) ∈ lw_all := lw_g (lw_at lw_m8 3 rfl) rfl
theorem q1755 : (Jvm.Cond.code ({ cls := "TwoGuildsModel", name := "settle", desc := "(I)V" } : Jvm.MethodName) prog_22_method_68_code (2 : Nat) (Option.none : Option Jvm.ClassFile.FieldType)) ∈ lw_all := lw_g (lw_at lw_m8 4 rfl) rfl
theorem q1756 : (Jvm.Cond.methodLink "TwoGuildsModel" (247 : Nat) ({ cls := "TwoGuildsModel", name := "rank", desc := "(I)I" } : Jvm.MethodName)) ∈ lw_all := lw_g (lw_at lw_m8 5 rfl) rfl
theorem q1757 : (Jvm.Cond.static ({ cls := "TwoGuildsModel", name := "rank", desc := "(I)I" } : Jvm.MethodName)) ∈ lw_all := lw_g (lw_at lw_m8 6 rfl) rfl
theorem q1758 : (Jvm.Cond.code ({ cls := "TwoGuildsModel", name := "rank", desc := "(I)I" } : Jvm.MethodName) prog_22_method_67_code (1 : Nat) (Option.some Jvm.ClassFile.FieldType.int)) ∈ lw_all := lw_g (lw_at lw_m8 7 rfl) rfl
theorem q1759 : (Jvm.Cond.methodLink "TwoGuildsModel" (267 : Nat) ({ cls := "TwoGuildsModel", name := "notsOpen", desc := "()I" } : Jvm.MethodName)) ∈ lw_all := lw_g (lw_at lw_m8 8 rfl) rfl
theorem q1760 : (Jvm.Cond.privateMethod ({ cls := "TwoGuildsModel", name := "notsOpen", desc := "()I" } : Jvm.MethodName)) ∈ lw_tbl := lw_at lw_m8 9 rfl
theorem q1761 : (Jvm.Cond.instanceMethod ({ cls := "TwoGuildsModel", name := "notsOpen", desc := "()I" } : Jvm.MethodName)) ∈ lw_all := lw_g (lw_at lw_m8 10 rfl) rfl
theorem q1762 : (Jvm.Cond.code ({ cls := "TwoGuildsModel", name := "notsOpen", desc := "()I" } : Jvm.MethodName) prog_22_method_72_code (3 : Nat) (Option.some Jvm.ClassFile.FieldType.int)) ∈ lw_all := lw_g (lw_at lw_m8 11 rfl) rfl
theorem q1763 : (Jvm.Cond.methodLink "TwoGuildsModel" (270 : Nat) ({ cls := "TwoGuildsModel", name := "signHere", desc := "()I" } : Jvm.MethodName)) ∈ lw_all := lw_g (lw_at lw_m8 12 rfl) rfl
theorem q1764 : (Jvm.Cond.privateMethod ({ cls := "TwoGuildsModel", name := "signHere", desc := "()I" } : Jvm.MethodName)) ∈ lw_tbl := lw_at lw_m8 13 rfl
theorem q1765 : (Jvm.Cond.instanceMethod ({ cls := "TwoGuildsModel", name := "signHere", desc := "()I" } : Jvm.MethodName)) ∈ lw_all := lw_g (lw_at lw_m8 14 rfl) rfl
theorem q1766 : (Jvm.Cond.code ({ cls := "TwoGuildsModel", name := "signHere", desc := "()I" } : Jvm.MethodName) prog_22_method_69_code (1 : Nat) (Option.some Jvm.ClassFile.FieldType.int)) ∈ lw_all := lw_g (lw_at lw_m8 15 rfl) rfl
theorem q1768 : (Jvm.Cond.instanceMethod ({ cls := "TwoGuildsModel", name := "textTold", desc := "(II)I" } : Jvm.MethodName)) ∈ lw_all := lw_g (lw_at lw_m8 17 rfl) rfl
theorem q1769 : (Jvm.Cond.selects "TwoGuildsModel" ({ cls := "TwoGuildsModel", name := "textTold", desc := "(II)I" } : Jvm.MethodName) ({ cls := "TwoGuildsModel", name := "textTold", desc := "(II)I" } : Jvm.MethodName)) ∈ lw_all := lw_g (lw_at lw_m8 18 rfl) rfl
theorem q1770 : (Jvm.Cond.code ({ cls := "TwoGuildsModel", name := "textTold", desc := "(II)I" } : Jvm.MethodName) prog_22_method_74_code (3 : Nat) (Option.some Jvm.ClassFile.FieldType.int)) ∈ lw_all := lw_g (lw_at lw_m8 19 rfl) rfl
theorem q1772 : (Jvm.Cond.instanceMethod ({ cls := "TwoGuildsModel", name := "why", desc := "(I)I" } : Jvm.MethodName)) ∈ lw_all := lw_g (lw_at lw_m8 21 rfl) rfl
theorem q1773 : (Jvm.Cond.selects "TwoGuildsModel" ({ cls := "TwoGuildsModel", name := "why", desc := "(I)I" } : Jvm.MethodName) ({ cls := "TwoGuildsModel", name := "why", desc := "(I)I" } : Jvm.MethodName)) ∈ lw_all := lw_g (lw_at lw_m8 22 rfl) rfl
theorem q1774 : (Jvm.Cond.code ({ cls := "TwoGuildsModel", name := "why", desc := "(I)I" } : Jvm.MethodName) prog_22_method_76_code (3 : Nat) (Option.some Jvm.ClassFile.FieldType.int)) ∈ lw_all := lw_g (lw_at lw_m8 23 rfl) rfl
theorem q1776 : (Jvm.Cond.instanceMethod ({ cls := "TwoGuildsModel", name := "sheet", desc := "(III)I" } : Jvm.MethodName)) ∈ lw_all := lw_g (lw_at lw_m8 25 rfl) rfl
theorem q1777 : (Jvm.Cond.selects "TwoGuildsModel" ({ cls := "TwoGuildsModel", name := "sheet", desc := "(III)I" } : Jvm.MethodName) ({ cls := "TwoGuildsModel", name := "sheet", desc := "(III)I" } : Jvm.MethodName)) ∈ lw_all := lw_g (lw_at lw_m8 26 rfl) rfl
theorem q1778 : (Jvm.Cond.code ({ cls := "TwoGuildsModel", name := "sheet", desc := "(III)I" } : Jvm.MethodName) prog_22_method_81_code (5 : Nat) (Option.some Jvm.ClassFile.FieldType.int)) ∈ lw_all := lw_g (lw_at lw_m8 27 rfl) rfl
theorem q1779 : (Jvm.Cond.constant "TwoGuildsModel" (282 : Nat) (-1000000014 : Int32)) ∈ lw_all := lw_g (lw_at lw_m8 28 rfl) rfl
theorem q1781 : (Jvm.Cond.instanceMethod ({ cls := "TwoGuildsModel", name := "mark", desc := "(III)I" } : Jvm.MethodName)) ∈ lw_all := lw_g (lw_at lw_m8 30 rfl) rfl
theorem q1782 : (Jvm.Cond.selects "TwoGuildsModel" ({ cls := "TwoGuildsModel", name := "mark", desc := "(III)I" } : Jvm.MethodName) ({ cls := "TwoGuildsModel", name := "mark", desc := "(III)I" } : Jvm.MethodName)) ∈ lw_all := lw_g (lw_at lw_m8 31 rfl) rfl
theorem q1783 : (Jvm.Cond.code ({ cls := "TwoGuildsModel", name := "mark", desc := "(III)I" } : Jvm.MethodName) prog_22_method_82_code (4 : Nat) (Option.some Jvm.ClassFile.FieldType.int)) ∈ lw_all := lw_g (lw_at lw_m8 32 rfl) rfl
theorem q1784 : (Jvm.Cond.constant "TwoGuildsModel" (283 : Nat) (-1000000013 : Int32)) ∈ lw_all := lw_g (lw_at lw_m8 33 rfl) rfl
theorem q1785 : (Jvm.Cond.constant "TwoGuildsModel" (284 : Nat) (-99999 : Int32)) ∈ lw_all := lw_g (lw_at lw_m8 34 rfl) rfl
theorem q1786 : (Jvm.Cond.constant "TwoGuildsModel" (285 : Nat) (99999 : Int32)) ∈ lw_all := lw_g (lw_at lw_m8 35 rfl) rfl
theorem q1788 : (Jvm.Cond.instanceMethod ({ cls := "TwoGuildsModel", name := "pour", desc := "(I)I" } : Jvm.MethodName)) ∈ lw_all := lw_g (lw_at lw_m8 37 rfl) rfl
theorem q1789 : (Jvm.Cond.selects "TwoGuildsModel" ({ cls := "TwoGuildsModel", name := "pour", desc := "(I)I" } : Jvm.MethodName) ({ cls := "TwoGuildsModel", name := "pour", desc := "(I)I" } : Jvm.MethodName)) ∈ lw_all := lw_g (lw_at lw_m8 38 rfl) rfl
theorem q1790 : (Jvm.Cond.code ({ cls := "TwoGuildsModel", name := "pour", desc := "(I)I" } : Jvm.MethodName) prog_22_method_83_code (6 : Nat) (Option.some Jvm.ClassFile.FieldType.int)) ∈ lw_all := lw_g (lw_at lw_m8 39 rfl) rfl
theorem q1792 : (Jvm.Cond.instanceMethod ({ cls := "TwoGuildsModel", name := "reads", desc := "(I)I" } : Jvm.MethodName)) ∈ lw_all := lw_g (lw_at lw_m8 41 rfl) rfl
theorem q1793 : (Jvm.Cond.selects "TwoGuildsModel" ({ cls := "TwoGuildsModel", name := "reads", desc := "(I)I" } : Jvm.MethodName) ({ cls := "TwoGuildsModel", name := "reads", desc := "(I)I" } : Jvm.MethodName)) ∈ lw_all := lw_g (lw_at lw_m8 42 rfl) rfl
theorem q1794 : (Jvm.Cond.code ({ cls := "TwoGuildsModel", name := "reads", desc := "(I)I" } : Jvm.MethodName) prog_22_method_84_code (4 : Nat) (Option.some Jvm.ClassFile.FieldType.int)) ∈ lw_all := lw_g (lw_at lw_m8 43 rfl) rfl
theorem q1796 : (Jvm.Cond.instanceMethod ({ cls := "TwoGuildsModel", name := "copy", desc := "(IIIII)I" } : Jvm.MethodName)) ∈ lw_all := lw_g (lw_at lw_m8 45 rfl) rfl
theorem q1797 : (Jvm.Cond.selects "TwoGuildsModel" ({ cls := "TwoGuildsModel", name := "copy", desc := "(IIIII)I" } : Jvm.MethodName) ({ cls := "TwoGuildsModel", name := "copy", desc := "(IIIII)I" } : Jvm.MethodName)) ∈ lw_all := lw_g (lw_at lw_m8 46 rfl) rfl
theorem q1798 : (Jvm.Cond.code ({ cls := "TwoGuildsModel", name := "copy", desc := "(IIIII)I" } : Jvm.MethodName) prog_22_method_85_code (7 : Nat) (Option.some Jvm.ClassFile.FieldType.int)) ∈ lw_all := lw_g (lw_at lw_m8 47 rfl) rfl
theorem q1800 : (Jvm.Cond.instanceMethod ({ cls := "TwoGuildsModel", name := "lay", desc := "(III)I" } : Jvm.MethodName)) ∈ lw_all := lw_g (lw_at lw_m8 49 rfl) rfl
theorem q1801 : (Jvm.Cond.selects "TwoGuildsModel" ({ cls := "TwoGuildsModel", name := "lay", desc := "(III)I" } : Jvm.MethodName) ({ cls := "TwoGuildsModel", name := "lay", desc := "(III)I" } : Jvm.MethodName)) ∈ lw_all := lw_g (lw_at lw_m8 50 rfl) rfl
theorem q1802 : (Jvm.Cond.code ({ cls := "TwoGuildsModel", name := "lay", desc := "(III)I" } : Jvm.MethodName) prog_22_method_86_code (6 : Nat) (Option.some Jvm.ClassFile.FieldType.int)) ∈ lw_all := lw_g (lw_at lw_m8 51 rfl) rfl
theorem q1803 : (Jvm.Cond.methodLink "TwoGuildsModel" (286 : Nat) ({ cls := "TwoGuildsModel", name := "isSlot", desc := "(I)Z" } : Jvm.MethodName)) ∈ lw_all := lw_g (lw_at lw_m8 52 rfl) rfl
theorem q1804 : (Jvm.Cond.static ({ cls := "TwoGuildsModel", name := "isSlot", desc := "(I)Z" } : Jvm.MethodName)) ∈ lw_all := lw_g (lw_at lw_m8 53 rfl) rfl
theorem q1805 : (Jvm.Cond.code ({ cls := "TwoGuildsModel", name := "isSlot", desc := "(I)Z" } : Jvm.MethodName) prog_22_method_80_code (1 : Nat) (Option.some Jvm.ClassFile.FieldType.boolean)) ∈ lw_all := lw_g (lw_at lw_m8 54 rfl) rfl
theorem q1807 : (Jvm.Cond.instanceMethod ({ cls := "TwoGuildsModel", name := "ask", desc := "(II)I" } : Jvm.MethodName)) ∈ lw_all := lw_g (lw_at lw_m8 56 rfl) rfl
theorem q1808 : (Jvm.Cond.selects "TwoGuildsModel" ({ cls := "TwoGuildsModel", name := "ask", desc := "(II)I" } : Jvm.MethodName) ({ cls := "TwoGuildsModel", name := "ask", desc := "(II)I" } : Jvm.MethodName)) ∈ lw_all := lw_g (lw_at lw_m8 57 rfl) rfl
theorem q1809 : (Jvm.Cond.code ({ cls := "TwoGuildsModel", name := "ask", desc := "(II)I" } : Jvm.MethodName) prog_22_method_87_code (3 : Nat) (Option.some Jvm.ClassFile.FieldType.int)) ∈ lw_all := lw_g (lw_at lw_m8 58 rfl) rfl
theorem q1811 : (Jvm.Cond.instanceMethod ({ cls := "TwoGuildsModel", name := "item", desc := "(II)I" } : Jvm.MethodName)) ∈ lw_all := lw_g (lw_at lw_m8 60 rfl) rfl
theorem q1812 : (Jvm.Cond.selects "TwoGuildsModel" ({ cls := "TwoGuildsModel", name := "item", desc := "(II)I" } : Jvm.MethodName) ({ cls := "TwoGuildsModel", name := "item", desc := "(II)I" } : Jvm.MethodName)) ∈ lw_all := lw_g (lw_at lw_m8 61 rfl) rfl
theorem q1813 : (Jvm.Cond.code ({ cls := "TwoGuildsModel", name := "item", desc := "(II)I" } : Jvm.MethodName) prog_22_method_88_code (4 : Nat) (Option.some Jvm.ClassFile.FieldType.int)) ∈ lw_all := lw_g (lw_at lw_m8 62 rfl) rfl
theorem q1815 : (Jvm.Cond.instanceMethod ({ cls := "TwoGuildsModel", name := "rest", desc := "(II)I" } : Jvm.MethodName)) ∈ lw_all := lw_g (lw_at lw_m8 64 rfl) rfl
theorem q1816 : (Jvm.Cond.selects "TwoGuildsModel" ({ cls := "TwoGuildsModel", name := "rest", desc := "(II)I" } : Jvm.MethodName) ({ cls := "TwoGuildsModel", name := "rest", desc := "(II)I" } : Jvm.MethodName)) ∈ lw_all := lw_g (lw_at lw_m8 65 rfl) rfl
theorem q1817 : (Jvm.Cond.code ({ cls := "TwoGuildsModel", name := "rest", desc := "(II)I" } : Jvm.MethodName) prog_22_method_89_code (3 : Nat) (Option.some Jvm.ClassFile.FieldType.int)) ∈ lw_all := lw_g (lw_at lw_m8 66 rfl) rfl
theorem q1818 : (Jvm.Cond.constant "TwoGuildsModel" (289 : Nat) (-1000000002 : Int32)) ∈ lw_all := lw_g (lw_at lw_m8 67 rfl) rfl
theorem q1820 : (Jvm.Cond.instanceMethod ({ cls := "TwoGuildsModel", name := "tell", desc := "(I)I" } : Jvm.MethodName)) ∈ lw_all := lw_g (lw_at lw_m8 69 rfl) rfl
theorem q1821 : (Jvm.Cond.selects "TwoGuildsModel" ({ cls := "TwoGuildsModel", name := "tell", desc := "(I)I" } : Jvm.MethodName) ({ cls := "TwoGuildsModel", name := "tell", desc := "(I)I" } : Jvm.MethodName)) ∈ lw_all := lw_g (lw_at lw_m8 70 rfl) rfl
theorem q1822 : (Jvm.Cond.code ({ cls := "TwoGuildsModel", name := "tell", desc := "(I)I" } : Jvm.MethodName) prog_22_method_90_code (2 : Nat) (Option.some Jvm.ClassFile.FieldType.int)) ∈ lw_all := lw_g (lw_at lw_m8 71 rfl) rfl
theorem q1824 : (Jvm.Cond.instanceMethod ({ cls := "TwoGuildsModel", name := "check", desc := "(I)I" } : Jvm.MethodName)) ∈ lw_all := lw_g (lw_at lw_m8 73 rfl) rfl
theorem q1825 : (Jvm.Cond.selects "TwoGuildsModel" ({ cls := "TwoGuildsModel", name := "check", desc := "(I)I" } : Jvm.MethodName) ({ cls := "TwoGuildsModel", name := "check", desc := "(I)I" } : Jvm.MethodName)) ∈ lw_all := lw_g (lw_at lw_m8 74 rfl) rfl
theorem q1826 : (Jvm.Cond.code ({ cls := "TwoGuildsModel", name := "check", desc := "(I)I" } : Jvm.MethodName) prog_22_method_91_code (7 : Nat) (Option.some Jvm.ClassFile.FieldType.int)) ∈ lw_all := lw_g (lw_at lw_m8 75 rfl) rfl
theorem q1827 : (Jvm.Cond.methodLink "TwoGuildsModel" (297 : Nat) ({ cls := "TwoGuildsModel", name := "copyAll", desc := "([I[I)V" } : Jvm.MethodName)) ∈ lw_all := lw_g (lw_at lw_m8 76 rfl) rfl
theorem q1828 : (Jvm.Cond.static ({ cls := "TwoGuildsModel", name := "copyAll", desc := "([I[I)V" } : Jvm.MethodName)) ∈ lw_all := lw_g (lw_at lw_m8 77 rfl) rfl
theorem q1829 : (Jvm.Cond.code ({ cls := "TwoGuildsModel", name := "copyAll", desc := "([I[I)V" } : Jvm.MethodName) prog_22_method_4_code (3 : Nat) (Option.none : Option Jvm.ClassFile.FieldType)) ∈ lw_all := lw_g (lw_at lw_m8 78 rfl) rfl
theorem q1831 : (Jvm.Cond.instanceMethod ({ cls := "TwoGuildsModel", name := "keep", desc := "()I" } : Jvm.MethodName)) ∈ lw_all := lw_g (lw_at lw_m8 80 rfl) rfl
theorem q1832 : (Jvm.Cond.selects "TwoGuildsModel" ({ cls := "TwoGuildsModel", name := "keep", desc := "()I" } : Jvm.MethodName) ({ cls := "TwoGuildsModel", name := "keep", desc := "()I" } : Jvm.MethodName)) ∈ lw_all := lw_g (lw_at lw_m8 81 rfl) rfl
theorem q1833 : (Jvm.Cond.code ({ cls := "TwoGuildsModel", name := "keep", desc := "()I" } : Jvm.MethodName) prog_22_method_92_code (1 : Nat) (Option.some Jvm.ClassFile.FieldType.int)) ∈ lw_all := lw_g (lw_at lw_m8 82 rfl) rfl
theorem q1835 : (Jvm.Cond.instanceMethod ({ cls := "TwoGuildsModel", name := "back", desc := "()I" } : Jvm.MethodName)) ∈ lw_all := lw_g (lw_at lw_m8 84 rfl) rfl
theorem q1836 : (Jvm.Cond.selects "TwoGuildsModel" ({ cls := "TwoGuildsModel", name := "back", desc := "()I" } : Jvm.MethodName) ({ cls := "TwoGuildsModel", name := "back", desc := "()I" } : Jvm.MethodName)) ∈ lw_all := lw_g (lw_at lw_m8 85 rfl) rfl
theorem q1837 : (Jvm.Cond.code ({ cls := "TwoGuildsModel", name := "back", desc := "()I" } : Jvm.MethodName) prog_22_method_93_code (1 : Nat) (Option.some Jvm.ClassFile.FieldType.int)) ∈ lw_all := lw_g (lw_at lw_m8 86 rfl) rfl
theorem q1839 : (Jvm.Cond.instanceMethod ({ cls := "TwoGuildsModel", name := "count", desc := "(I)I" } : Jvm.MethodName)) ∈ lw_all := lw_g (lw_at lw_m8 88 rfl) rfl
theorem q1840 : (Jvm.Cond.selects "TwoGuildsModel" ({ cls := "TwoGuildsModel", name := "count", desc := "(I)I" } : Jvm.MethodName) ({ cls := "TwoGuildsModel", name := "count", desc := "(I)I" } : Jvm.MethodName)) ∈ lw_all := lw_g (lw_at lw_m8 89 rfl) rfl
theorem q1841 : (Jvm.Cond.code ({ cls := "TwoGuildsModel", name := "count", desc := "(I)I" } : Jvm.MethodName) prog_22_method_94_code (2 : Nat) (Option.some Jvm.ClassFile.FieldType.int)) ∈ lw_all := lw_g (lw_at lw_m8 90 rfl) rfl
theorem in_X3 : ∀ w ∈ wsX30, w ∈ lw_all := lw_in wsX30 [1395, 1397, 1399, 1401, 1403, 1405, 1407, 1409, 1411, 1413, 1415, 1417, 1419, 1421, 1423, 1425, 1427, 1429, 1431, 1433, 1435, 1437, 1439, 1441, 1443, 1445, 1447, 1449, 1451, 1453, 1455, 1457, 1459, 1461, 1463, 1465] (by decide +kernel) (by decide +kernel)
