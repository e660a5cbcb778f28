/-! TwoGuilds$Table -/
set_option maxRecDepth 100000
def RX1 : String := "TwoGuilds$Table"
def TX1 : u_T := fun k => match k with
  | 0 => ("TwoGuilds$Table", "gloveN", "I", false)
  | 1 => ("TwoGuilds$Table", "textN", "I", false)
  | 2 => ("TwoGuilds$Table", "wornN", "I", false)
  | 3 => ("TwoGuilds$Table", "day", "I", false)
  | 4 => ("TwoGuilds$Table", "loss", "I", false)
  | 5 => ("TwoGuilds$Table", "z", "I", false)
  | 6 => ("TwoGuilds$Table", "wornLeft", "[I", true)
  | 7 => ("TwoGuilds$Table", "wornRight", "[I", true)
  | 8 => ("TwoGuilds$Table", "gloves", "[LTwoGuilds$Glove;", true)
  | 9 => ("TwoGuilds$Table", "texts", "[LTwoGuilds$Text;", true)
  | _ => ("TwoGuilds$Table", "this$0", "LTwoGuilds;", true)
def tyX1 : Nat → FieldType := fun k => match k with
  | 0 => .int
  | 1 => .int
  | 2 => .int
  | 3 => .int
  | 4 => .int
  | 5 => .int
  | 6 => .array .int
  | 7 => .array .int
  | 8 => .array (.object "TwoGuilds$Glove")
  | 9 => .array (.object "TwoGuilds$Text")
  | _ => .object "TwoGuilds"
abbrev wsX10 : List Cond := u_ws RX1 TX1 11
theorem nmX1 : ∀ a, a < 11 → ∀ b, b < 11 → a ≠ b → (TX1 a).2.1 ≠ (TX1 b).2.1 := by decide +kernel
theorem tyX1_ok : ∀ k, k < 11 → parseFieldDescriptor (TX1 k).2.2.1 = some (tyX1 k) := by decide +kernel
abbrev cX1_init : ByteArray := prog_15_method_1_code
def yX1_init : MethodName := ⟨RX1, "<init>", "(LTwoGuilds;)V"⟩
def dkwX1_init_2 : List UInt8 := [189, 0, 35, 181, 0, 37, 177]
abbrev dktX1_init_2 : List UInt8 := dkwX1_init_2 ++ []
def dkwX1_init_1 : List UInt8 := [181, 0, 22, 42, 16, 10, 188, 10, 181, 0, 26, 42, 16, 10, 189, 0, 29, 181, 0, 31, 42, 16, 14]
abbrev dktX1_init_1 : List UInt8 := dkwX1_init_1 ++ dktX1_init_2
def dkwX1_init_0 : List UInt8 := [42, 43, 181, 0, 3, 42, 183, 0, 9, 42, 8, 181, 0, 15, 42, 4, 181, 0, 19, 42, 16, 10, 188, 10]
abbrev dktX1_init_0 : List UInt8 := dkwX1_init_0 ++ dktX1_init_1
theorem dksX1_init_0 : cX1_init.data.toList.drop 0 = dktX1_init_0 := by decide +kernel
theorem dksX1_init_1 : cX1_init.data.toList.drop 24 = dktX1_init_1 := dk_seg dksX1_init_0 24 rfl rfl
theorem dksX1_init_2 : cX1_init.data.toList.drop 47 = dktX1_init_2 := dk_seg dksX1_init_1 23 rfl rfl
theorem dX1_init_0 : decode cX1_init 0 = .ok (.aload_n 0, 1) := dk_42 (dk_at dksX1_init_0 0 rfl rfl)
theorem dX1_init_1 : decode cX1_init 1 = .ok (.aload_n 1, 1) := dk_43 (dk_at dksX1_init_0 1 rfl rfl)
theorem dX1_init_2 : decode cX1_init 2 = .ok (.putfield 3, 3) := dk_181 0 3 (dk_at dksX1_init_0 2 rfl rfl)
theorem dX1_init_5 : decode cX1_init 5 = .ok (.aload_n 0, 1) := dk_42 (dk_at dksX1_init_0 5 rfl rfl)
theorem dX1_init_6 : decode cX1_init 6 = .ok (.invokespecial 9, 3) := dk_183 0 9 (dk_at dksX1_init_0 6 rfl rfl)
theorem dX1_init_9 : decode cX1_init 9 = .ok (.aload_n 0, 1) := dk_42 (dk_at dksX1_init_0 9 rfl rfl)
theorem dX1_init_10 : decode cX1_init 10 = .ok (.iconst 5, 1) := dk_8 (dk_at dksX1_init_0 10 rfl rfl)
theorem dX1_init_11 : decode cX1_init 11 = .ok (.putfield 15, 3) := dk_181 0 15 (dk_at dksX1_init_0 11 rfl rfl)
theorem dX1_init_14 : decode cX1_init 14 = .ok (.aload_n 0, 1) := dk_42 (dk_at dksX1_init_0 14 rfl rfl)
theorem dX1_init_15 : decode cX1_init 15 = .ok (.iconst 1, 1) := dk_4 (dk_at dksX1_init_0 15 rfl rfl)
theorem dX1_init_16 : decode cX1_init 16 = .ok (.putfield 19, 3) := dk_181 0 19 (dk_at dksX1_init_0 16 rfl rfl)
theorem dX1_init_19 : decode cX1_init 19 = .ok (.aload_n 0, 1) := dk_42 (dk_at dksX1_init_0 19 rfl rfl)
theorem dX1_init_20 : decode cX1_init 20 = .ok (.bipush 10, 2) := dk_16 10 (dk_at dksX1_init_0 20 rfl rfl)
theorem dX1_init_22 : decode cX1_init 22 = .ok (.newarray .int, 2) := dk_188_10 (dk_at dksX1_init_0 22 rfl rfl)
theorem dX1_init_24 : decode cX1_init 24 = .ok (.putfield 22, 3) := dk_181 0 22 (dk_at dksX1_init_1 0 rfl rfl)
theorem dX1_init_27 : decode cX1_init 27 = .ok (.aload_n 0, 1) := dk_42 (dk_at dksX1_init_1 3 rfl rfl)
theorem dX1_init_28 : decode cX1_init 28 = .ok (.bipush 10, 2) := dk_16 10 (dk_at dksX1_init_1 4 rfl rfl)
theorem dX1_init_30 : decode cX1_init 30 = .ok (.newarray .int, 2) := dk_188_10 (dk_at dksX1_init_1 6 rfl rfl)
theorem dX1_init_32 : decode cX1_init 32 = .ok (.putfield 26, 3) := dk_181 0 26 (dk_at dksX1_init_1 8 rfl rfl)
theorem dX1_init_35 : decode cX1_init 35 = .ok (.aload_n 0, 1) := dk_42 (dk_at dksX1_init_1 11 rfl rfl)
theorem dX1_init_36 : decode cX1_init 36 = .ok (.bipush 10, 2) := dk_16 10 (dk_at dksX1_init_1 12 rfl rfl)
theorem dX1_init_38 : decode cX1_init 38 = .ok (.anewarray 29, 3) := dk_189 0 29 (dk_at dksX1_init_1 14 rfl rfl)
theorem dX1_init_41 : decode cX1_init 41 = .ok (.putfield 31, 3) := dk_181 0 31 (dk_at dksX1_init_1 17 rfl rfl)
theorem dX1_init_44 : decode cX1_init 44 = .ok (.aload_n 0, 1) := dk_42 (dk_at dksX1_init_1 20 rfl rfl)
theorem dX1_init_45 : decode cX1_init 45 = .ok (.bipush 14, 2) := dk_16 14 (dk_at dksX1_init_1 21 rfl rfl)
theorem dX1_init_47 : decode cX1_init 47 = .ok (.anewarray 35, 3) := dk_189 0 35 (dk_at dksX1_init_2 0 rfl rfl)
theorem dX1_init_50 : decode cX1_init 50 = .ok (.putfield 37, 3) := dk_181 0 37 (dk_at dksX1_init_2 3 rfl rfl)
theorem dX1_init_53 : decode cX1_init 53 = .ok (.return_, 1) := dk_177 (dk_at dksX1_init_2 6 rfl rfl)
abbrev cX1_drawn : ByteArray := prog_15_method_3_code
def yX1_drawn : MethodName := ⟨RX1, "drawn", "()I"⟩
def dkwX1_drawn_0 : List UInt8 := [42, 42, 180, 0, 19, 18, 70, 104, 17, 48, 57, 96, 181, 0, 19, 42, 180, 0, 19, 16, 8, 124, 172]
abbrev dktX1_drawn_0 : List UInt8 := dkwX1_drawn_0 ++ []
theorem dksX1_drawn_0 : cX1_drawn.data.toList.drop 0 = dktX1_drawn_0 := by decide +kernel
theorem dX1_drawn_0 : decode cX1_drawn 0 = .ok (.aload_n 0, 1) := dk_42 (dk_at dksX1_drawn_0 0 rfl rfl)
theorem dX1_drawn_1 : decode cX1_drawn 1 = .ok (.aload_n 0, 1) := dk_42 (dk_at dksX1_drawn_0 1 rfl rfl)
theorem dX1_drawn_2 : decode cX1_drawn 2 = .ok (.getfield 19, 3) := dk_180 0 19 (dk_at dksX1_drawn_0 2 rfl rfl)
theorem dX1_drawn_5 : decode cX1_drawn 5 = .ok (.ldc 70, 2) := dk_18 70 (dk_at dksX1_drawn_0 5 rfl rfl)
theorem dX1_drawn_7 : decode cX1_drawn 7 = .ok (.imul, 1) := dk_104 (dk_at dksX1_drawn_0 7 rfl rfl)
theorem dX1_drawn_8 : decode cX1_drawn 8 = .ok (.sipush 12345, 3) := dk_17 48 57 (dk_at dksX1_drawn_0 8 rfl rfl)
theorem dX1_drawn_11 : decode cX1_drawn 11 = .ok (.iadd, 1) := dk_96 (dk_at dksX1_drawn_0 11 rfl rfl)
theorem dX1_drawn_12 : decode cX1_drawn 12 = .ok (.putfield 19, 3) := dk_181 0 19 (dk_at dksX1_drawn_0 12 rfl rfl)
theorem dX1_drawn_15 : decode cX1_drawn 15 = .ok (.aload_n 0, 1) := dk_42 (dk_at dksX1_drawn_0 15 rfl rfl)
theorem dX1_drawn_16 : decode cX1_drawn 16 = .ok (.getfield 19, 3) := dk_180 0 19 (dk_at dksX1_drawn_0 16 rfl rfl)
theorem dX1_drawn_19 : decode cX1_drawn 19 = .ok (.bipush 8, 2) := dk_16 8 (dk_at dksX1_drawn_0 19 rfl rfl)
theorem dX1_drawn_21 : decode cX1_drawn 21 = .ok (.iushr, 1) := dk_124 (dk_at dksX1_drawn_0 21 rfl rfl)
theorem dX1_drawn_22 : decode cX1_drawn 22 = .ok (.ireturn, 1) := dk_172 (dk_at dksX1_drawn_0 22 rfl rfl)
abbrev cX1_all : ByteArray := prog_15_method_6_code
def yX1_all : MethodName := ⟨RX1, "all", "()I"⟩
def dkwX1_all_0 : List UInt8 := [4, 42, 180, 0, 56, 120, 4, 100, 172]
abbrev dktX1_all_0 : List UInt8 := dkwX1_all_0 ++ []
theorem dksX1_all_0 : cX1_all.data.toList.drop 0 = dktX1_all_0 := by decide +kernel
theorem dX1_all_0 : decode cX1_all 0 = .ok (.iconst 1, 1) := dk_4 (dk_at dksX1_all_0 0 rfl rfl)
theorem dX1_all_1 : decode cX1_all 1 = .ok (.aload_n 0, 1) := dk_42 (dk_at dksX1_all_0 1 rfl rfl)
theorem dX1_all_2 : decode cX1_all 2 = .ok (.getfield 56, 3) := dk_180 0 56 (dk_at dksX1_all_0 2 rfl rfl)
theorem dX1_all_5 : decode cX1_all 5 = .ok (.ishl, 1) := dk_120 (dk_at dksX1_all_0 5 rfl rfl)
theorem dX1_all_6 : decode cX1_all 6 = .ok (.iconst 1, 1) := dk_4 (dk_at dksX1_all_0 6 rfl rfl)
theorem dX1_all_7 : decode cX1_all 7 = .ok (.isub, 1) := dk_100 (dk_at dksX1_all_0 7 rfl rfl)
theorem dX1_all_8 : decode cX1_all 8 = .ok (.ireturn, 1) := dk_172 (dk_at dksX1_all_0 8 rfl rfl)
abbrev cX1_lost : ByteArray := prog_15_method_4_code
def yX1_lost : MethodName := ⟨RX1, "lost", "()I"⟩
def dkwX1_lost_1 : List UInt8 := [184, 0, 75, 96, 60, 132, 2, 1, 167, 255, 230, 27, 172]
abbrev dktX1_lost_1 : List UInt8 := dkwX1_lost_1 ++ []
def dkwX1_lost_0 : List UInt8 := [3, 60, 3, 61, 28, 42, 180, 0, 56, 162, 0, 24, 27, 42, 180, 0, 31, 28, 50, 180, 0, 71]
abbrev dktX1_lost_0 : List UInt8 := dkwX1_lost_0 ++ dktX1_lost_1
theorem dksX1_lost_0 : cX1_lost.data.toList.drop 0 = dktX1_lost_0 := by decide +kernel
theorem dksX1_lost_1 : cX1_lost.data.toList.drop 22 = dktX1_lost_1 := dk_seg dksX1_lost_0 22 rfl rfl
theorem dX1_lost_0 : decode cX1_lost 0 = .ok (.iconst 0, 1) := dk_3 (dk_at dksX1_lost_0 0 rfl rfl)
theorem dX1_lost_1 : decode cX1_lost 1 = .ok (.istore_n 1, 1) := dk_60 (dk_at dksX1_lost_0 1 rfl rfl)
theorem dX1_lost_2 : decode cX1_lost 2 = .ok (.iconst 0, 1) := dk_3 (dk_at dksX1_lost_0 2 rfl rfl)
theorem dX1_lost_3 : decode cX1_lost 3 = .ok (.istore_n 2, 1) := dk_61 (dk_at dksX1_lost_0 3 rfl rfl)
theorem dX1_lost_4 : decode cX1_lost 4 = .ok (.iload_n 2, 1) := dk_28 (dk_at dksX1_lost_0 4 rfl rfl)
theorem dX1_lost_5 : decode cX1_lost 5 = .ok (.aload_n 0, 1) := dk_42 (dk_at dksX1_lost_0 5 rfl rfl)
theorem dX1_lost_6 : decode cX1_lost 6 = .ok (.getfield 56, 3) := dk_180 0 56 (dk_at dksX1_lost_0 6 rfl rfl)
theorem dX1_lost_9 : decode cX1_lost 9 = .ok (.if_icmp .ge 24, 3) := dk_162 0 24 (dk_at dksX1_lost_0 9 rfl rfl)
theorem dX1_lost_12 : decode cX1_lost 12 = .ok (.iload_n 1, 1) := dk_27 (dk_at dksX1_lost_0 12 rfl rfl)
theorem dX1_lost_13 : decode cX1_lost 13 = .ok (.aload_n 0, 1) := dk_42 (dk_at dksX1_lost_0 13 rfl rfl)
theorem dX1_lost_14 : decode cX1_lost 14 = .ok (.getfield 31, 3) := dk_180 0 31 (dk_at dksX1_lost_0 14 rfl rfl)
theorem dX1_lost_17 : decode cX1_lost 17 = .ok (.iload_n 2, 1) := dk_28 (dk_at dksX1_lost_0 17 rfl rfl)
theorem dX1_lost_18 : decode cX1_lost 18 = .ok (.aaload, 1) := dk_50 (dk_at dksX1_lost_0 18 rfl rfl)
theorem dX1_lost_19 : decode cX1_lost 19 = .ok (.getfield 71, 3) := dk_180 0 71 (dk_at dksX1_lost_0 19 rfl rfl)
theorem dX1_lost_22 : decode cX1_lost 22 = .ok (.invokestatic 75, 3) := dk_184 0 75 (dk_at dksX1_lost_1 0 rfl rfl)
theorem dX1_lost_25 : decode cX1_lost 25 = .ok (.iadd, 1) := dk_96 (dk_at dksX1_lost_1 3 rfl rfl)
theorem dX1_lost_26 : decode cX1_lost 26 = .ok (.istore_n 1, 1) := dk_60 (dk_at dksX1_lost_1 4 rfl rfl)
theorem dX1_lost_27 : decode cX1_lost 27 = .ok (.iinc 2 1, 3) := dk_132 2 1 (dk_at dksX1_lost_1 5 rfl rfl)
theorem dX1_lost_30 : decode cX1_lost 30 = .ok (.goto (-26), 3) := dk_167 255 230 (dk_at dksX1_lost_1 8 rfl rfl)
theorem dX1_lost_33 : decode cX1_lost 33 = .ok (.iload_n 1, 1) := dk_27 (dk_at dksX1_lost_1 11 rfl rfl)
theorem dX1_lost_34 : decode cX1_lost 34 = .ok (.ireturn, 1) := dk_172 (dk_at dksX1_lost_1 12 rfl rfl)
abbrev cX1_goesOn : ByteArray := prog_15_method_7_code
def yX1_goesOn : MethodName := ⟨RX1, "goesOn", "(I)V"⟩
def dkwX1_goesOn_4 : List UInt8 := [181, 0, 47, 177]
abbrev dktX1_goesOn_4 : List UInt8 := dkwX1_goesOn_4 ++ []
def dkwX1_goesOn_3 : List UInt8 := [162, 0, 7, 4, 167, 0, 4, 3, 181, 0, 71, 132, 2, 1, 167, 255, 175, 42, 89, 180, 0, 47, 4, 96]
abbrev dktX1_goesOn_3 : List UInt8 := dkwX1_goesOn_3 ++ dktX1_goesOn_4
def dkwX1_goesOn_2 : List UInt8 := [182, 0, 85, 96, 184, 0, 89, 181, 0, 79, 45, 42, 182, 0, 82, 16, 100, 112, 42, 180, 0, 15]
abbrev dktX1_goesOn_2 : List UInt8 := dkwX1_goesOn_2 ++ dktX1_goesOn_3
def dkwX1_goesOn_1 : List UInt8 := [28, 27, 160, 0, 6, 167, 0, 51, 45, 16, 99, 45, 180, 0, 79, 45, 42, 182, 0, 82, 16, 10, 112]
abbrev dktX1_goesOn_1 : List UInt8 := dkwX1_goesOn_1 ++ dktX1_goesOn_2
def dkwX1_goesOn_0 : List UInt8 := [3, 61, 28, 42, 180, 0, 56, 162, 0, 79, 42, 180, 0, 31, 28, 50, 78, 45, 180, 0, 71, 154, 0, 59]
abbrev dktX1_goesOn_0 : List UInt8 := dkwX1_goesOn_0 ++ dktX1_goesOn_1
theorem dksX1_goesOn_0 : cX1_goesOn.data.toList.drop 0 = dktX1_goesOn_0 := by decide +kernel
theorem dksX1_goesOn_1 : cX1_goesOn.data.toList.drop 24 = dktX1_goesOn_1 := dk_seg dksX1_goesOn_0 24 rfl rfl
theorem dksX1_goesOn_2 : cX1_goesOn.data.toList.drop 47 = dktX1_goesOn_2 := dk_seg dksX1_goesOn_1 23 rfl rfl
theorem dksX1_goesOn_3 : cX1_goesOn.data.toList.drop 69 = dktX1_goesOn_3 := dk_seg dksX1_goesOn_2 22 rfl rfl
theorem dksX1_goesOn_4 : cX1_goesOn.data.toList.drop 93 = dktX1_goesOn_4 := dk_seg dksX1_goesOn_3 24 rfl rfl
theorem dX1_goesOn_0 : decode cX1_goesOn 0 = .ok (.iconst 0, 1) := dk_3 (dk_at dksX1_goesOn_0 0 rfl rfl)
theorem dX1_goesOn_1 : decode cX1_goesOn 1 = .ok (.istore_n 2, 1) := dk_61 (dk_at dksX1_goesOn_0 1 rfl rfl)
theorem dX1_goesOn_2 : decode cX1_goesOn 2 = .ok (.iload_n 2, 1) := dk_28 (dk_at dksX1_goesOn_0 2 rfl rfl)
theorem dX1_goesOn_3 : decode cX1_goesOn 3 = .ok (.aload_n 0, 1) := dk_42 (dk_at dksX1_goesOn_0 3 rfl rfl)
theorem dX1_goesOn_4 : decode cX1_goesOn 4 = .ok (.getfield 56, 3) := dk_180 0 56 (dk_at dksX1_goesOn_0 4 rfl rfl)
theorem dX1_goesOn_7 : decode cX1_goesOn 7 = .ok (.if_icmp .ge 79, 3) := dk_162 0 79 (dk_at dksX1_goesOn_0 7 rfl rfl)
theorem dX1_goesOn_10 : decode cX1_goesOn 10 = .ok (.aload_n 0, 1) := dk_42 (dk_at dksX1_goesOn_0 10 rfl rfl)
theorem dX1_goesOn_11 : decode cX1_goesOn 11 = .ok (.getfield 31, 3) := dk_180 0 31 (dk_at dksX1_goesOn_0 11 rfl rfl)
theorem dX1_goesOn_14 : decode cX1_goesOn 14 = .ok (.iload_n 2, 1) := dk_28 (dk_at dksX1_goesOn_0 14 rfl rfl)
theorem dX1_goesOn_15 : decode cX1_goesOn 15 = .ok (.aaload, 1) := dk_50 (dk_at dksX1_goesOn_0 15 rfl rfl)
theorem dX1_goesOn_16 : decode cX1_goesOn 16 = .ok (.astore_n 3, 1) := dk_78 (dk_at dksX1_goesOn_0 16 rfl rfl)
theorem dX1_goesOn_17 : decode cX1_goesOn 17 = .ok (.aload_n 3, 1) := dk_45 (dk_at dksX1_goesOn_0 17 rfl rfl)
theorem dX1_goesOn_18 : decode cX1_goesOn 18 = .ok (.getfield 71, 3) := dk_180 0 71 (dk_at dksX1_goesOn_0 18 rfl rfl)
theorem dX1_goesOn_21 : decode cX1_goesOn 21 = .ok (.ifCond .ne 59, 3) := dk_154 0 59 (dk_at dksX1_goesOn_0 21 rfl rfl)
theorem dX1_goesOn_24 : decode cX1_goesOn 24 = .ok (.iload_n 2, 1) := dk_28 (dk_at dksX1_goesOn_1 0 rfl rfl)
theorem dX1_goesOn_25 : decode cX1_goesOn 25 = .ok (.iload_n 1, 1) := dk_27 (dk_at dksX1_goesOn_1 1 rfl rfl)
theorem dX1_goesOn_26 : decode cX1_goesOn 26 = .ok (.if_icmp .ne 6, 3) := dk_160 0 6 (dk_at dksX1_goesOn_1 2 rfl rfl)
theorem dX1_goesOn_29 : decode cX1_goesOn 29 = .ok (.goto 51, 3) := dk_167 0 51 (dk_at dksX1_goesOn_1 5 rfl rfl)
theorem dX1_goesOn_32 : decode cX1_goesOn 32 = .ok (.aload_n 3, 1) := dk_45 (dk_at dksX1_goesOn_1 8 rfl rfl)
theorem dX1_goesOn_33 : decode cX1_goesOn 33 = .ok (.bipush 99, 2) := dk_16 99 (dk_at dksX1_goesOn_1 9 rfl rfl)
theorem dX1_goesOn_35 : decode cX1_goesOn 35 = .ok (.aload_n 3, 1) := dk_45 (dk_at dksX1_goesOn_1 11 rfl rfl)
theorem dX1_goesOn_36 : decode cX1_goesOn 36 = .ok (.getfield 79, 3) := dk_180 0 79 (dk_at dksX1_goesOn_1 12 rfl rfl)
theorem dX1_goesOn_39 : decode cX1_goesOn 39 = .ok (.aload_n 3, 1) := dk_45 (dk_at dksX1_goesOn_1 15 rfl rfl)
theorem dX1_goesOn_40 : decode cX1_goesOn 40 = .ok (.aload_n 0, 1) := dk_42 (dk_at dksX1_goesOn_1 16 rfl rfl)
theorem dX1_goesOn_41 : decode cX1_goesOn 41 = .ok (.invokevirtual 82, 3) := dk_182 0 82 (dk_at dksX1_goesOn_1 17 rfl rfl)
theorem dX1_goesOn_44 : decode cX1_goesOn 44 = .ok (.bipush 10, 2) := dk_16 10 (dk_at dksX1_goesOn_1 20 rfl rfl)
theorem dX1_goesOn_46 : decode cX1_goesOn 46 = .ok (.irem, 1) := dk_112 (dk_at dksX1_goesOn_1 22 rfl rfl)
theorem dX1_goesOn_47 : decode cX1_goesOn 47 = .ok (.invokevirtual 85, 3) := dk_182 0 85 (dk_at dksX1_goesOn_2 0 rfl rfl)
theorem dX1_goesOn_50 : decode cX1_goesOn 50 = .ok (.iadd, 1) := dk_96 (dk_at dksX1_goesOn_2 3 rfl rfl)
theorem dX1_goesOn_51 : decode cX1_goesOn 51 = .ok (.invokestatic 89, 3) := dk_184 0 89 (dk_at dksX1_goesOn_2 4 rfl rfl)
theorem dX1_goesOn_54 : decode cX1_goesOn 54 = .ok (.putfield 79, 3) := dk_181 0 79 (dk_at dksX1_goesOn_2 7 rfl rfl)
theorem dX1_goesOn_57 : decode cX1_goesOn 57 = .ok (.aload_n 3, 1) := dk_45 (dk_at dksX1_goesOn_2 10 rfl rfl)
theorem dX1_goesOn_58 : decode cX1_goesOn 58 = .ok (.aload_n 0, 1) := dk_42 (dk_at dksX1_goesOn_2 11 rfl rfl)
theorem dX1_goesOn_59 : decode cX1_goesOn 59 = .ok (.invokevirtual 82, 3) := dk_182 0 82 (dk_at dksX1_goesOn_2 12 rfl rfl)
theorem dX1_goesOn_62 : decode cX1_goesOn 62 = .ok (.bipush 100, 2) := dk_16 100 (dk_at dksX1_goesOn_2 15 rfl rfl)
theorem dX1_goesOn_64 : decode cX1_goesOn 64 = .ok (.irem, 1) := dk_112 (dk_at dksX1_goesOn_2 17 rfl rfl)
theorem dX1_goesOn_65 : decode cX1_goesOn 65 = .ok (.aload_n 0, 1) := dk_42 (dk_at dksX1_goesOn_2 18 rfl rfl)
theorem dX1_goesOn_66 : decode cX1_goesOn 66 = .ok (.getfield 15, 3) := dk_180 0 15 (dk_at dksX1_goesOn_2 19 rfl rfl)
theorem dX1_goesOn_69 : decode cX1_goesOn 69 = .ok (.if_icmp .ge 7, 3) := dk_162 0 7 (dk_at dksX1_goesOn_3 0 rfl rfl)
theorem dX1_goesOn_72 : decode cX1_goesOn 72 = .ok (.iconst 1, 1) := dk_4 (dk_at dksX1_goesOn_3 3 rfl rfl)
theorem dX1_goesOn_73 : decode cX1_goesOn 73 = .ok (.goto 4, 3) := dk_167 0 4 (dk_at dksX1_goesOn_3 4 rfl rfl)
theorem dX1_goesOn_76 : decode cX1_goesOn 76 = .ok (.iconst 0, 1) := dk_3 (dk_at dksX1_goesOn_3 7 rfl rfl)
theorem dX1_goesOn_77 : decode cX1_goesOn 77 = .ok (.putfield 71, 3) := dk_181 0 71 (dk_at dksX1_goesOn_3 8 rfl rfl)
theorem dX1_goesOn_80 : decode cX1_goesOn 80 = .ok (.iinc 2 1, 3) := dk_132 2 1 (dk_at dksX1_goesOn_3 11 rfl rfl)
theorem dX1_goesOn_83 : decode cX1_goesOn 83 = .ok (.goto (-81), 3) := dk_167 255 175 (dk_at dksX1_goesOn_3 14 rfl rfl)
theorem dX1_goesOn_86 : decode cX1_goesOn 86 = .ok (.aload_n 0, 1) := dk_42 (dk_at dksX1_goesOn_3 17 rfl rfl)
theorem dX1_goesOn_87 : decode cX1_goesOn 87 = .ok (.dup, 1) := dk_89 (dk_at dksX1_goesOn_3 18 rfl rfl)
theorem dX1_goesOn_88 : decode cX1_goesOn 88 = .ok (.getfield 47, 3) := dk_180 0 47 (dk_at dksX1_goesOn_3 19 rfl rfl)
theorem dX1_goesOn_91 : decode cX1_goesOn 91 = .ok (.iconst 1, 1) := dk_4 (dk_at dksX1_goesOn_3 22 rfl rfl)
theorem dX1_goesOn_92 : decode cX1_goesOn 92 = .ok (.iadd, 1) := dk_96 (dk_at dksX1_goesOn_3 23 rfl rfl)
theorem dX1_goesOn_93 : decode cX1_goesOn 93 = .ok (.putfield 47, 3) := dk_181 0 47 (dk_at dksX1_goesOn_4 0 rfl rfl)
theorem dX1_goesOn_96 : decode cX1_goesOn 96 = .ok (.return_, 1) := dk_177 (dk_at dksX1_goesOn_4 3 rfl rfl)
abbrev cX1_become : ByteArray := prog_15_method_2_code
def yX1_become : MethodName := ⟨RX1, "become", "(LTwoGuilds$Table;)V"⟩
def dkwX1_become_7 : List UInt8 := [167, 0, 16, 42, 180, 0, 3, 43, 180, 0, 31, 28, 50, 182, 0, 67, 83, 132, 2, 1, 167, 255, 168, 177]
abbrev dktX1_become_7 : List UInt8 := dkwX1_become_7 ++ []
def dkwX1_become_6 : List UInt8 := [180, 0, 31, 28, 29, 153, 0, 21, 42, 180, 0, 31, 28, 50, 43, 180, 0, 31, 28, 50, 182, 0, 63]
abbrev dktX1_become_6 : List UInt8 := dkwX1_become_6 ++ dktX1_become_7
def dkwX1_become_5 : List UInt8 := [182, 0, 59, 43, 180, 0, 31, 28, 50, 182, 0, 59, 160, 0, 7, 4, 167, 0, 4, 3, 62, 42]
abbrev dktX1_become_5 : List UInt8 := dkwX1_become_5 ++ dktX1_become_6
def dkwX1_become_4 : List UInt8 := [61, 28, 42, 180, 0, 56, 162, 0, 86, 42, 180, 0, 31, 28, 50, 198, 0, 28, 42, 180, 0, 31, 28, 50]
abbrev dktX1_become_4 : List UInt8 := dkwX1_become_4 ++ dktX1_become_5
def dkwX1_become_3 : List UInt8 := [43, 180, 0, 37, 3, 42, 180, 0, 37, 3, 16, 14, 184, 0, 50, 42, 43, 180, 0, 56, 181, 0, 56, 3]
abbrev dktX1_become_3 : List UInt8 := dkwX1_become_3 ++ dktX1_become_4
def dkwX1_become_2 : List UInt8 := [180, 0, 22, 3, 16, 10, 184, 0, 50, 43, 180, 0, 26, 3, 42, 180, 0, 26, 3, 16, 10, 184, 0, 50]
abbrev dktX1_become_2 : List UInt8 := dkwX1_become_2 ++ dktX1_become_3
def dkwX1_become_1 : List UInt8 := [42, 43, 180, 0, 15, 181, 0, 15, 42, 43, 180, 0, 19, 181, 0, 19, 43, 180, 0, 22, 3, 42]
abbrev dktX1_become_1 : List UInt8 := dkwX1_become_1 ++ dktX1_become_2
def dkwX1_become_0 : List UInt8 := [42, 43, 180, 0, 41, 181, 0, 41, 42, 43, 180, 0, 44, 181, 0, 44, 42, 43, 180, 0, 47, 181, 0, 47]
abbrev dktX1_become_0 : List UInt8 := dkwX1_become_0 ++ dktX1_become_1
theorem dksX1_become_0 : cX1_become.data.toList.drop 0 = dktX1_become_0 := by decide +kernel
theorem dksX1_become_1 : cX1_become.data.toList.drop 24 = dktX1_become_1 := dk_seg dksX1_become_0 24 rfl rfl
theorem dksX1_become_2 : cX1_become.data.toList.drop 46 = dktX1_become_2 := dk_seg dksX1_become_1 22 rfl rfl
theorem dksX1_become_3 : cX1_become.data.toList.drop 70 = dktX1_become_3 := dk_seg dksX1_become_2 24 rfl rfl
theorem dksX1_become_4 : cX1_become.data.toList.drop 94 = dktX1_become_4 := dk_seg dksX1_become_3 24 rfl rfl
theorem dksX1_become_5 : cX1_become.data.toList.drop 118 = dktX1_become_5 := dk_seg dksX1_become_4 24 rfl rfl
theorem dksX1_become_6 : cX1_become.data.toList.drop 140 = dktX1_become_6 := dk_seg dksX1_become_5 22 rfl rfl
theorem dksX1_become_7 : cX1_become.data.toList.drop 163 = dktX1_become_7 := dk_seg dksX1_become_6 23 rfl rfl
theorem dX1_become_0 : decode cX1_become 0 = .ok (.aload_n 0, 1) := dk_42 (dk_at dksX1_become_0 0 rfl rfl)
theorem dX1_become_1 : decode cX1_become 1 = .ok (.aload_n 1, 1) := dk_43 (dk_at dksX1_become_0 1 rfl rfl)
theorem dX1_become_2 : decode cX1_become 2 = .ok (.getfield 41, 3) := dk_180 0 41 (dk_at dksX1_become_0 2 rfl rfl)
theorem dX1_become_5 : decode cX1_become 5 = .ok (.putfield 41, 3) := dk_181 0 41 (dk_at dksX1_become_0 5 rfl rfl)
theorem dX1_become_8 : decode cX1_become 8 = .ok (.aload_n 0, 1) := dk_42 (dk_at dksX1_become_0 8 rfl rfl)
theorem dX1_become_9 : decode cX1_become 9 = .ok (.aload_n 1, 1) := dk_43 (dk_at dksX1_become_0 9 rfl rfl)
theorem dX1_become_10 : decode cX1_become 10 = .ok (.getfield 44, 3) := dk_180 0 44 (dk_at dksX1_become_0 10 rfl rfl)
theorem dX1_become_13 : decode cX1_become 13 = .ok (.putfield 44, 3) := dk_181 0 44 (dk_at dksX1_become_0 13 rfl rfl)
theorem dX1_become_16 : decode cX1_become 16 = .ok (.aload_n 0, 1) := dk_42 (dk_at dksX1_become_0 16 rfl rfl)
theorem dX1_become_17 : decode cX1_become 17 = .ok (.aload_n 1, 1) := dk_43 (dk_at dksX1_become_0 17 rfl rfl)
theorem dX1_become_18 : decode cX1_become 18 = .ok (.getfield 47, 3) := dk_180 0 47 (dk_at dksX1_become_0 18 rfl rfl)
theorem dX1_become_21 : decode cX1_become 21 = .ok (.putfield 47, 3) := dk_181 0 47 (dk_at dksX1_become_0 21 rfl rfl)
theorem dX1_become_24 : decode cX1_become 24 = .ok (.aload_n 0, 1) := dk_42 (dk_at dksX1_become_1 0 rfl rfl)
theorem dX1_become_25 : decode cX1_become 25 = .ok (.aload_n 1, 1) := dk_43 (dk_at dksX1_become_1 1 rfl rfl)
theorem dX1_become_26 : decode cX1_become 26 = .ok (.getfield 15, 3) := dk_180 0 15 (dk_at dksX1_become_1 2 rfl rfl)
theorem dX1_become_29 : decode cX1_become 29 = .ok (.putfield 15, 3) := dk_181 0 15 (dk_at dksX1_become_1 5 rfl rfl)
theorem dX1_become_32 : decode cX1_become 32 = .ok (.aload_n 0, 1) := dk_42 (dk_at dksX1_become_1 8 rfl rfl)
theorem dX1_become_33 : decode cX1_become 33 = .ok (.aload_n 1, 1) := dk_43 (dk_at dksX1_become_1 9 rfl rfl)
theorem dX1_become_34 : decode cX1_become 34 = .ok (.getfield 19, 3) := dk_180 0 19 (dk_at dksX1_become_1 10 rfl rfl)
theorem dX1_become_37 : decode cX1_become 37 = .ok (.putfield 19, 3) := dk_181 0 19 (dk_at dksX1_become_1 13 rfl rfl)
theorem dX1_become_40 : decode cX1_become 40 = .ok (.aload_n 1, 1) := dk_43 (dk_at dksX1_become_1 16 rfl rfl)
theorem dX1_become_41 : decode cX1_become 41 = .ok (.getfield 22, 3) := dk_180 0 22 (dk_at dksX1_become_1 17 rfl rfl)
theorem dX1_become_44 : decode cX1_become 44 = .ok (.iconst 0, 1) := dk_3 (dk_at dksX1_become_1 20 rfl rfl)
theorem dX1_become_45 : decode cX1_become 45 = .ok (.aload_n 0, 1) := dk_42 (dk_at dksX1_become_1 21 rfl rfl)
theorem dX1_become_46 : decode cX1_become 46 = .ok (.getfield 22, 3) := dk_180 0 22 (dk_at dksX1_become_2 0 rfl rfl)
theorem dX1_become_49 : decode cX1_become 49 = .ok (.iconst 0, 1) := dk_3 (dk_at dksX1_become_2 3 rfl rfl)
theorem dX1_become_50 : decode cX1_become 50 = .ok (.bipush 10, 2) := dk_16 10 (dk_at dksX1_become_2 4 rfl rfl)
theorem dX1_become_52 : decode cX1_become 52 = .ok (.invokestatic 50, 3) := dk_184 0 50 (dk_at dksX1_become_2 6 rfl rfl)
theorem dX1_become_55 : decode cX1_become 55 = .ok (.aload_n 1, 1) := dk_43 (dk_at dksX1_become_2 9 rfl rfl)
theorem dX1_become_56 : decode cX1_become 56 = .ok (.getfield 26, 3) := dk_180 0 26 (dk_at dksX1_become_2 10 rfl rfl)
theorem dX1_become_59 : decode cX1_become 59 = .ok (.iconst 0, 1) := dk_3 (dk_at dksX1_become_2 13 rfl rfl)
theorem dX1_become_60 : decode cX1_become 60 = .ok (.aload_n 0, 1) := dk_42 (dk_at dksX1_become_2 14 rfl rfl)
theorem dX1_become_61 : decode cX1_become 61 = .ok (.getfield 26, 3) := dk_180 0 26 (dk_at dksX1_become_2 15 rfl rfl)
theorem dX1_become_64 : decode cX1_become 64 = .ok (.iconst 0, 1) := dk_3 (dk_at dksX1_become_2 18 rfl rfl)
theorem dX1_become_65 : decode cX1_become 65 = .ok (.bipush 10, 2) := dk_16 10 (dk_at dksX1_become_2 19 rfl rfl)
theorem dX1_become_67 : decode cX1_become 67 = .ok (.invokestatic 50, 3) := dk_184 0 50 (dk_at dksX1_become_2 21 rfl rfl)
theorem dX1_become_70 : decode cX1_become 70 = .ok (.aload_n 1, 1) := dk_43 (dk_at dksX1_become_3 0 rfl rfl)
theorem dX1_become_71 : decode cX1_become 71 = .ok (.getfield 37, 3) := dk_180 0 37 (dk_at dksX1_become_3 1 rfl rfl)
theorem dX1_become_74 : decode cX1_become 74 = .ok (.iconst 0, 1) := dk_3 (dk_at dksX1_become_3 4 rfl rfl)
theorem dX1_become_75 : decode cX1_become 75 = .ok (.aload_n 0, 1) := dk_42 (dk_at dksX1_become_3 5 rfl rfl)
theorem dX1_become_76 : decode cX1_become 76 = .ok (.getfield 37, 3) := dk_180 0 37 (dk_at dksX1_become_3 6 rfl rfl)
theorem dX1_become_79 : decode cX1_become 79 = .ok (.iconst 0, 1) := dk_3 (dk_at dksX1_become_3 9 rfl rfl)
theorem dX1_become_80 : decode cX1_become 80 = .ok (.bipush 14, 2) := dk_16 14 (dk_at dksX1_become_3 10 rfl rfl)
theorem dX1_become_82 : decode cX1_become 82 = .ok (.invokestatic 50, 3) := dk_184 0 50 (dk_at dksX1_become_3 12 rfl rfl)
theorem dX1_become_85 : decode cX1_become 85 = .ok (.aload_n 0, 1) := dk_42 (dk_at dksX1_become_3 15 rfl rfl)
theorem dX1_become_86 : decode cX1_become 86 = .ok (.aload_n 1, 1) := dk_43 (dk_at dksX1_become_3 16 rfl rfl)
theorem dX1_become_87 : decode cX1_become 87 = .ok (.getfield 56, 3) := dk_180 0 56 (dk_at dksX1_become_3 17 rfl rfl)
theorem dX1_become_90 : decode cX1_become 90 = .ok (.putfield 56, 3) := dk_181 0 56 (dk_at dksX1_become_3 20 rfl rfl)
theorem dX1_become_93 : decode cX1_become 93 = .ok (.iconst 0, 1) := dk_3 (dk_at dksX1_become_3 23 rfl rfl)
theorem dX1_become_94 : decode cX1_become 94 = .ok (.istore_n 2, 1) := dk_61 (dk_at dksX1_become_4 0 rfl rfl)
theorem dX1_become_95 : decode cX1_become 95 = .ok (.iload_n 2, 1) := dk_28 (dk_at dksX1_become_4 1 rfl rfl)
theorem dX1_become_96 : decode cX1_become 96 = .ok (.aload_n 0, 1) := dk_42 (dk_at dksX1_become_4 2 rfl rfl)
theorem dX1_become_97 : decode cX1_become 97 = .ok (.getfield 56, 3) := dk_180 0 56 (dk_at dksX1_become_4 3 rfl rfl)
theorem dX1_become_100 : decode cX1_become 100 = .ok (.if_icmp .ge 86, 3) := dk_162 0 86 (dk_at dksX1_become_4 6 rfl rfl)
theorem dX1_become_103 : decode cX1_become 103 = .ok (.aload_n 0, 1) := dk_42 (dk_at dksX1_become_4 9 rfl rfl)
theorem dX1_become_104 : decode cX1_become 104 = .ok (.getfield 31, 3) := dk_180 0 31 (dk_at dksX1_become_4 10 rfl rfl)
theorem dX1_become_107 : decode cX1_become 107 = .ok (.iload_n 2, 1) := dk_28 (dk_at dksX1_become_4 13 rfl rfl)
theorem dX1_become_108 : decode cX1_become 108 = .ok (.aaload, 1) := dk_50 (dk_at dksX1_become_4 14 rfl rfl)
theorem dX1_become_109 : decode cX1_become 109 = .ok (.ifnull 28, 3) := dk_198 0 28 (dk_at dksX1_become_4 15 rfl rfl)
theorem dX1_become_112 : decode cX1_become 112 = .ok (.aload_n 0, 1) := dk_42 (dk_at dksX1_become_4 18 rfl rfl)
theorem dX1_become_113 : decode cX1_become 113 = .ok (.getfield 31, 3) := dk_180 0 31 (dk_at dksX1_become_4 19 rfl rfl)
theorem dX1_become_116 : decode cX1_become 116 = .ok (.iload_n 2, 1) := dk_28 (dk_at dksX1_become_4 22 rfl rfl)
theorem dX1_become_117 : decode cX1_become 117 = .ok (.aaload, 1) := dk_50 (dk_at dksX1_become_4 23 rfl rfl)
theorem dX1_become_118 : decode cX1_become 118 = .ok (.invokevirtual 59, 3) := dk_182 0 59 (dk_at dksX1_become_5 0 rfl rfl)
theorem dX1_become_121 : decode cX1_become 121 = .ok (.aload_n 1, 1) := dk_43 (dk_at dksX1_become_5 3 rfl rfl)
theorem dX1_become_122 : decode cX1_become 122 = .ok (.getfield 31, 3) := dk_180 0 31 (dk_at dksX1_become_5 4 rfl rfl)
theorem dX1_become_125 : decode cX1_become 125 = .ok (.iload_n 2, 1) := dk_28 (dk_at dksX1_become_5 7 rfl rfl)
theorem dX1_become_126 : decode cX1_become 126 = .ok (.aaload, 1) := dk_50 (dk_at dksX1_become_5 8 rfl rfl)
theorem dX1_become_127 : decode cX1_become 127 = .ok (.invokevirtual 59, 3) := dk_182 0 59 (dk_at dksX1_become_5 9 rfl rfl)
theorem dX1_become_130 : decode cX1_become 130 = .ok (.if_icmp .ne 7, 3) := dk_160 0 7 (dk_at dksX1_become_5 12 rfl rfl)
theorem dX1_become_133 : decode cX1_become 133 = .ok (.iconst 1, 1) := dk_4 (dk_at dksX1_become_5 15 rfl rfl)
theorem dX1_become_134 : decode cX1_become 134 = .ok (.goto 4, 3) := dk_167 0 4 (dk_at dksX1_become_5 16 rfl rfl)
theorem dX1_become_137 : decode cX1_become 137 = .ok (.iconst 0, 1) := dk_3 (dk_at dksX1_become_5 19 rfl rfl)
theorem dX1_become_138 : decode cX1_become 138 = .ok (.istore_n 3, 1) := dk_62 (dk_at dksX1_become_5 20 rfl rfl)
theorem dX1_become_139 : decode cX1_become 139 = .ok (.aload_n 0, 1) := dk_42 (dk_at dksX1_become_5 21 rfl rfl)
theorem dX1_become_140 : decode cX1_become 140 = .ok (.getfield 31, 3) := dk_180 0 31 (dk_at dksX1_become_6 0 rfl rfl)
theorem dX1_become_143 : decode cX1_become 143 = .ok (.iload_n 2, 1) := dk_28 (dk_at dksX1_become_6 3 rfl rfl)
theorem dX1_become_144 : decode cX1_become 144 = .ok (.iload_n 3, 1) := dk_29 (dk_at dksX1_become_6 4 rfl rfl)
theorem dX1_become_145 : decode cX1_become 145 = .ok (.ifCond .eq 21, 3) := dk_153 0 21 (dk_at dksX1_become_6 5 rfl rfl)
theorem dX1_become_148 : decode cX1_become 148 = .ok (.aload_n 0, 1) := dk_42 (dk_at dksX1_become_6 8 rfl rfl)
theorem dX1_become_149 : decode cX1_become 149 = .ok (.getfield 31, 3) := dk_180 0 31 (dk_at dksX1_become_6 9 rfl rfl)
theorem dX1_become_152 : decode cX1_become 152 = .ok (.iload_n 2, 1) := dk_28 (dk_at dksX1_become_6 12 rfl rfl)
theorem dX1_become_153 : decode cX1_become 153 = .ok (.aaload, 1) := dk_50 (dk_at dksX1_become_6 13 rfl rfl)
theorem dX1_become_154 : decode cX1_become 154 = .ok (.aload_n 1, 1) := dk_43 (dk_at dksX1_become_6 14 rfl rfl)
theorem dX1_become_155 : decode cX1_become 155 = .ok (.getfield 31, 3) := dk_180 0 31 (dk_at dksX1_become_6 15 rfl rfl)
theorem dX1_become_158 : decode cX1_become 158 = .ok (.iload_n 2, 1) := dk_28 (dk_at dksX1_become_6 18 rfl rfl)
theorem dX1_become_159 : decode cX1_become 159 = .ok (.aaload, 1) := dk_50 (dk_at dksX1_become_6 19 rfl rfl)
theorem dX1_become_160 : decode cX1_become 160 = .ok (.invokevirtual 63, 3) := dk_182 0 63 (dk_at dksX1_become_6 20 rfl rfl)
theorem dX1_become_163 : decode cX1_become 163 = .ok (.goto 16, 3) := dk_167 0 16 (dk_at dksX1_become_7 0 rfl rfl)
theorem dX1_become_166 : decode cX1_become 166 = .ok (.aload_n 0, 1) := dk_42 (dk_at dksX1_become_7 3 rfl rfl)
theorem dX1_become_167 : decode cX1_become 167 = .ok (.getfield 3, 3) := dk_180 0 3 (dk_at dksX1_become_7 4 rfl rfl)
theorem dX1_become_170 : decode cX1_become 170 = .ok (.aload_n 1, 1) := dk_43 (dk_at dksX1_become_7 7 rfl rfl)
theorem dX1_become_171 : decode cX1_become 171 = .ok (.getfield 31, 3) := dk_180 0 31 (dk_at dksX1_become_7 8 rfl rfl)
theorem dX1_become_174 : decode cX1_become 174 = .ok (.iload_n 2, 1) := dk_28 (dk_at dksX1_become_7 11 rfl rfl)
theorem dX1_become_175 : decode cX1_become 175 = .ok (.aaload, 1) := dk_50 (dk_at dksX1_become_7 12 rfl rfl)
theorem dX1_become_176 : decode cX1_become 176 = .ok (.invokevirtual 67, 3) := dk_182 0 67 (dk_at dksX1_become_7 13 rfl rfl)
theorem dX1_become_179 : decode cX1_become 179 = .ok (.aastore, 1) := dk_83 (dk_at dksX1_become_7 16 rfl rfl)
theorem dX1_become_180 : decode cX1_become 180 = .ok (.iinc 2 1, 3) := dk_132 2 1 (dk_at dksX1_become_7 17 rfl rfl)
theorem dX1_become_183 : decode cX1_become 183 = .ok (.goto (-88), 3) := dk_167 255 168 (dk_at dksX1_become_7 20 rfl rfl)
theorem dX1_become_186 : decode cX1_become 186 = .ok (.return_, 1) := dk_177 (dk_at dksX1_become_7 23 rfl rfl)
abbrev cX1_goesOn_2 : ByteArray := prog_15_method_8_code
def yX1_goesOn_2 : MethodName := ⟨RX1, "goesOn", "(II)V"⟩
def dkwX1_goesOn_2_0 : List UInt8 := [3, 62, 29, 28, 162, 0, 14, 42, 27, 182, 0, 95, 132, 3, 1, 167, 255, 243, 177]
abbrev dktX1_goesOn_2_0 : List UInt8 := dkwX1_goesOn_2_0 ++ []
theorem dksX1_goesOn_2_0 : cX1_goesOn_2.data.toList.drop 0 = dktX1_goesOn_2_0 := by decide +kernel
theorem dX1_goesOn_2_0 : decode cX1_goesOn_2 0 = .ok (.iconst 0, 1) := dk_3 (dk_at dksX1_goesOn_2_0 0 rfl rfl)
theorem dX1_goesOn_2_1 : decode cX1_goesOn_2 1 = .ok (.istore_n 3, 1) := dk_62 (dk_at dksX1_goesOn_2_0 1 rfl rfl)
theorem dX1_goesOn_2_2 : decode cX1_goesOn_2 2 = .ok (.iload_n 3, 1) := dk_29 (dk_at dksX1_goesOn_2_0 2 rfl rfl)
theorem dX1_goesOn_2_3 : decode cX1_goesOn_2 3 = .ok (.iload_n 2, 1) := dk_28 (dk_at dksX1_goesOn_2_0 3 rfl rfl)
theorem dX1_goesOn_2_4 : decode cX1_goesOn_2 4 = .ok (.if_icmp .ge 14, 3) := dk_162 0 14 (dk_at dksX1_goesOn_2_0 4 rfl rfl)
theorem dX1_goesOn_2_7 : decode cX1_goesOn_2 7 = .ok (.aload_n 0, 1) := dk_42 (dk_at dksX1_goesOn_2_0 7 rfl rfl)
theorem dX1_goesOn_2_8 : decode cX1_goesOn_2 8 = .ok (.iload_n 1, 1) := dk_27 (dk_at dksX1_goesOn_2_0 8 rfl rfl)
theorem dX1_goesOn_2_9 : decode cX1_goesOn_2 9 = .ok (.invokevirtual 95, 3) := dk_182 0 95 (dk_at dksX1_goesOn_2_0 9 rfl rfl)
theorem dX1_goesOn_2_12 : decode cX1_goesOn_2 12 = .ok (.iinc 3 1, 3) := dk_132 3 1 (dk_at dksX1_goesOn_2_0 12 rfl rfl)
theorem dX1_goesOn_2_15 : decode cX1_goesOn_2 15 = .ok (.goto (-13), 3) := dk_167 255 243 (dk_at dksX1_goesOn_2_0 15 rfl rfl)
theorem dX1_goesOn_2_18 : decode cX1_goesOn_2 18 = .ok (.return_, 1) := dk_177 (dk_at dksX1_goesOn_2_0 18 rfl rfl)
abbrev cX1_allWear : ByteArray := prog_15_method_5_code
def yX1_allWear : MethodName := ⟨RX1, "allWear", "()I"⟩
def dkwX1_allWear_2 : List UInt8 := [27, 172]
abbrev dktX1_allWear_2 : List UInt8 := dkwX1_allWear_2 ++ []
def dkwX1_allWear_1 : List UInt8 := [153, 0, 7, 3, 167, 0, 12, 42, 180, 0, 31, 28, 50, 180, 0, 79, 96, 60, 132, 2, 1, 167, 255, 217]
abbrev dktX1_allWear_1 : List UInt8 := dkwX1_allWear_1 ++ dktX1_allWear_2
def dkwX1_allWear_0 : List UInt8 := [3, 60, 3, 61, 28, 42, 180, 0, 56, 162, 0, 37, 27, 42, 180, 0, 31, 28, 50, 180, 0, 71]
abbrev dktX1_allWear_0 : List UInt8 := dkwX1_allWear_0 ++ dktX1_allWear_1
theorem dksX1_allWear_0 : cX1_allWear.data.toList.drop 0 = dktX1_allWear_0 := by decide +kernel
theorem dksX1_allWear_1 : cX1_allWear.data.toList.drop 22 = dktX1_allWear_1 := dk_seg dksX1_allWear_0 22 rfl rfl
theorem dksX1_allWear_2 : cX1_allWear.data.toList.drop 46 = dktX1_allWear_2 := dk_seg dksX1_allWear_1 24 rfl rfl
theorem dX1_allWear_0 : decode cX1_allWear 0 = .ok (.iconst 0, 1) := dk_3 (dk_at dksX1_allWear_0 0 rfl rfl)
theorem dX1_allWear_1 : decode cX1_allWear 1 = .ok (.istore_n 1, 1) := dk_60 (dk_at dksX1_allWear_0 1 rfl rfl)
theorem dX1_allWear_2 : decode cX1_allWear 2 = .ok (.iconst 0, 1) := dk_3 (dk_at dksX1_allWear_0 2 rfl rfl)
theorem dX1_allWear_3 : decode cX1_allWear 3 = .ok (.istore_n 2, 1) := dk_61 (dk_at dksX1_allWear_0 3 rfl rfl)
theorem dX1_allWear_4 : decode cX1_allWear 4 = .ok (.iload_n 2, 1) := dk_28 (dk_at dksX1_allWear_0 4 rfl rfl)
theorem dX1_allWear_5 : decode cX1_allWear 5 = .ok (.aload_n 0, 1) := dk_42 (dk_at dksX1_allWear_0 5 rfl rfl)
theorem dX1_allWear_6 : decode cX1_allWear 6 = .ok (.getfield 56, 3) := dk_180 0 56 (dk_at dksX1_allWear_0 6 rfl rfl)
theorem dX1_allWear_9 : decode cX1_allWear 9 = .ok (.if_icmp .ge 37, 3) := dk_162 0 37 (dk_at dksX1_allWear_0 9 rfl rfl)
theorem dX1_allWear_12 : decode cX1_allWear 12 = .ok (.iload_n 1, 1) := dk_27 (dk_at dksX1_allWear_0 12 rfl rfl)
theorem dX1_allWear_13 : decode cX1_allWear 13 = .ok (.aload_n 0, 1) := dk_42 (dk_at dksX1_allWear_0 13 rfl rfl)
theorem dX1_allWear_14 : decode cX1_allWear 14 = .ok (.getfield 31, 3) := dk_180 0 31 (dk_at dksX1_allWear_0 14 rfl rfl)
theorem dX1_allWear_17 : decode cX1_allWear 17 = .ok (.iload_n 2, 1) := dk_28 (dk_at dksX1_allWear_0 17 rfl rfl)
theorem dX1_allWear_18 : decode cX1_allWear 18 = .ok (.aaload, 1) := dk_50 (dk_at dksX1_allWear_0 18 rfl rfl)
theorem dX1_allWear_19 : decode cX1_allWear 19 = .ok (.getfield 71, 3) := dk_180 0 71 (dk_at dksX1_allWear_0 19 rfl rfl)
theorem dX1_allWear_22 : decode cX1_allWear 22 = .ok (.ifCond .eq 7, 3) := dk_153 0 7 (dk_at dksX1_allWear_1 0 rfl rfl)
theorem dX1_allWear_25 : decode cX1_allWear 25 = .ok (.iconst 0, 1) := dk_3 (dk_at dksX1_allWear_1 3 rfl rfl)
theorem dX1_allWear_26 : decode cX1_allWear 26 = .ok (.goto 12, 3) := dk_167 0 12 (dk_at dksX1_allWear_1 4 rfl rfl)
theorem dX1_allWear_29 : decode cX1_allWear 29 = .ok (.aload_n 0, 1) := dk_42 (dk_at dksX1_allWear_1 7 rfl rfl)
theorem dX1_allWear_30 : decode cX1_allWear 30 = .ok (.getfield 31, 3) := dk_180 0 31 (dk_at dksX1_allWear_1 8 rfl rfl)
theorem dX1_allWear_33 : decode cX1_allWear 33 = .ok (.iload_n 2, 1) := dk_28 (dk_at dksX1_allWear_1 11 rfl rfl)
theorem dX1_allWear_34 : decode cX1_allWear 34 = .ok (.aaload, 1) := dk_50 (dk_at dksX1_allWear_1 12 rfl rfl)
theorem dX1_allWear_35 : decode cX1_allWear 35 = .ok (.getfield 79, 3) := dk_180 0 79 (dk_at dksX1_allWear_1 13 rfl rfl)
theorem dX1_allWear_38 : decode cX1_allWear 38 = .ok (.iadd, 1) := dk_96 (dk_at dksX1_allWear_1 16 rfl rfl)
theorem dX1_allWear_39 : decode cX1_allWear 39 = .ok (.istore_n 1, 1) := dk_60 (dk_at dksX1_allWear_1 17 rfl rfl)
theorem dX1_allWear_40 : decode cX1_allWear 40 = .ok (.iinc 2 1, 3) := dk_132 2 1 (dk_at dksX1_allWear_1 18 rfl rfl)
theorem dX1_allWear_43 : decode cX1_allWear 43 = .ok (.goto (-39), 3) := dk_167 255 217 (dk_at dksX1_allWear_1 21 rfl rfl)
theorem dX1_allWear_46 : decode cX1_allWear 46 = .ok (.iload_n 1, 1) := dk_27 (dk_at dksX1_allWear_2 0 rfl rfl)
theorem dX1_allWear_47 : decode cX1_allWear 47 = .ok (.ireturn, 1) := dk_172 (dk_at dksX1_allWear_2 1 rfl rfl)
theorem q73 : (Jvm.Cond.initialized "TwoGuilds$Table") ∈ lw_all := lw_g (lw_at lw_m1 2 rfl) rfl
theorem q114 : (Jvm.Cond.instantiable "TwoGuilds$Table" (11 : Nat)) ∈ lw_all := lw_g (lw_at lw_m1 43 rfl) rfl
theorem q116 : (Jvm.Cond.instanceMethod ({ cls := "TwoGuilds$Table", name := "<init>", desc := "(LTwoGuilds;)V" } : Jvm.MethodName)) ∈ lw_all := lw_g (lw_at lw_m1 45 rfl) rfl
theorem q117 : (Jvm.Cond.code ({ cls := "TwoGuilds$Table", name := "<init>", desc := "(LTwoGuilds;)V" } : Jvm.MethodName) prog_15_method_1_code (2 : Nat) (Option.none : Option Jvm.ClassFile.FieldType)) ∈ lw_all := lw_g (lw_at lw_m1 46 rfl) rfl
theorem q118 : (Jvm.Cond.methodLink "TwoGuilds$Table" (9 : Nat) ({ cls := "java/lang/Object", name := "<init>", desc := "()V" } : Jvm.MethodName)) ∈ lw_all := lw_g (lw_at lw_m1 47 rfl) rfl
theorem q119 : (Jvm.Cond.classLink "TwoGuilds$Table" (29 : Nat) "TwoGuilds$Glove") ∈ lw_all := lw_g (lw_at lw_m1 48 rfl) rfl
theorem q121 : (Jvm.Cond.classLink "TwoGuilds$Table" (35 : Nat) "TwoGuilds$Text") ∈ lw_all := lw_g (lw_at lw_m1 50 rfl) rfl
theorem q123 : (Jvm.Cond.fieldLink "TwoGuilds$Table" (56 : Nat) "TwoGuilds$Table" "gloveN" "I") ∈ lw_all := lw_g (lw_at lw_m1 52 rfl) rfl
theorem q125 : (Jvm.Cond.fieldLink "TwoGuilds$Table" (41 : Nat) "TwoGuilds$Table" "textN" "I") ∈ lw_all := lw_g (lw_at lw_m1 54 rfl) rfl
theorem q127 : (Jvm.Cond.fieldLink "TwoGuilds$Table" (44 : Nat) "TwoGuilds$Table" "wornN" "I") ∈ lw_all := lw_g (lw_at lw_m1 56 rfl) rfl
theorem q129 : (Jvm.Cond.fieldLink "TwoGuilds$Table" (47 : Nat) "TwoGuilds$Table" "day" "I") ∈ lw_all := lw_g (lw_at lw_m1 58 rfl) rfl
theorem q131 : (Jvm.Cond.fieldLink "TwoGuilds$Table" (15 : Nat) "TwoGuilds$Table" "loss" "I") ∈ lw_all := lw_g (lw_at lw_m1 60 rfl) rfl
theorem q133 : (Jvm.Cond.fieldLink "TwoGuilds$Table" (19 : Nat) "TwoGuilds$Table" "z" "I") ∈ lw_all := lw_g (lw_at lw_m1 62 rfl) rfl
theorem q135 : (Jvm.Cond.fieldLink "TwoGuilds$Table" (22 : Nat) "TwoGuilds$Table" "wornLeft" "[I") ∈ lw_all := lw_g (lw_at lw_m1 64 rfl) rfl
theorem q137 : (Jvm.Cond.fieldLink "TwoGuilds$Table" (26 : Nat) "TwoGuilds$Table" "wornRight" "[I") ∈ lw_all := lw_g (lw_at lw_m1 66 rfl) rfl
theorem q139 : (Jvm.Cond.fieldLink "TwoGuilds$Table" (31 : Nat) "TwoGuilds$Table" "gloves" "[LTwoGuilds$Glove;") ∈ lw_all := lw_g (lw_at lw_m1 68 rfl) rfl
theorem q141 : (Jvm.Cond.fieldLink "TwoGuilds$Table" (37 : Nat) "TwoGuilds$Table" "texts" "[LTwoGuilds$Text;") ∈ lw_all := lw_g (lw_at lw_m1 70 rfl) rfl
theorem q143 : (Jvm.Cond.fieldLink "TwoGuilds$Table" (3 : Nat) "TwoGuilds$Table" "this$0" "LTwoGuilds;") ∈ lw_all := lw_g (lw_at lw_m1 72 rfl) rfl
theorem q144 : (Jvm.Cond.lays "TwoGuilds$Table" "TwoGuilds$Table" "gloveN" "I") ∈ lw_all := lw_g (lw_at lw_m1 73 rfl) rfl
theorem q145 : (Jvm.Cond.soleField "TwoGuilds$Table" "gloveN") ∈ lw_all := lw_g (lw_at lw_m1 74 rfl) rfl
theorem q146 : (Jvm.Cond.lays "TwoGuilds$Table" "TwoGuilds$Table" "textN" "I") ∈ lw_all := lw_g (lw_at lw_m1 75 rfl) rfl
theorem q147 : (Jvm.Cond.soleField "TwoGuilds$Table" "textN") ∈ lw_all := lw_g (lw_at lw_m1 76 rfl) rfl
theorem q148 : (Jvm.Cond.lays "TwoGuilds$Table" "TwoGuilds$Table" "wornN" "I") ∈ lw_all := lw_g (lw_at lw_m1 77 rfl) rfl
theorem q149 : (Jvm.Cond.soleField "TwoGuilds$Table" "wornN") ∈ lw_all := lw_g (lw_at lw_m1 78 rfl) rfl
theorem q150 : (Jvm.Cond.lays "TwoGuilds$Table" "TwoGuilds$Table" "day" "I") ∈ lw_all := lw_g (lw_at lw_m1 79 rfl) rfl
theorem q151 : (Jvm.Cond.soleField "TwoGuilds$Table" "day") ∈ lw_all := lw_g (lw_at lw_m1 80 rfl) rfl
theorem q152 : (Jvm.Cond.lays "TwoGuilds$Table" "TwoGuilds$Table" "loss" "I") ∈ lw_all := lw_g (lw_at lw_m1 81 rfl) rfl
theorem q153 : (Jvm.Cond.soleField "TwoGuilds$Table" "loss") ∈ lw_all := lw_g (lw_at lw_m1 82 rfl) rfl
theorem q154 : (Jvm.Cond.lays "TwoGuilds$Table" "TwoGuilds$Table" "z" "I") ∈ lw_all := lw_g (lw_at lw_m1 83 rfl) rfl
theorem q155 : (Jvm.Cond.soleField "TwoGuilds$Table" "z") ∈ lw_all := lw_g (lw_at lw_m1 84 rfl) rfl
theorem q156 : (Jvm.Cond.laysFinal "TwoGuilds$Table" "TwoGuilds$Table" "wornLeft" "[I") ∈ lw_all := lw_g (lw_at lw_m1 85 rfl) rfl
theorem q157 : (Jvm.Cond.soleField "TwoGuilds$Table" "wornLeft") ∈ lw_all := lw_g (lw_at lw_m1 86 rfl) rfl
theorem q158 : (Jvm.Cond.laysFinal "TwoGuilds$Table" "TwoGuilds$Table" "wornRight" "[I") ∈ lw_all := lw_g (lw_at lw_m1 87 rfl) rfl
theorem q159 : (Jvm.Cond.soleField "TwoGuilds$Table" "wornRight") ∈ lw_all := lw_g (lw_at lw_m1 88 rfl) rfl
theorem q160 : (Jvm.Cond.laysFinal "TwoGuilds$Table" "TwoGuilds$Table" "gloves" "[LTwoGuilds$Glove;") ∈ lw_all := lw_g (lw_at lw_m1 89 rfl) rfl
theorem q161 : (Jvm.Cond.soleField "TwoGuilds$Table" "gloves") ∈ lw_all := lw_g (lw_at lw_m1 90 rfl) rfl
theorem q162 : (Jvm.Cond.laysFinal "TwoGuilds$Table" "TwoGuilds$Table" "texts" "[LTwoGuilds$Text;") ∈ lw_all := lw_g (lw_at lw_m1 91 rfl) rfl
theorem q163 : (Jvm.Cond.soleField "TwoGuilds$Table" "texts") ∈ lw_all := lw_g (lw_at lw_m1 92 rfl) rfl
theorem q164 : (Jvm.Cond.laysFinal "TwoGuilds$Table" "TwoGuilds$Table" "this$0" "LTwoGuilds;") ∈ lw_all := lw_g (lw_at lw_m1 93 rfl) rfl
theorem q165 : (Jvm.Cond.soleField "TwoGuilds$Table" "this$0") ∈ lw_all := lw_g (lw_at lw_m1 94 rfl) rfl
theorem q166 : (Jvm.Cond.superclass "TwoGuilds$Table" "java/lang/Object") ∈ lw_all := lw_g (lw_at lw_m1 95 rfl) rfl
theorem q306 : (Jvm.Cond.fieldLink "TwoGuilds$Table" (79 : Nat) "TwoGuilds$Glove" "wear" "I") ∈ lw_all := lw_g (lw_at lw_m1 235 rfl) rfl
theorem q309 : (Jvm.Cond.fieldLink "TwoGuilds$Table" (71 : Nat) "TwoGuilds$Glove" "isLost" "Z") ∈ lw_all := lw_g (lw_at lw_m1 238 rfl) rfl
theorem q747 : (Jvm.Cond.instanceMethod ({ cls := "TwoGuilds$Table", name := "drawn", desc := "()I" } : Jvm.MethodName)) ∈ lw_all := lw_g (lw_at lw_m3 196 rfl) rfl
theorem q748 : (Jvm.Cond.selects "TwoGuilds$Table" ({ cls := "TwoGuilds$Table", name := "drawn", desc := "()I" } : Jvm.MethodName) ({ cls := "TwoGuilds$Table", name := "drawn", desc := "()I" } : Jvm.MethodName)) ∈ lw_all := lw_g (lw_at lw_m3 197 rfl) rfl
theorem q749 : (Jvm.Cond.code ({ cls := "TwoGuilds$Table", name := "drawn", desc := "()I" } : Jvm.MethodName) prog_15_method_3_code (1 : Nat) (Option.some Jvm.ClassFile.FieldType.int)) ∈ lw_all := lw_g (lw_at lw_m3 198 rfl) rfl
theorem q750 : (Jvm.Cond.constant "TwoGuilds$Table" (70 : Nat) (1103515245 : Int32)) ∈ lw_all := lw_g (lw_at lw_m3 199 rfl) rfl
theorem q760 : (Jvm.Cond.instanceMethod ({ cls := "TwoGuilds$Table", name := "all", desc := "()I" } : Jvm.MethodName)) ∈ lw_all := lw_g (lw_at lw_m3 209 rfl) rfl
theorem q761 : (Jvm.Cond.selects "TwoGuilds$Table" ({ cls := "TwoGuilds$Table", name := "all", desc := "()I" } : Jvm.MethodName) ({ cls := "TwoGuilds$Table", name := "all", desc := "()I" } : Jvm.MethodName)) ∈ lw_all := lw_g (lw_at lw_m3 210 rfl) rfl
theorem q762 : (Jvm.Cond.code ({ cls := "TwoGuilds$Table", name := "all", desc := "()I" } : Jvm.MethodName) prog_15_method_6_code (1 : Nat) (Option.some Jvm.ClassFile.FieldType.int)) ∈ lw_all := lw_g (lw_at lw_m3 211 rfl) rfl
theorem q825 : (Jvm.Cond.instanceMethod ({ cls := "TwoGuilds$Table", name := "lost", desc := "()I" } : Jvm.MethodName)) ∈ lw_all := lw_g (lw_at lw_m4 34 rfl) rfl
theorem q826 : (Jvm.Cond.selects "TwoGuilds$Table" ({ cls := "TwoGuilds$Table", name := "lost", desc := "()I" } : Jvm.MethodName) ({ cls := "TwoGuilds$Table", name := "lost", desc := "()I" } : Jvm.MethodName)) ∈ lw_all := lw_g (lw_at lw_m4 35 rfl) rfl
theorem q827 : (Jvm.Cond.code ({ cls := "TwoGuilds$Table", name := "lost", desc := "()I" } : Jvm.MethodName) prog_15_method_4_code (3 : Nat) (Option.some Jvm.ClassFile.FieldType.int)) ∈ lw_all := lw_g (lw_at lw_m4 36 rfl) rfl
theorem q828 : (Jvm.Cond.methodLinkNest "TwoGuilds$Table" (75 : Nat) ({ cls := "TwoGuilds", name := "asBit", desc := "(Z)I" } : Jvm.MethodName) "TwoGuilds") ∈ lw_tbl := lw_at lw_m4 37 rfl
theorem q830 : (Jvm.Cond.instanceMethod ({ cls := "TwoGuilds$Table", name := "goesOn", desc := "(I)V" } : Jvm.MethodName)) ∈ lw_all := lw_g (lw_at lw_m4 39 rfl) rfl
theorem q831 : (Jvm.Cond.selects "TwoGuilds$Table" ({ cls := "TwoGuilds$Table", name := "goesOn", desc := "(I)V" } : Jvm.MethodName) ({ cls := "TwoGuilds$Table", name := "goesOn", desc := "(I)V" } : Jvm.MethodName)) ∈ lw_all := lw_g (lw_at lw_m4 40 rfl) rfl
theorem q832 : (Jvm.Cond.code ({ cls := "TwoGuilds$Table", name := "goesOn", desc := "(I)V" } : Jvm.MethodName) prog_15_method_7_code (4 : Nat) (Option.none : Option Jvm.ClassFile.FieldType)) ∈ lw_all := lw_g (lw_at lw_m4 41 rfl) rfl
theorem q833 : (Jvm.Cond.methodLink "TwoGuilds$Table" (82 : Nat) ({ cls := "TwoGuilds$Table", name := "drawn", desc := "()I" } : Jvm.MethodName)) ∈ lw_all := lw_g (lw_at lw_m4 42 rfl) rfl
theorem q834 : (Jvm.Cond.methodLink "TwoGuilds$Table" (85 : Nat) ({ cls := "TwoGuilds$Glove", name := "wears", desc := "(I)I" } : Jvm.MethodName)) ∈ lw_all := lw_g (lw_at lw_m4 43 rfl) rfl
theorem q846 : (Jvm.Cond.methodLink "TwoGuilds$Table" (89 : Nat) ({ cls := "java/lang/Math", name := "min", desc := "(II)I" } : Jvm.MethodName)) ∈ lw_all := lw_g (lw_at lw_m4 55 rfl) rfl
theorem q857 : (Jvm.Cond.instanceMethod ({ cls := "TwoGuilds$Table", name := "become", desc := "(LTwoGuilds$Table;)V" } : Jvm.MethodName)) ∈ lw_all := lw_g (lw_at lw_m4 66 rfl) rfl
theorem q858 : (Jvm.Cond.selects "TwoGuilds$Table" ({ cls := "TwoGuilds$Table", name := "become", desc := "(LTwoGuilds$Table;)V" } : Jvm.MethodName) ({ cls := "TwoGuilds$Table", name := "become", desc := "(LTwoGuilds$Table;)V" } : Jvm.MethodName)) ∈ lw_all := lw_g (lw_at lw_m4 67 rfl) rfl
theorem q859 : (Jvm.Cond.code ({ cls := "TwoGuilds$Table", name := "become", desc := "(LTwoGuilds$Table;)V" } : Jvm.MethodName) prog_15_method_2_code (4 : Nat) (Option.none : Option Jvm.ClassFile.FieldType)) ∈ lw_all := lw_g (lw_at lw_m4 68 rfl) rfl
theorem q860 : (Jvm.Cond.methodLink "TwoGuilds$Table" (50 : Nat) ({ cls := "java/lang/System", name := "arraycopy", desc := "(Ljava/lang/Object;ILjava/lang/Object;II)V" } : Jvm.MethodName)) ∈ lw_all := lw_g (lw_at lw_m4 69 rfl) rfl
theorem q863 : (Jvm.Cond.methodLink "TwoGuilds$Table" (59 : Nat) ({ cls := "TwoGuilds$Glove", name := "kind", desc := "()I" } : Jvm.MethodName)) ∈ lw_all := lw_g (lw_at lw_m4 72 rfl) rfl
theorem q864 : (Jvm.Cond.methodLink "TwoGuilds$Table" (63 : Nat) ({ cls := "TwoGuilds$Glove", name := "like", desc := "(LTwoGuilds$Glove;)LTwoGuilds$Glove;" } : Jvm.MethodName)) ∈ lw_all := lw_g (lw_at lw_m4 73 rfl) rfl
theorem q865 : (Jvm.Cond.methodLinkNest "TwoGuilds$Table" (67 : Nat) ({ cls := "TwoGuilds", name := "anew", desc := "(LTwoGuilds$Glove;)LTwoGuilds$Glove;" } : Jvm.MethodName) "TwoGuilds") ∈ lw_tbl := lw_at lw_m4 74 rfl
theorem q870 : (Jvm.Cond.instanceMethod ({ cls := "TwoGuilds$Table", name := "goesOn", desc := "(II)V" } : Jvm.MethodName)) ∈ lw_all := lw_g (lw_at lw_m4 79 rfl) rfl
theorem q871 : (Jvm.Cond.selects "TwoGuilds$Table" ({ cls := "TwoGuilds$Table", name := "goesOn", desc := "(II)V" } : Jvm.MethodName) ({ cls := "TwoGuilds$Table", name := "goesOn", desc := "(II)V" } : Jvm.MethodName)) ∈ lw_all := lw_g (lw_at lw_m4 80 rfl) rfl
theorem q872 : (Jvm.Cond.code ({ cls := "TwoGuilds$Table", name := "goesOn", desc := "(II)V" } : Jvm.MethodName) prog_15_method_8_code (4 : Nat) (Option.none : Option Jvm.ClassFile.FieldType)) ∈ lw_all := lw_g (lw_at lw_m4 81 rfl) rfl
theorem q873 : (Jvm.Cond.methodLink "TwoGuilds$Table" (95 : Nat) ({ cls := "TwoGuilds$Table", name := "goesOn", desc := "(I)V" } : Jvm.MethodName)) ∈ lw_all := lw_g (lw_at lw_m4 82 rfl) rfl
theorem q876 : (Jvm.Cond.instanceMethod ({ cls := "TwoGuilds$Table", name := "allWear", desc := "()I" } : Jvm.MethodName)) ∈ lw_all := lw_g (lw_at lw_m4 85 rfl) rfl
theorem q877 : (Jvm.Cond.selects "TwoGuilds$Table" ({ cls := "TwoGuilds$Table", name := "allWear", desc := "()I" } : Jvm.MethodName) ({ cls := "TwoGuilds$Table", name := "allWear", desc := "()I" } : Jvm.MethodName)) ∈ lw_all := lw_g (lw_at lw_m4 86 rfl) rfl
theorem q878 : (Jvm.Cond.code ({ cls := "TwoGuilds$Table", name := "allWear", desc := "()I" } : Jvm.MethodName) prog_15_method_5_code (3 : Nat) (Option.some Jvm.ClassFile.FieldType.int)) ∈ lw_all := lw_g (lw_at lw_m4 87 rfl) rfl
theorem in_X1 : ∀ w ∈ wsX10, w ∈ lw_all := lw_in wsX10 [144, 146, 148, 150, 152, 154, 156, 158, 160, 162, 164] (by decide +kernel) (by decide +kernel)

/-! TwoGuilds$Holder -/
set_option maxRecDepth 100000
def RX2 : String := "TwoGuilds$Holder"
def TX2 : u_T := fun k => match k with
  | _ => ("TwoGuilds$Holder", "held", "Ljava/lang/Object;", false)
def tyX2 : Nat → FieldType := fun k => match k with
  | _ => .object "java/lang/Object"
abbrev wsX20 : List Cond := u_ws RX2 TX2 1
theorem nmX2 : ∀ a, a < 1 → ∀ b, b < 1 → a ≠ b → (TX2 a).2.1 ≠ (TX2 b).2.1 := by decide +kernel
theorem tyX2_ok : ∀ k, k < 1 → parseFieldDescriptor (TX2 k).2.2.1 = some (tyX2 k) := by decide +kernel
abbrev cX2_init : ByteArray := prog_8_method_1_code
def yX2_init : MethodName := ⟨RX2, "<init>", "()V"⟩
theorem dX2_init_0 : decode cX2_init 0 = .ok (.aload_n 0, 1) := by decide +kernel
theorem dX2_init_1 : decode cX2_init 1 = .ok (.invokespecial 1, 3) := by decide +kernel
theorem dX2_init_4 : decode cX2_init 4 = .ok (.return_, 1) := by decide +kernel
theorem q74 : (Jvm.Cond.initialized "TwoGuilds$Holder") ∈ lw_all := lw_g (lw_at lw_m1 3 rfl) rfl
theorem q170 : (Jvm.Cond.instantiable "TwoGuilds$Holder" (1 : Nat)) ∈ lw_all := lw_g (lw_at lw_m1 99 rfl) rfl
theorem q172 : (Jvm.Cond.instanceMethod ({ cls := "TwoGuilds$Holder", name := "<init>", desc := "()V" } : Jvm.MethodName)) ∈ lw_all := lw_g (lw_at lw_m1 101 rfl) rfl
theorem q173 : (Jvm.Cond.code ({ cls := "TwoGuilds$Holder", name := "<init>", desc := "()V" } : Jvm.MethodName) prog_8_method_1_code (1 : Nat) (Option.none : Option Jvm.ClassFile.FieldType)) ∈ lw_all := lw_g (lw_at lw_m1 102 rfl) rfl
theorem q174 : (Jvm.Cond.methodLink "TwoGuilds$Holder" (1 : Nat) ({ cls := "java/lang/Object", name := "<init>", desc := "()V" } : Jvm.MethodName)) ∈ lw_all := lw_g (lw_at lw_m1 103 rfl) rfl
theorem q176 : (Jvm.Cond.lays "TwoGuilds$Holder" "TwoGuilds$Holder" "held" "Ljava/lang/Object;") ∈ lw_all := lw_g (lw_at lw_m1 105 rfl) rfl
theorem q177 : (Jvm.Cond.soleField "TwoGuilds$Holder" "held") ∈ lw_all := lw_g (lw_at lw_m1 106 rfl) rfl
theorem q178 : (Jvm.Cond.superclass "TwoGuilds$Holder" "java/lang/Object") ∈ lw_all := lw_g (lw_at lw_m1 107 rfl) rfl
theorem in_X2 : ∀ w ∈ wsX20, w ∈ lw_all := lw_in wsX20 [176] (by decide +kernel) (by decide +kernel)

/-! TwoGuilds$Glove -/
set_option maxRecDepth 100000
def RX4 : String := "TwoGuilds$Glove"
def TX4 : u_T := fun k => match k with
  | 0 => ("TwoGuilds$Glove", "side", "I", false)
  | 1 => ("TwoGuilds$Glove", "size", "I", false)
  | 2 => ("TwoGuilds$Glove", "price", "I", false)
  | 3 => ("TwoGuilds$Glove", "wear", "I", false)
  | 4 => ("TwoGuilds$Glove", "isLost", "Z", false)
  | _ => ("TwoGuilds$Glove", "this$0", "LTwoGuilds;", true)
def tyX4 : Nat → FieldType := fun k => match k with
  | 0 => .int
  | 1 => .int
  | 2 => .int
  | 3 => .int
  | 4 => .boolean
  | _ => .object "TwoGuilds"
abbrev wsX40 : List Cond := u_ws RX4 TX4 6
theorem nmX4 : ∀ a, a < 6 → ∀ b, b < 6 → a ≠ b → (TX4 a).2.1 ≠ (TX4 b).2.1 := by decide +kernel
theorem tyX4_ok : ∀ k, k < 6 → parseFieldDescriptor (TX4 k).2.2.1 = some (tyX4 k) := by decide +kernel
abbrev cX4_init : ByteArray := prog_7_method_1_code
def yX4_init : MethodName := ⟨RX4, "<init>", "(LTwoGuilds;)V"⟩
def dkwX4_init_0 : List UInt8 := [42, 43, 181, 0, 3, 42, 183, 0, 9, 177]
abbrev dktX4_init_0 : List UInt8 := dkwX4_init_0 ++ []
theorem dksX4_init_0 : cX4_init.data.toList.drop 0 = dktX4_init_0 := by decide +kernel
theorem dX4_init_0 : decode cX4_init 0 = .ok (.aload_n 0, 1) := dk_42 (dk_at dksX4_init_0 0 rfl rfl)
theorem dX4_init_1 : decode cX4_init 1 = .ok (.aload_n 1, 1) := dk_43 (dk_at dksX4_init_0 1 rfl rfl)
theorem dX4_init_2 : decode cX4_init 2 = .ok (.putfield 3, 3) := dk_181 0 3 (dk_at dksX4_init_0 2 rfl rfl)
theorem dX4_init_5 : decode cX4_init 5 = .ok (.aload_n 0, 1) := dk_42 (dk_at dksX4_init_0 5 rfl rfl)
theorem dX4_init_6 : decode cX4_init 6 = .ok (.invokespecial 9, 3) := dk_183 0 9 (dk_at dksX4_init_0 6 rfl rfl)
theorem dX4_init_9 : decode cX4_init 9 = .ok (.return_, 1) := dk_177 (dk_at dksX4_init_0 9 rfl rfl)
abbrev cX4_kind : ByteArray := prog_7_method_2_code
def yX4_kind : MethodName := ⟨RX4, "kind", "()I"⟩
theorem dX4_kind_0 : decode cX4_kind 0 = .ok (.iconst 0, 1) := by decide +kernel
theorem dX4_kind_1 : decode cX4_kind 1 = .ok (.ireturn, 1) := by decide +kernel
abbrev cX4_worth : ByteArray := prog_7_method_6_code
def yX4_worth : MethodName := ⟨RX4, "worth", "()I"⟩
theorem dX4_worth_0 : decode cX4_worth 0 = .ok (.aload_n 0, 1) := by decide +kernel
theorem dX4_worth_1 : decode cX4_worth 1 = .ok (.getfield 22, 3) := by decide +kernel
theorem dX4_worth_4 : decode cX4_worth 4 = .ok (.ireturn, 1) := by decide +kernel
abbrev cX4_like : ByteArray := prog_7_method_3_code
def yX4_like : MethodName := ⟨RX4, "like", "(LTwoGuilds$Glove;)LTwoGuilds$Glove;"⟩
def dkwX4_like_1 : List UInt8 := [42, 43, 180, 0, 25, 181, 0, 25, 42, 43, 180, 0, 28, 181, 0, 28, 42, 176]
abbrev dktX4_like_1 : List UInt8 := dkwX4_like_1 ++ []
def dkwX4_like_0 : List UInt8 := [42, 43, 180, 0, 15, 181, 0, 15, 42, 43, 180, 0, 19, 181, 0, 19, 42, 43, 180, 0, 22, 181, 0, 22]
abbrev dktX4_like_0 : List UInt8 := dkwX4_like_0 ++ dktX4_like_1
theorem dksX4_like_0 : cX4_like.data.toList.drop 0 = dktX4_like_0 := by decide +kernel
theorem dksX4_like_1 : cX4_like.data.toList.drop 24 = dktX4_like_1 := dk_seg dksX4_like_0 24 rfl rfl
theorem dX4_like_0 : decode cX4_like 0 = .ok (.aload_n 0, 1) := dk_42 (dk_at dksX4_like_0 0 rfl rfl)
theorem dX4_like_1 : decode cX4_like 1 = .ok (.aload_n 1, 1) := dk_43 (dk_at dksX4_like_0 1 rfl rfl)
theorem dX4_like_2 : decode cX4_like 2 = .ok (.getfield 15, 3) := dk_180 0 15 (dk_at dksX4_like_0 2 rfl rfl)
theorem dX4_like_5 : decode cX4_like 5 = .ok (.putfield 15, 3) := dk_181 0 15 (dk_at dksX4_like_0 5 rfl rfl)
theorem dX4_like_8 : decode cX4_like 8 = .ok (.aload_n 0, 1) := dk_42 (dk_at dksX4_like_0 8 rfl rfl)
theorem dX4_like_9 : decode cX4_like 9 = .ok (.aload_n 1, 1) := dk_43 (dk_at dksX4_like_0 9 rfl rfl)
theorem dX4_like_10 : decode cX4_like 10 = .ok (.getfield 19, 3) := dk_180 0 19 (dk_at dksX4_like_0 10 rfl rfl)
theorem dX4_like_13 : decode cX4_like 13 = .ok (.putfield 19, 3) := dk_181 0 19 (dk_at dksX4_like_0 13 rfl rfl)
theorem dX4_like_16 : decode cX4_like 16 = .ok (.aload_n 0, 1) := dk_42 (dk_at dksX4_like_0 16 rfl rfl)
theorem dX4_like_17 : decode cX4_like 17 = .ok (.aload_n 1, 1) := dk_43 (dk_at dksX4_like_0 17 rfl rfl)
theorem dX4_like_18 : decode cX4_like 18 = .ok (.getfield 22, 3) := dk_180 0 22 (dk_at dksX4_like_0 18 rfl rfl)
theorem dX4_like_21 : decode cX4_like 21 = .ok (.putfield 22, 3) := dk_181 0 22 (dk_at dksX4_like_0 21 rfl rfl)
theorem dX4_like_24 : decode cX4_like 24 = .ok (.aload_n 0, 1) := dk_42 (dk_at dksX4_like_1 0 rfl rfl)
theorem dX4_like_25 : decode cX4_like 25 = .ok (.aload_n 1, 1) := dk_43 (dk_at dksX4_like_1 1 rfl rfl)
theorem dX4_like_26 : decode cX4_like 26 = .ok (.getfield 25, 3) := dk_180 0 25 (dk_at dksX4_like_1 2 rfl rfl)
theorem dX4_like_29 : decode cX4_like 29 = .ok (.putfield 25, 3) := dk_181 0 25 (dk_at dksX4_like_1 5 rfl rfl)
theorem dX4_like_32 : decode cX4_like 32 = .ok (.aload_n 0, 1) := dk_42 (dk_at dksX4_like_1 8 rfl rfl)
theorem dX4_like_33 : decode cX4_like 33 = .ok (.aload_n 1, 1) := dk_43 (dk_at dksX4_like_1 9 rfl rfl)
theorem dX4_like_34 : decode cX4_like 34 = .ok (.getfield 28, 3) := dk_180 0 28 (dk_at dksX4_like_1 10 rfl rfl)
theorem dX4_like_37 : decode cX4_like 37 = .ok (.putfield 28, 3) := dk_181 0 28 (dk_at dksX4_like_1 13 rfl rfl)
theorem dX4_like_40 : decode cX4_like 40 = .ok (.aload_n 0, 1) := dk_42 (dk_at dksX4_like_1 16 rfl rfl)
theorem dX4_like_41 : decode cX4_like 41 = .ok (.areturn, 1) := dk_176 (dk_at dksX4_like_1 17 rfl rfl)
abbrev cX4_turns : ByteArray := prog_7_method_5_code
def yX4_turns : MethodName := ⟨RX4, "turns", "()Z"⟩
theorem dX4_turns_0 : decode cX4_turns 0 = .ok (.iconst 0, 1) := by decide +kernel
theorem dX4_turns_1 : decode cX4_turns 1 = .ok (.ireturn, 1) := by decide +kernel
abbrev cX4_fits : ByteArray := prog_7_method_4_code
def yX4_fits : MethodName := ⟨RX4, "fits", "(LTwoGuilds$Glove;)Z"⟩
def dkwX4_fits_0 : List UInt8 := [42, 180, 0, 19, 43, 180, 0, 19, 160, 0, 7, 4, 167, 0, 4, 3, 172]
abbrev dktX4_fits_0 : List UInt8 := dkwX4_fits_0 ++ []
theorem dksX4_fits_0 : cX4_fits.data.toList.drop 0 = dktX4_fits_0 := by decide +kernel
theorem dX4_fits_0 : decode cX4_fits 0 = .ok (.aload_n 0, 1) := dk_42 (dk_at dksX4_fits_0 0 rfl rfl)
theorem dX4_fits_1 : decode cX4_fits 1 = .ok (.getfield 19, 3) := dk_180 0 19 (dk_at dksX4_fits_0 1 rfl rfl)
theorem dX4_fits_4 : decode cX4_fits 4 = .ok (.aload_n 1, 1) := dk_43 (dk_at dksX4_fits_0 4 rfl rfl)
theorem dX4_fits_5 : decode cX4_fits 5 = .ok (.getfield 19, 3) := dk_180 0 19 (dk_at dksX4_fits_0 5 rfl rfl)
theorem dX4_fits_8 : decode cX4_fits 8 = .ok (.if_icmp .ne 7, 3) := dk_160 0 7 (dk_at dksX4_fits_0 8 rfl rfl)
theorem dX4_fits_11 : decode cX4_fits 11 = .ok (.iconst 1, 1) := dk_4 (dk_at dksX4_fits_0 11 rfl rfl)
theorem dX4_fits_12 : decode cX4_fits 12 = .ok (.goto 4, 3) := dk_167 0 4 (dk_at dksX4_fits_0 12 rfl rfl)
theorem dX4_fits_15 : decode cX4_fits 15 = .ok (.iconst 0, 1) := dk_3 (dk_at dksX4_fits_0 15 rfl rfl)
theorem dX4_fits_16 : decode cX4_fits 16 = .ok (.ireturn, 1) := dk_172 (dk_at dksX4_fits_0 16 rfl rfl)
abbrev cX4_pairs : ByteArray := prog_7_method_7_code
def yX4_pairs : MethodName := ⟨RX4, "pairs", "(LTwoGuilds$Glove;)Z"⟩
def dkwX4_pairs_2 : List UInt8 := [182, 0, 36, 153, 0, 7, 4, 167, 0, 4, 3, 172]
abbrev dktX4_pairs_2 : List UInt8 := dkwX4_pairs_2 ++ []
def dkwX4_pairs_1 : List UInt8 := [180, 0, 15, 160, 0, 17, 42, 182, 0, 32, 154, 0, 10, 43, 182, 0, 32, 153, 0, 16, 42, 42, 43]
abbrev dktX4_pairs_1 : List UInt8 := dkwX4_pairs_1 ++ dktX4_pairs_2
def dkwX4_pairs_0 : List UInt8 := [43, 42, 165, 0, 55, 42, 180, 0, 28, 154, 0, 48, 43, 180, 0, 28, 154, 0, 41, 42, 180, 0, 15, 43]
abbrev dktX4_pairs_0 : List UInt8 := dkwX4_pairs_0 ++ dktX4_pairs_1
theorem dksX4_pairs_0 : cX4_pairs.data.toList.drop 0 = dktX4_pairs_0 := by decide +kernel
theorem dksX4_pairs_1 : cX4_pairs.data.toList.drop 24 = dktX4_pairs_1 := dk_seg dksX4_pairs_0 24 rfl rfl
theorem dksX4_pairs_2 : cX4_pairs.data.toList.drop 47 = dktX4_pairs_2 := dk_seg dksX4_pairs_1 23 rfl rfl
theorem dX4_pairs_0 : decode cX4_pairs 0 = .ok (.aload_n 1, 1) := dk_43 (dk_at dksX4_pairs_0 0 rfl rfl)
theorem dX4_pairs_1 : decode cX4_pairs 1 = .ok (.aload_n 0, 1) := dk_42 (dk_at dksX4_pairs_0 1 rfl rfl)
theorem dX4_pairs_2 : decode cX4_pairs 2 = .ok (.if_acmp .eq 55, 3) := dk_165 0 55 (dk_at dksX4_pairs_0 2 rfl rfl)
theorem dX4_pairs_5 : decode cX4_pairs 5 = .ok (.aload_n 0, 1) := dk_42 (dk_at dksX4_pairs_0 5 rfl rfl)
theorem dX4_pairs_6 : decode cX4_pairs 6 = .ok (.getfield 28, 3) := dk_180 0 28 (dk_at dksX4_pairs_0 6 rfl rfl)
theorem dX4_pairs_9 : decode cX4_pairs 9 = .ok (.ifCond .ne 48, 3) := dk_154 0 48 (dk_at dksX4_pairs_0 9 rfl rfl)
theorem dX4_pairs_12 : decode cX4_pairs 12 = .ok (.aload_n 1, 1) := dk_43 (dk_at dksX4_pairs_0 12 rfl rfl)
theorem dX4_pairs_13 : decode cX4_pairs 13 = .ok (.getfield 28, 3) := dk_180 0 28 (dk_at dksX4_pairs_0 13 rfl rfl)
theorem dX4_pairs_16 : decode cX4_pairs 16 = .ok (.ifCond .ne 41, 3) := dk_154 0 41 (dk_at dksX4_pairs_0 16 rfl rfl)
theorem dX4_pairs_19 : decode cX4_pairs 19 = .ok (.aload_n 0, 1) := dk_42 (dk_at dksX4_pairs_0 19 rfl rfl)
theorem dX4_pairs_20 : decode cX4_pairs 20 = .ok (.getfield 15, 3) := dk_180 0 15 (dk_at dksX4_pairs_0 20 rfl rfl)
theorem dX4_pairs_23 : decode cX4_pairs 23 = .ok (.aload_n 1, 1) := dk_43 (dk_at dksX4_pairs_0 23 rfl rfl)
theorem dX4_pairs_24 : decode cX4_pairs 24 = .ok (.getfield 15, 3) := dk_180 0 15 (dk_at dksX4_pairs_1 0 rfl rfl)
theorem dX4_pairs_27 : decode cX4_pairs 27 = .ok (.if_icmp .ne 17, 3) := dk_160 0 17 (dk_at dksX4_pairs_1 3 rfl rfl)
theorem dX4_pairs_30 : decode cX4_pairs 30 = .ok (.aload_n 0, 1) := dk_42 (dk_at dksX4_pairs_1 6 rfl rfl)
theorem dX4_pairs_31 : decode cX4_pairs 31 = .ok (.invokevirtual 32, 3) := dk_182 0 32 (dk_at dksX4_pairs_1 7 rfl rfl)
theorem dX4_pairs_34 : decode cX4_pairs 34 = .ok (.ifCond .ne 10, 3) := dk_154 0 10 (dk_at dksX4_pairs_1 10 rfl rfl)
theorem dX4_pairs_37 : decode cX4_pairs 37 = .ok (.aload_n 1, 1) := dk_43 (dk_at dksX4_pairs_1 13 rfl rfl)
theorem dX4_pairs_38 : decode cX4_pairs 38 = .ok (.invokevirtual 32, 3) := dk_182 0 32 (dk_at dksX4_pairs_1 14 rfl rfl)
theorem dX4_pairs_41 : decode cX4_pairs 41 = .ok (.ifCond .eq 16, 3) := dk_153 0 16 (dk_at dksX4_pairs_1 17 rfl rfl)
theorem dX4_pairs_44 : decode cX4_pairs 44 = .ok (.aload_n 0, 1) := dk_42 (dk_at dksX4_pairs_1 20 rfl rfl)
theorem dX4_pairs_45 : decode cX4_pairs 45 = .ok (.aload_n 0, 1) := dk_42 (dk_at dksX4_pairs_1 21 rfl rfl)
theorem dX4_pairs_46 : decode cX4_pairs 46 = .ok (.aload_n 1, 1) := dk_43 (dk_at dksX4_pairs_1 22 rfl rfl)
theorem dX4_pairs_47 : decode cX4_pairs 47 = .ok (.invokevirtual 36, 3) := dk_182 0 36 (dk_at dksX4_pairs_2 0 rfl rfl)
theorem dX4_pairs_50 : decode cX4_pairs 50 = .ok (.ifCond .eq 7, 3) := dk_153 0 7 (dk_at dksX4_pairs_2 3 rfl rfl)
theorem dX4_pairs_53 : decode cX4_pairs 53 = .ok (.iconst 1, 1) := dk_4 (dk_at dksX4_pairs_2 6 rfl rfl)
theorem dX4_pairs_54 : decode cX4_pairs 54 = .ok (.goto 4, 3) := dk_167 0 4 (dk_at dksX4_pairs_2 7 rfl rfl)
theorem dX4_pairs_57 : decode cX4_pairs 57 = .ok (.iconst 0, 1) := dk_3 (dk_at dksX4_pairs_2 10 rfl rfl)
theorem dX4_pairs_58 : decode cX4_pairs 58 = .ok (.ireturn, 1) := dk_172 (dk_at dksX4_pairs_2 11 rfl rfl)
abbrev cX4_wears : ByteArray := prog_7_method_8_code
def yX4_wears : MethodName := ⟨RX4, "wears", "(I)I"⟩
def dkwX4_wears_1 : List UInt8 := [79, 42, 180, 0, 3, 4, 27, 7, 108, 182, 0, 44, 3, 16, 20, 184, 0, 48, 172]
abbrev dktX4_wears_1 : List UInt8 := dkwX4_wears_1 ++ []
def dkwX4_wears_0 : List UInt8 := [42, 180, 0, 3, 180, 0, 40, 16, 120, 27, 79, 42, 180, 0, 3, 180, 0, 40, 16, 112, 42, 180, 0, 22]
abbrev dktX4_wears_0 : List UInt8 := dkwX4_wears_0 ++ dktX4_wears_1
theorem dksX4_wears_0 : cX4_wears.data.toList.drop 0 = dktX4_wears_0 := by decide +kernel
theorem dksX4_wears_1 : cX4_wears.data.toList.drop 24 = dktX4_wears_1 := dk_seg dksX4_wears_0 24 rfl rfl
theorem dX4_wears_0 : decode cX4_wears 0 = .ok (.aload_n 0, 1) := dk_42 (dk_at dksX4_wears_0 0 rfl rfl)
theorem dX4_wears_1 : decode cX4_wears 1 = .ok (.getfield 3, 3) := dk_180 0 3 (dk_at dksX4_wears_0 1 rfl rfl)
theorem dX4_wears_4 : decode cX4_wears 4 = .ok (.getfield 40, 3) := dk_180 0 40 (dk_at dksX4_wears_0 4 rfl rfl)
theorem dX4_wears_7 : decode cX4_wears 7 = .ok (.bipush 120, 2) := dk_16 120 (dk_at dksX4_wears_0 7 rfl rfl)
theorem dX4_wears_9 : decode cX4_wears 9 = .ok (.iload_n 1, 1) := dk_27 (dk_at dksX4_wears_0 9 rfl rfl)
theorem dX4_wears_10 : decode cX4_wears 10 = .ok (.iastore, 1) := dk_79 (dk_at dksX4_wears_0 10 rfl rfl)
theorem dX4_wears_11 : decode cX4_wears 11 = .ok (.aload_n 0, 1) := dk_42 (dk_at dksX4_wears_0 11 rfl rfl)
theorem dX4_wears_12 : decode cX4_wears 12 = .ok (.getfield 3, 3) := dk_180 0 3 (dk_at dksX4_wears_0 12 rfl rfl)
theorem dX4_wears_15 : decode cX4_wears 15 = .ok (.getfield 40, 3) := dk_180 0 40 (dk_at dksX4_wears_0 15 rfl rfl)
theorem dX4_wears_18 : decode cX4_wears 18 = .ok (.bipush 112, 2) := dk_16 112 (dk_at dksX4_wears_0 18 rfl rfl)
theorem dX4_wears_20 : decode cX4_wears 20 = .ok (.aload_n 0, 1) := dk_42 (dk_at dksX4_wears_0 20 rfl rfl)
theorem dX4_wears_21 : decode cX4_wears 21 = .ok (.getfield 22, 3) := dk_180 0 22 (dk_at dksX4_wears_0 21 rfl rfl)
theorem dX4_wears_24 : decode cX4_wears 24 = .ok (.iastore, 1) := dk_79 (dk_at dksX4_wears_1 0 rfl rfl)
theorem dX4_wears_25 : decode cX4_wears 25 = .ok (.aload_n 0, 1) := dk_42 (dk_at dksX4_wears_1 1 rfl rfl)
theorem dX4_wears_26 : decode cX4_wears 26 = .ok (.getfield 3, 3) := dk_180 0 3 (dk_at dksX4_wears_1 2 rfl rfl)
theorem dX4_wears_29 : decode cX4_wears 29 = .ok (.iconst 1, 1) := dk_4 (dk_at dksX4_wears_1 5 rfl rfl)
theorem dX4_wears_30 : decode cX4_wears 30 = .ok (.iload_n 1, 1) := dk_27 (dk_at dksX4_wears_1 6 rfl rfl)
theorem dX4_wears_31 : decode cX4_wears 31 = .ok (.iconst 4, 1) := dk_7 (dk_at dksX4_wears_1 7 rfl rfl)
theorem dX4_wears_32 : decode cX4_wears 32 = .ok (.idiv, 1) := dk_108 (dk_at dksX4_wears_1 8 rfl rfl)
theorem dX4_wears_33 : decode cX4_wears 33 = .ok (.invokevirtual 44, 3) := dk_182 0 44 (dk_at dksX4_wears_1 9 rfl rfl)
theorem dX4_wears_36 : decode cX4_wears 36 = .ok (.iconst 0, 1) := dk_3 (dk_at dksX4_wears_1 12 rfl rfl)
theorem dX4_wears_37 : decode cX4_wears 37 = .ok (.bipush 20, 2) := dk_16 20 (dk_at dksX4_wears_1 13 rfl rfl)
theorem dX4_wears_39 : decode cX4_wears 39 = .ok (.invokestatic 48, 3) := dk_184 0 48 (dk_at dksX4_wears_1 15 rfl rfl)
theorem dX4_wears_42 : decode cX4_wears 42 = .ok (.ireturn, 1) := dk_172 (dk_at dksX4_wears_1 18 rfl rfl)
theorem q76 : (Jvm.Cond.initialized "TwoGuilds$Glove") ∈ lw_all := lw_g (lw_at lw_m1 5 rfl) rfl
theorem q192 : (Jvm.Cond.fieldLinkNest "TwoGuilds$Glove" (40 : Nat) "TwoGuilds" "named" "[I" "TwoGuilds") ∈ lw_tbl := lw_at lw_m1 121 rfl
theorem q285 : (Jvm.Cond.instantiable "TwoGuilds$Glove" (6 : Nat)) ∈ lw_all := lw_g (lw_at lw_m1 214 rfl) rfl
theorem q287 : (Jvm.Cond.instanceMethod ({ cls := "TwoGuilds$Glove", name := "<init>", desc := "(LTwoGuilds;)V" } : Jvm.MethodName)) ∈ lw_all := lw_g (lw_at lw_m1 216 rfl) rfl
theorem q288 : (Jvm.Cond.code ({ cls := "TwoGuilds$Glove", name := "<init>", desc := "(LTwoGuilds;)V" } : Jvm.MethodName) prog_7_method_1_code (2 : Nat) (Option.none : Option Jvm.ClassFile.FieldType)) ∈ lw_all := lw_g (lw_at lw_m1 217 rfl) rfl
theorem q289 : (Jvm.Cond.methodLink "TwoGuilds$Glove" (9 : Nat) ({ cls := "java/lang/Object", name := "<init>", desc := "()V" } : Jvm.MethodName)) ∈ lw_all := lw_g (lw_at lw_m1 218 rfl) rfl
theorem q290 : (Jvm.Cond.fieldLink "TwoGuilds$Glove" (15 : Nat) "TwoGuilds$Glove" "side" "I") ∈ lw_all := lw_g (lw_at lw_m1 219 rfl) rfl
theorem q295 : (Jvm.Cond.fieldLink "TwoGuilds$Glove" (19 : Nat) "TwoGuilds$Glove" "size" "I") ∈ lw_all := lw_g (lw_at lw_m1 224 rfl) rfl
theorem q300 : (Jvm.Cond.fieldLink "TwoGuilds$Glove" (22 : Nat) "TwoGuilds$Glove" "price" "I") ∈ lw_all := lw_g (lw_at lw_m1 229 rfl) rfl
theorem q305 : (Jvm.Cond.fieldLink "TwoGuilds$Glove" (25 : Nat) "TwoGuilds$Glove" "wear" "I") ∈ lw_all := lw_g (lw_at lw_m1 234 rfl) rfl
theorem q308 : (Jvm.Cond.fieldLink "TwoGuilds$Glove" (28 : Nat) "TwoGuilds$Glove" "isLost" "Z") ∈ lw_all := lw_g (lw_at lw_m1 237 rfl) rfl
theorem q311 : (Jvm.Cond.fieldLink "TwoGuilds$Glove" (3 : Nat) "TwoGuilds$Glove" "this$0" "LTwoGuilds;") ∈ lw_all := lw_g (lw_at lw_m2 0 rfl) rfl
theorem q312 : (Jvm.Cond.lays "TwoGuilds$Glove" "TwoGuilds$Glove" "side" "I") ∈ lw_all := lw_g (lw_at lw_m2 1 rfl) rfl
theorem q313 : (Jvm.Cond.soleField "TwoGuilds$Glove" "side") ∈ lw_all := lw_g (lw_at lw_m2 2 rfl) rfl
theorem q314 : (Jvm.Cond.lays "TwoGuilds$Glove" "TwoGuilds$Glove" "size" "I") ∈ lw_all := lw_g (lw_at lw_m2 3 rfl) rfl
theorem q315 : (Jvm.Cond.soleField "TwoGuilds$Glove" "size") ∈ lw_all := lw_g (lw_at lw_m2 4 rfl) rfl
theorem q316 : (Jvm.Cond.lays "TwoGuilds$Glove" "TwoGuilds$Glove" "price" "I") ∈ lw_all := lw_g (lw_at lw_m2 5 rfl) rfl
theorem q317 : (Jvm.Cond.soleField "TwoGuilds$Glove" "price") ∈ lw_all := lw_g (lw_at lw_m2 6 rfl) rfl
theorem q318 : (Jvm.Cond.lays "TwoGuilds$Glove" "TwoGuilds$Glove" "wear" "I") ∈ lw_all := lw_g (lw_at lw_m2 7 rfl) rfl
theorem q319 : (Jvm.Cond.soleField "TwoGuilds$Glove" "wear") ∈ lw_all := lw_g (lw_at lw_m2 8 rfl) rfl
theorem q320 : (Jvm.Cond.lays "TwoGuilds$Glove" "TwoGuilds$Glove" "isLost" "Z") ∈ lw_all := lw_g (lw_at lw_m2 9 rfl) rfl
theorem q321 : (Jvm.Cond.soleField "TwoGuilds$Glove" "isLost") ∈ lw_all := lw_g (lw_at lw_m2 10 rfl) rfl
theorem q322 : (Jvm.Cond.laysFinal "TwoGuilds$Glove" "TwoGuilds$Glove" "this$0" "LTwoGuilds;") ∈ lw_all := lw_g (lw_at lw_m2 11 rfl) rfl
theorem q323 : (Jvm.Cond.soleField "TwoGuilds$Glove" "this$0") ∈ lw_all := lw_g (lw_at lw_m2 12 rfl) rfl
theorem q324 : (Jvm.Cond.superclass "TwoGuilds$Glove" "java/lang/Object") ∈ lw_all := lw_g (lw_at lw_m2 13 rfl) rfl
theorem q416 : (Jvm.Cond.instanceMethod ({ cls := "TwoGuilds$Glove", name := "kind", desc := "()I" } : Jvm.MethodName)) ∈ lw_all := lw_g (lw_at lw_m2 105 rfl) rfl
theorem q417 : (Jvm.Cond.selects "TwoGuilds$Glove" ({ cls := "TwoGuilds$Glove", name := "kind", desc := "()I" } : Jvm.MethodName) ({ cls := "TwoGuilds$Glove", name := "kind", desc := "()I" } : Jvm.MethodName)) ∈ lw_all := lw_g (lw_at lw_m2 106 rfl) rfl
theorem q418 : (Jvm.Cond.sameMethod "TwoGuilds$Glove" "TwoGuilds$Glove" "kind" "()I") ∈ lw_all := lw_g (lw_at lw_m2 107 rfl) rfl
theorem q439 : (Jvm.Cond.code ({ cls := "TwoGuilds$Glove", name := "kind", desc := "()I" } : Jvm.MethodName) prog_7_method_2_code (1 : Nat) (Option.some Jvm.ClassFile.FieldType.int)) ∈ lw_all := lw_g (lw_at lw_m2 128 rfl) rfl
theorem q444 : (Jvm.Cond.instanceMethod ({ cls := "TwoGuilds$Glove", name := "worth", desc := "()I" } : Jvm.MethodName)) ∈ lw_all := lw_g (lw_at lw_m2 133 rfl) rfl
theorem q445 : (Jvm.Cond.selects "TwoGuilds$Glove" ({ cls := "TwoGuilds$Glove", name := "worth", desc := "()I" } : Jvm.MethodName) ({ cls := "TwoGuilds$Glove", name := "worth", desc := "()I" } : Jvm.MethodName)) ∈ lw_all := lw_g (lw_at lw_m2 134 rfl) rfl
theorem q446 : (Jvm.Cond.sameMethod "TwoGuilds$Glove" "TwoGuilds$Glove" "worth" "()I") ∈ lw_all := lw_g (lw_at lw_m2 135 rfl) rfl
theorem q466 : (Jvm.Cond.code ({ cls := "TwoGuilds$Glove", name := "worth", desc := "()I" } : Jvm.MethodName) prog_7_method_6_code (1 : Nat) (Option.some Jvm.ClassFile.FieldType.int)) ∈ lw_all := lw_g (lw_at lw_m2 155 rfl) rfl
theorem q567 : (Jvm.Cond.instanceMethod ({ cls := "TwoGuilds$Glove", name := "like", desc := "(LTwoGuilds$Glove;)LTwoGuilds$Glove;" } : Jvm.MethodName)) ∈ lw_all := lw_g (lw_at lw_m3 16 rfl) rfl
theorem q568 : (Jvm.Cond.selects "TwoGuilds$Glove" ({ cls := "TwoGuilds$Glove", name := "like", desc := "(LTwoGuilds$Glove;)LTwoGuilds$Glove;" } : Jvm.MethodName) ({ cls := "TwoGuilds$Glove", name := "like", desc := "(LTwoGuilds$Glove;)LTwoGuilds$Glove;" } : Jvm.MethodName)) ∈ lw_all := lw_g (lw_at lw_m3 17 rfl) rfl
theorem q569 : (Jvm.Cond.sameMethod "TwoGuilds$Glove" "TwoGuilds$Glove" "like" "(LTwoGuilds$Glove;)LTwoGuilds$Glove;") ∈ lw_all := lw_g (lw_at lw_m3 18 rfl) rfl
theorem q575 : (Jvm.Cond.code ({ cls := "TwoGuilds$Glove", name := "like", desc := "(LTwoGuilds$Glove;)LTwoGuilds$Glove;" } : Jvm.MethodName) prog_7_method_3_code (2 : Nat) (Option.some (Jvm.ClassFile.FieldType.object "TwoGuilds$Glove"))) ∈ lw_all := lw_g (lw_at lw_m3 24 rfl) rfl
theorem q590 : (Jvm.Cond.instanceMethod ({ cls := "TwoGuilds$Glove", name := "fits", desc := "(LTwoGuilds$Glove;)Z" } : Jvm.MethodName)) ∈ lw_all := lw_g (lw_at lw_m3 39 rfl) rfl
theorem q591 : (Jvm.Cond.selects "TwoGuilds$Glove" ({ cls := "TwoGuilds$Glove", name := "fits", desc := "(LTwoGuilds$Glove;)Z" } : Jvm.MethodName) ({ cls := "TwoGuilds$Glove", name := "fits", desc := "(LTwoGuilds$Glove;)Z" } : Jvm.MethodName)) ∈ lw_all := lw_g (lw_at lw_m3 40 rfl) rfl
theorem q592 : (Jvm.Cond.sameMethod "TwoGuilds$Glove" "TwoGuilds$Glove" "fits" "(LTwoGuilds$Glove;)Z") ∈ lw_all := lw_g (lw_at lw_m3 41 rfl) rfl
theorem q603 : (Jvm.Cond.instanceMethod ({ cls := "TwoGuilds$Glove", name := "turns", desc := "()Z" } : Jvm.MethodName)) ∈ lw_all := lw_g (lw_at lw_m3 52 rfl) rfl
theorem q604 : (Jvm.Cond.selects "TwoGuilds$Glove" ({ cls := "TwoGuilds$Glove", name := "turns", desc := "()Z" } : Jvm.MethodName) ({ cls := "TwoGuilds$Glove", name := "turns", desc := "()Z" } : Jvm.MethodName)) ∈ lw_all := lw_g (lw_at lw_m3 53 rfl) rfl
theorem q605 : (Jvm.Cond.sameMethod "TwoGuilds$Glove" "TwoGuilds$Glove" "turns" "()Z") ∈ lw_all := lw_g (lw_at lw_m3 54 rfl) rfl
theorem q611 : (Jvm.Cond.declares ({ cls := "TwoGuilds$Glove", name := "turns", desc := "()Z" } : Jvm.MethodName)) ∈ lw_tbl := lw_at lw_m3 60 rfl
theorem q616 : (Jvm.Cond.code ({ cls := "TwoGuilds$Glove", name := "turns", desc := "()Z" } : Jvm.MethodName) prog_7_method_5_code (1 : Nat) (Option.some Jvm.ClassFile.FieldType.boolean)) ∈ lw_all := lw_g (lw_at lw_m3 65 rfl) rfl
theorem q629 : (Jvm.Cond.code ({ cls := "TwoGuilds$Glove", name := "fits", desc := "(LTwoGuilds$Glove;)Z" } : Jvm.MethodName) prog_7_method_4_code (2 : Nat) (Option.some Jvm.ClassFile.FieldType.boolean)) ∈ lw_all := lw_g (lw_at lw_m3 78 rfl) rfl
theorem q635 : (Jvm.Cond.instanceMethod ({ cls := "TwoGuilds$Glove", name := "pairs", desc := "(LTwoGuilds$Glove;)Z" } : Jvm.MethodName)) ∈ lw_all := lw_g (lw_at lw_m3 84 rfl) rfl
theorem q636 : (Jvm.Cond.selects "TwoGuilds$Glove" ({ cls := "TwoGuilds$Glove", name := "pairs", desc := "(LTwoGuilds$Glove;)Z" } : Jvm.MethodName) ({ cls := "TwoGuilds$Glove", name := "pairs", desc := "(LTwoGuilds$Glove;)Z" } : Jvm.MethodName)) ∈ lw_all := lw_g (lw_at lw_m3 85 rfl) rfl
theorem q637 : (Jvm.Cond.sameMethod "TwoGuilds$Glove" "TwoGuilds$Glove" "pairs" "(LTwoGuilds$Glove;)Z") ∈ lw_all := lw_g (lw_at lw_m3 86 rfl) rfl
theorem q643 : (Jvm.Cond.code ({ cls := "TwoGuilds$Glove", name := "pairs", desc := "(LTwoGuilds$Glove;)Z" } : Jvm.MethodName) prog_7_method_7_code (2 : Nat) (Option.some Jvm.ClassFile.FieldType.boolean)) ∈ lw_all := lw_g (lw_at lw_m3 92 rfl) rfl
theorem q644 : (Jvm.Cond.methodLink "TwoGuilds$Glove" (32 : Nat) ({ cls := "TwoGuilds$Glove", name := "turns", desc := "()Z" } : Jvm.MethodName)) ∈ lw_all := lw_g (lw_at lw_m3 93 rfl) rfl
theorem q648 : (Jvm.Cond.unhidden "TwoGuilds$Glove" "isLike" "(LTwoGuilds$Glove;LTwoGuilds$Glove;)Z") ∈ lw_tbl := lw_at lw_m3 97 rfl
theorem q667 : (Jvm.Cond.castable "TwoGuilds$Glove" "TwoGuilds$Fits") ∈ lw_tbl := lw_at lw_m3 116 rfl
theorem q668 : (Jvm.Cond.selects "TwoGuilds$Glove" ({ cls := "TwoGuilds$Fits", name := "fits", desc := "(LTwoGuilds$Glove;)Z" } : Jvm.MethodName) ({ cls := "TwoGuilds$Glove", name := "fits", desc := "(LTwoGuilds$Glove;)Z" } : Jvm.MethodName)) ∈ lw_all := lw_g (lw_at lw_m3 117 rfl) rfl
theorem q669 : (Jvm.Cond.unhidden "TwoGuilds$Glove" "fits" "(LTwoGuilds$Glove;)Z") ∈ lw_tbl := lw_at lw_m3 118 rfl
theorem q670 : (Jvm.Cond.publicMethod ({ cls := "TwoGuilds$Glove", name := "fits", desc := "(LTwoGuilds$Glove;)Z" } : Jvm.MethodName)) ∈ lw_tbl := lw_at lw_m3 119 rfl
theorem q835 : (Jvm.Cond.instanceMethod ({ cls := "TwoGuilds$Glove", name := "wears", desc := "(I)I" } : Jvm.MethodName)) ∈ lw_all := lw_g (lw_at lw_m4 44 rfl) rfl
theorem q836 : (Jvm.Cond.selects "TwoGuilds$Glove" ({ cls := "TwoGuilds$Glove", name := "wears", desc := "(I)I" } : Jvm.MethodName) ({ cls := "TwoGuilds$Glove", name := "wears", desc := "(I)I" } : Jvm.MethodName)) ∈ lw_all := lw_g (lw_at lw_m4 45 rfl) rfl
theorem q837 : (Jvm.Cond.sameMethod "TwoGuilds$Glove" "TwoGuilds$Glove" "wears" "(I)I") ∈ lw_all := lw_g (lw_at lw_m4 46 rfl) rfl
theorem q843 : (Jvm.Cond.code ({ cls := "TwoGuilds$Glove", name := "wears", desc := "(I)I" } : Jvm.MethodName) prog_7_method_8_code (2 : Nat) (Option.some Jvm.ClassFile.FieldType.int)) ∈ lw_all := lw_g (lw_at lw_m4 52 rfl) rfl
theorem q844 : (Jvm.Cond.methodLinkNest "TwoGuilds$Glove" (44 : Nat) ({ cls := "TwoGuilds", name := "ruled", desc := "(II)I" } : Jvm.MethodName) "TwoGuilds") ∈ lw_tbl := lw_at lw_m4 53 rfl
theorem q845 : (Jvm.Cond.methodLinkNest "TwoGuilds$Glove" (48 : Nat) ({ cls := "TwoGuilds", name := "heldIn", desc := "(III)I" } : Jvm.MethodName) "TwoGuilds") ∈ lw_tbl := lw_at lw_m4 54 rfl
theorem q1290 : (Jvm.Cond.castable "TwoGuilds$Glove" "TwoGuilds$Weighs") ∈ lw_tbl := lw_at lw_m6 19 rfl
theorem q1291 : (Jvm.Cond.selects "TwoGuilds$Glove" ({ cls := "TwoGuilds$Weighs", name := "worth", desc := "()I" } : Jvm.MethodName) ({ cls := "TwoGuilds$Glove", name := "worth", desc := "()I" } : Jvm.MethodName)) ∈ lw_all := lw_g (lw_at lw_m6 20 rfl) rfl
theorem q1292 : (Jvm.Cond.unhidden "TwoGuilds$Glove" "worth" "()I") ∈ lw_tbl := lw_at lw_m6 21 rfl
theorem q1293 : (Jvm.Cond.publicMethod ({ cls := "TwoGuilds$Glove", name := "worth", desc := "()I" } : Jvm.MethodName)) ∈ lw_tbl := lw_at lw_m6 22 rfl
theorem in_X4 : ∀ w ∈ wsX40, w ∈ lw_all := lw_in wsX40 [312, 314, 316, 318, 320, 322] (by decide +kernel) (by decide +kernel)

/-! TwoGuilds$Lined -/
set_option maxRecDepth 100000
def RX5 : String := "TwoGuilds$Lined"
def TX5 : u_T := fun k => match k with
  | 0 => ("TwoGuilds$Glove", "side", "I", false)
  | 1 => ("TwoGuilds$Glove", "size", "I", false)
  | 2 => ("TwoGuilds$Glove", "price", "I", false)
  | 3 => ("TwoGuilds$Glove", "wear", "I", false)
  | 4 => ("TwoGuilds$Glove", "isLost", "Z", false)
  | 5 => ("TwoGuilds$Glove", "this$0", "LTwoGuilds;", true)
  | _ => ("TwoGuilds$Lined", "this$0", "LTwoGuilds;", true)
def tyX5 : Nat → FieldType := fun k => match k with
  | 0 => .int
  | 1 => .int
  | 2 => .int
  | 3 => .int
  | 4 => .boolean
  | 5 => .object "TwoGuilds"
  | _ => .object "TwoGuilds"
abbrev wsX50 : List Cond := u_ws RX5 TX5 7
-- two fields of one name: no nmX5
theorem tyX5_ok : ∀ k, k < 7 → parseFieldDescriptor (TX5 k).2.2.1 = some (tyX5 k) := by decide +kernel
abbrev cX5_init : ByteArray := prog_9_method_1_code
def yX5_init : MethodName := ⟨RX5, "<init>", "(LTwoGuilds;)V"⟩
def dkwX5_init_0 : List UInt8 := [42, 43, 181, 0, 1, 42, 43, 183, 0, 7, 177]
abbrev dktX5_init_0 : List UInt8 := dkwX5_init_0 ++ []
theorem dksX5_init_0 : cX5_init.data.toList.drop 0 = dktX5_init_0 := by decide +kernel
theorem dX5_init_0 : decode cX5_init 0 = .ok (.aload_n 0, 1) := dk_42 (dk_at dksX5_init_0 0 rfl rfl)
theorem dX5_init_1 : decode cX5_init 1 = .ok (.aload_n 1, 1) := dk_43 (dk_at dksX5_init_0 1 rfl rfl)
theorem dX5_init_2 : decode cX5_init 2 = .ok (.putfield 1, 3) := dk_181 0 1 (dk_at dksX5_init_0 2 rfl rfl)
theorem dX5_init_5 : decode cX5_init 5 = .ok (.aload_n 0, 1) := dk_42 (dk_at dksX5_init_0 5 rfl rfl)
theorem dX5_init_6 : decode cX5_init 6 = .ok (.aload_n 1, 1) := dk_43 (dk_at dksX5_init_0 6 rfl rfl)
theorem dX5_init_7 : decode cX5_init 7 = .ok (.invokespecial 7, 3) := dk_183 0 7 (dk_at dksX5_init_0 7 rfl rfl)
theorem dX5_init_10 : decode cX5_init 10 = .ok (.return_, 1) := dk_177 (dk_at dksX5_init_0 10 rfl rfl)
abbrev cX5_kind : ByteArray := prog_9_method_2_code
def yX5_kind : MethodName := ⟨RX5, "kind", "()I"⟩
def dkwX5_kind_0 : List UInt8 := [42, 183, 0, 13, 4, 96, 172]
abbrev dktX5_kind_0 : List UInt8 := dkwX5_kind_0 ++ []
theorem dksX5_kind_0 : cX5_kind.data.toList.drop 0 = dktX5_kind_0 := by decide +kernel
theorem dX5_kind_0 : decode cX5_kind 0 = .ok (.aload_n 0, 1) := dk_42 (dk_at dksX5_kind_0 0 rfl rfl)
theorem dX5_kind_1 : decode cX5_kind 1 = .ok (.invokespecial 13, 3) := dk_183 0 13 (dk_at dksX5_kind_0 1 rfl rfl)
theorem dX5_kind_4 : decode cX5_kind 4 = .ok (.iconst 1, 1) := dk_4 (dk_at dksX5_kind_0 4 rfl rfl)
theorem dX5_kind_5 : decode cX5_kind 5 = .ok (.iadd, 1) := dk_96 (dk_at dksX5_kind_0 5 rfl rfl)
theorem dX5_kind_6 : decode cX5_kind 6 = .ok (.ireturn, 1) := dk_172 (dk_at dksX5_kind_0 6 rfl rfl)
abbrev cX5_worth : ByteArray := prog_9_method_4_code
def yX5_worth : MethodName := ⟨RX5, "worth", "()I"⟩
def dkwX5_worth_0 : List UInt8 := [42, 183, 0, 26, 8, 96, 172]
abbrev dktX5_worth_0 : List UInt8 := dkwX5_worth_0 ++ []
theorem dksX5_worth_0 : cX5_worth.data.toList.drop 0 = dktX5_worth_0 := by decide +kernel
theorem dX5_worth_0 : decode cX5_worth 0 = .ok (.aload_n 0, 1) := dk_42 (dk_at dksX5_worth_0 0 rfl rfl)
theorem dX5_worth_1 : decode cX5_worth 1 = .ok (.invokespecial 26, 3) := dk_183 0 26 (dk_at dksX5_worth_0 1 rfl rfl)
theorem dX5_worth_4 : decode cX5_worth 4 = .ok (.iconst 5, 1) := dk_8 (dk_at dksX5_worth_0 4 rfl rfl)
theorem dX5_worth_5 : decode cX5_worth 5 = .ok (.iadd, 1) := dk_96 (dk_at dksX5_worth_0 5 rfl rfl)
theorem dX5_worth_6 : decode cX5_worth 6 = .ok (.ireturn, 1) := dk_172 (dk_at dksX5_worth_0 6 rfl rfl)
abbrev cX5_fits : ByteArray := prog_9_method_3_code
def yX5_fits : MethodName := ⟨RX5, "fits", "(LTwoGuilds$Glove;)Z"⟩
def dkwX5_fits_1 : List UInt8 := [162, 0, 7, 4, 167, 0, 4, 3, 172]
abbrev dktX5_fits_1 : List UInt8 := dkwX5_fits_1 ++ []
def dkwX5_fits_0 : List UInt8 := [42, 43, 183, 0, 17, 153, 0, 25, 42, 180, 0, 21, 16, 50, 162, 0, 16, 43, 180, 0, 25, 16, 50]
abbrev dktX5_fits_0 : List UInt8 := dkwX5_fits_0 ++ dktX5_fits_1
theorem dksX5_fits_0 : cX5_fits.data.toList.drop 0 = dktX5_fits_0 := by decide +kernel
theorem dksX5_fits_1 : cX5_fits.data.toList.drop 23 = dktX5_fits_1 := dk_seg dksX5_fits_0 23 rfl rfl
theorem dX5_fits_0 : decode cX5_fits 0 = .ok (.aload_n 0, 1) := dk_42 (dk_at dksX5_fits_0 0 rfl rfl)
theorem dX5_fits_1 : decode cX5_fits 1 = .ok (.aload_n 1, 1) := dk_43 (dk_at dksX5_fits_0 1 rfl rfl)
theorem dX5_fits_2 : decode cX5_fits 2 = .ok (.invokespecial 17, 3) := dk_183 0 17 (dk_at dksX5_fits_0 2 rfl rfl)
theorem dX5_fits_5 : decode cX5_fits 5 = .ok (.ifCond .eq 25, 3) := dk_153 0 25 (dk_at dksX5_fits_0 5 rfl rfl)
theorem dX5_fits_8 : decode cX5_fits 8 = .ok (.aload_n 0, 1) := dk_42 (dk_at dksX5_fits_0 8 rfl rfl)
theorem dX5_fits_9 : decode cX5_fits 9 = .ok (.getfield 21, 3) := dk_180 0 21 (dk_at dksX5_fits_0 9 rfl rfl)
theorem dX5_fits_12 : decode cX5_fits 12 = .ok (.bipush 50, 2) := dk_16 50 (dk_at dksX5_fits_0 12 rfl rfl)
theorem dX5_fits_14 : decode cX5_fits 14 = .ok (.if_icmp .ge 16, 3) := dk_162 0 16 (dk_at dksX5_fits_0 14 rfl rfl)
theorem dX5_fits_17 : decode cX5_fits 17 = .ok (.aload_n 1, 1) := dk_43 (dk_at dksX5_fits_0 17 rfl rfl)
theorem dX5_fits_18 : decode cX5_fits 18 = .ok (.getfield 25, 3) := dk_180 0 25 (dk_at dksX5_fits_0 18 rfl rfl)
theorem dX5_fits_21 : decode cX5_fits 21 = .ok (.bipush 50, 2) := dk_16 50 (dk_at dksX5_fits_0 21 rfl rfl)
theorem dX5_fits_23 : decode cX5_fits 23 = .ok (.if_icmp .ge 7, 3) := dk_162 0 7 (dk_at dksX5_fits_1 0 rfl rfl)
theorem dX5_fits_26 : decode cX5_fits 26 = .ok (.iconst 1, 1) := dk_4 (dk_at dksX5_fits_1 3 rfl rfl)
theorem dX5_fits_27 : decode cX5_fits 27 = .ok (.goto 4, 3) := dk_167 0 4 (dk_at dksX5_fits_1 4 rfl rfl)
theorem dX5_fits_30 : decode cX5_fits 30 = .ok (.iconst 0, 1) := dk_3 (dk_at dksX5_fits_1 7 rfl rfl)
theorem dX5_fits_31 : decode cX5_fits 31 = .ok (.ireturn, 1) := dk_172 (dk_at dksX5_fits_1 8 rfl rfl)
theorem q77 : (Jvm.Cond.initialized "TwoGuilds$Lined") ∈ lw_all := lw_g (lw_at lw_m1 6 rfl) rfl
theorem q302 : (Jvm.Cond.fieldLink "TwoGuilds$Lined" (21 : Nat) "TwoGuilds$Lined" "wear" "I") ∈ lw_all := lw_g (lw_at lw_m1 231 rfl) rfl
theorem q303 : (Jvm.Cond.sameField "TwoGuilds$Lined" "TwoGuilds$Glove" "wear" "I") ∈ lw_all := lw_g (lw_at lw_m1 232 rfl) rfl
theorem q304 : (Jvm.Cond.fieldLink "TwoGuilds$Lined" (25 : Nat) "TwoGuilds$Glove" "wear" "I") ∈ lw_all := lw_g (lw_at lw_m1 233 rfl) rfl
theorem q326 : (Jvm.Cond.instantiable "TwoGuilds$Lined" (7 : Nat)) ∈ lw_all := lw_g (lw_at lw_m2 15 rfl) rfl
theorem q328 : (Jvm.Cond.instanceMethod ({ cls := "TwoGuilds$Lined", name := "<init>", desc := "(LTwoGuilds;)V" } : Jvm.MethodName)) ∈ lw_all := lw_g (lw_at lw_m2 17 rfl) rfl
theorem q329 : (Jvm.Cond.code ({ cls := "TwoGuilds$Lined", name := "<init>", desc := "(LTwoGuilds;)V" } : Jvm.MethodName) prog_9_method_1_code (2 : Nat) (Option.none : Option Jvm.ClassFile.FieldType)) ∈ lw_all := lw_g (lw_at lw_m2 18 rfl) rfl
theorem q330 : (Jvm.Cond.methodLinkNest "TwoGuilds$Lined" (7 : Nat) ({ cls := "TwoGuilds$Glove", name := "<init>", desc := "(LTwoGuilds;)V" } : Jvm.MethodName) "TwoGuilds") ∈ lw_tbl := lw_at lw_m2 19 rfl
theorem q331 : (Jvm.Cond.fieldLink "TwoGuilds$Lined" (1 : Nat) "TwoGuilds$Lined" "this$0" "LTwoGuilds;") ∈ lw_all := lw_g (lw_at lw_m2 20 rfl) rfl
theorem q332 : (Jvm.Cond.laysFinal "TwoGuilds$Lined" "TwoGuilds$Lined" "this$0" "LTwoGuilds;") ∈ lw_all := lw_g (lw_at lw_m2 21 rfl) rfl
theorem q333 : (Jvm.Cond.soleField "TwoGuilds$Lined" "this$0") ∈ lw_all := lw_g (lw_at lw_m2 22 rfl) rfl
theorem q334 : (Jvm.Cond.lays "TwoGuilds$Lined" "TwoGuilds$Glove" "side" "I") ∈ lw_all := lw_g (lw_at lw_m2 23 rfl) rfl
theorem q335 : (Jvm.Cond.lays "TwoGuilds$Lined" "TwoGuilds$Glove" "size" "I") ∈ lw_all := lw_g (lw_at lw_m2 24 rfl) rfl
theorem q336 : (Jvm.Cond.lays "TwoGuilds$Lined" "TwoGuilds$Glove" "price" "I") ∈ lw_all := lw_g (lw_at lw_m2 25 rfl) rfl
theorem q337 : (Jvm.Cond.lays "TwoGuilds$Lined" "TwoGuilds$Glove" "wear" "I") ∈ lw_all := lw_g (lw_at lw_m2 26 rfl) rfl
theorem q338 : (Jvm.Cond.lays "TwoGuilds$Lined" "TwoGuilds$Glove" "isLost" "Z") ∈ lw_all := lw_g (lw_at lw_m2 27 rfl) rfl
theorem q339 : (Jvm.Cond.laysFinal "TwoGuilds$Lined" "TwoGuilds$Glove" "this$0" "LTwoGuilds;") ∈ lw_all := lw_g (lw_at lw_m2 28 rfl) rfl
theorem q340 : (Jvm.Cond.superclass "TwoGuilds$Lined" "TwoGuilds$Glove") ∈ lw_all := lw_g (lw_at lw_m2 29 rfl) rfl
theorem q430 : (Jvm.Cond.instanceMethod ({ cls := "TwoGuilds$Lined", name := "kind", desc := "()I" } : Jvm.MethodName)) ∈ lw_all := lw_g (lw_at lw_m2 119 rfl) rfl
theorem q431 : (Jvm.Cond.code ({ cls := "TwoGuilds$Lined", name := "kind", desc := "()I" } : Jvm.MethodName) prog_9_method_2_code (1 : Nat) (Option.some Jvm.ClassFile.FieldType.int)) ∈ lw_all := lw_g (lw_at lw_m2 120 rfl) rfl
theorem q432 : (Jvm.Cond.methodLink "TwoGuilds$Lined" (13 : Nat) ({ cls := "TwoGuilds$Glove", name := "kind", desc := "()I" } : Jvm.MethodName)) ∈ lw_all := lw_g (lw_at lw_m2 121 rfl) rfl
theorem q433 : (Jvm.Cond.selects "TwoGuilds$Lined" ({ cls := "TwoGuilds$Glove", name := "kind", desc := "()I" } : Jvm.MethodName) ({ cls := "TwoGuilds$Lined", name := "kind", desc := "()I" } : Jvm.MethodName)) ∈ lw_all := lw_g (lw_at lw_m2 122 rfl) rfl
theorem q458 : (Jvm.Cond.instanceMethod ({ cls := "TwoGuilds$Lined", name := "worth", desc := "()I" } : Jvm.MethodName)) ∈ lw_all := lw_g (lw_at lw_m2 147 rfl) rfl
theorem q459 : (Jvm.Cond.code ({ cls := "TwoGuilds$Lined", name := "worth", desc := "()I" } : Jvm.MethodName) prog_9_method_4_code (1 : Nat) (Option.some Jvm.ClassFile.FieldType.int)) ∈ lw_all := lw_g (lw_at lw_m2 148 rfl) rfl
theorem q460 : (Jvm.Cond.methodLink "TwoGuilds$Lined" (26 : Nat) ({ cls := "TwoGuilds$Glove", name := "worth", desc := "()I" } : Jvm.MethodName)) ∈ lw_all := lw_g (lw_at lw_m2 149 rfl) rfl
theorem q461 : (Jvm.Cond.selects "TwoGuilds$Lined" ({ cls := "TwoGuilds$Glove", name := "worth", desc := "()I" } : Jvm.MethodName) ({ cls := "TwoGuilds$Lined", name := "worth", desc := "()I" } : Jvm.MethodName)) ∈ lw_all := lw_g (lw_at lw_m2 150 rfl) rfl
theorem q572 : (Jvm.Cond.selects "TwoGuilds$Lined" ({ cls := "TwoGuilds$Glove", name := "like", desc := "(LTwoGuilds$Glove;)LTwoGuilds$Glove;" } : Jvm.MethodName) ({ cls := "TwoGuilds$Glove", name := "like", desc := "(LTwoGuilds$Glove;)LTwoGuilds$Glove;" } : Jvm.MethodName)) ∈ lw_all := lw_g (lw_at lw_m3 21 rfl) rfl
theorem q613 : (Jvm.Cond.selects "TwoGuilds$Lined" ({ cls := "TwoGuilds$Glove", name := "turns", desc := "()Z" } : Jvm.MethodName) ({ cls := "TwoGuilds$Glove", name := "turns", desc := "()Z" } : Jvm.MethodName)) ∈ lw_all := lw_g (lw_at lw_m3 62 rfl) rfl
theorem q621 : (Jvm.Cond.instanceMethod ({ cls := "TwoGuilds$Lined", name := "fits", desc := "(LTwoGuilds$Glove;)Z" } : Jvm.MethodName)) ∈ lw_all := lw_g (lw_at lw_m3 70 rfl) rfl
theorem q622 : (Jvm.Cond.code ({ cls := "TwoGuilds$Lined", name := "fits", desc := "(LTwoGuilds$Glove;)Z" } : Jvm.MethodName) prog_9_method_3_code (2 : Nat) (Option.some Jvm.ClassFile.FieldType.boolean)) ∈ lw_all := lw_g (lw_at lw_m3 71 rfl) rfl
theorem q623 : (Jvm.Cond.methodLink "TwoGuilds$Lined" (17 : Nat) ({ cls := "TwoGuilds$Glove", name := "fits", desc := "(LTwoGuilds$Glove;)Z" } : Jvm.MethodName)) ∈ lw_all := lw_g (lw_at lw_m3 72 rfl) rfl
theorem q624 : (Jvm.Cond.selects "TwoGuilds$Lined" ({ cls := "TwoGuilds$Glove", name := "fits", desc := "(LTwoGuilds$Glove;)Z" } : Jvm.MethodName) ({ cls := "TwoGuilds$Lined", name := "fits", desc := "(LTwoGuilds$Glove;)Z" } : Jvm.MethodName)) ∈ lw_all := lw_g (lw_at lw_m3 73 rfl) rfl
theorem q640 : (Jvm.Cond.selects "TwoGuilds$Lined" ({ cls := "TwoGuilds$Glove", name := "pairs", desc := "(LTwoGuilds$Glove;)Z" } : Jvm.MethodName) ({ cls := "TwoGuilds$Glove", name := "pairs", desc := "(LTwoGuilds$Glove;)Z" } : Jvm.MethodName)) ∈ lw_all := lw_g (lw_at lw_m3 89 rfl) rfl
theorem q649 : (Jvm.Cond.unhidden "TwoGuilds$Lined" "isLike" "(LTwoGuilds$Glove;LTwoGuilds$Glove;)Z") ∈ lw_tbl := lw_at lw_m3 98 rfl
theorem q671 : (Jvm.Cond.castable "TwoGuilds$Lined" "TwoGuilds$Fits") ∈ lw_tbl := lw_at lw_m3 120 rfl
theorem q672 : (Jvm.Cond.selects "TwoGuilds$Lined" ({ cls := "TwoGuilds$Fits", name := "fits", desc := "(LTwoGuilds$Glove;)Z" } : Jvm.MethodName) ({ cls := "TwoGuilds$Lined", name := "fits", desc := "(LTwoGuilds$Glove;)Z" } : Jvm.MethodName)) ∈ lw_all := lw_g (lw_at lw_m3 121 rfl) rfl
theorem q673 : (Jvm.Cond.unhidden "TwoGuilds$Lined" "fits" "(LTwoGuilds$Glove;)Z") ∈ lw_tbl := lw_at lw_m3 122 rfl
theorem q674 : (Jvm.Cond.publicMethod ({ cls := "TwoGuilds$Lined", name := "fits", desc := "(LTwoGuilds$Glove;)Z" } : Jvm.MethodName)) ∈ lw_tbl := lw_at lw_m3 123 rfl
theorem q840 : (Jvm.Cond.selects "TwoGuilds$Lined" ({ cls := "TwoGuilds$Glove", name := "wears", desc := "(I)I" } : Jvm.MethodName) ({ cls := "TwoGuilds$Glove", name := "wears", desc := "(I)I" } : Jvm.MethodName)) ∈ lw_all := lw_g (lw_at lw_m4 49 rfl) rfl
theorem q1294 : (Jvm.Cond.castable "TwoGuilds$Lined" "TwoGuilds$Weighs") ∈ lw_tbl := lw_at lw_m6 23 rfl
theorem q1295 : (Jvm.Cond.selects "TwoGuilds$Lined" ({ cls := "TwoGuilds$Weighs", name := "worth", desc := "()I" } : Jvm.MethodName) ({ cls := "TwoGuilds$Lined", name := "worth", desc := "()I" } : Jvm.MethodName)) ∈ lw_all := lw_g (lw_at lw_m6 24 rfl) rfl
theorem q1296 : (Jvm.Cond.unhidden "TwoGuilds$Lined" "worth" "()I") ∈ lw_tbl := lw_at lw_m6 25 rfl
theorem q1297 : (Jvm.Cond.publicMethod ({ cls := "TwoGuilds$Lined", name := "worth", desc := "()I" } : Jvm.MethodName)) ∈ lw_tbl := lw_at lw_m6 26 rfl
theorem q1843 : (Jvm.Cond.sameMethod "TwoGuilds$Lined" "TwoGuilds$Lined" "kind" "()I") ∈ lw_all := lw_g (lw_at lw_m8 92 rfl) rfl
theorem q1845 : (Jvm.Cond.sameMethod "TwoGuilds$Lined" "TwoGuilds$Lined" "worth" "()I") ∈ lw_all := lw_g (lw_at lw_m8 94 rfl) rfl
theorem q1848 : (Jvm.Cond.sameMethod "TwoGuilds$Lined" "TwoGuilds$Lined" "fits" "(LTwoGuilds$Glove;)Z") ∈ lw_all := lw_g (lw_at lw_m8 97 rfl) rfl
theorem q1852 : (Jvm.Cond.castable "TwoGuilds$Lined" "TwoGuilds$Glove") ∈ lw_tbl := lw_at lw_m8 101 rfl
theorem in_X5 : ∀ w ∈ wsX50, w ∈ lw_all := lw_in wsX50 [334, 335, 336, 337, 338, 339, 332] (by decide +kernel) (by decide +kernel)

/-! TwoGuilds$Loose -/
set_option maxRecDepth 100000
def RX6 : String := "TwoGuilds$Loose"
def TX6 : u_T := fun k => match k with
  | 0 => ("TwoGuilds$Glove", "side", "I", false)
  | 1 => ("TwoGuilds$Glove", "size", "I", false)
  | 2 => ("TwoGuilds$Glove", "price", "I", false)
  | 3 => ("TwoGuilds$Glove", "wear", "I", false)
  | 4 => ("TwoGuilds$Glove", "isLost", "Z", false)
  | 5 => ("TwoGuilds$Glove", "this$0", "LTwoGuilds;", true)
  | _ => ("TwoGuilds$Loose", "this$0", "LTwoGuilds;", true)
def tyX6 : Nat → FieldType := fun k => match k with
  | 0 => .int
  | 1 => .int
  | 2 => .int
  | 3 => .int
  | 4 => .boolean
  | 5 => .object "TwoGuilds"
  | _ => .object "TwoGuilds"
abbrev wsX60 : List Cond := u_ws RX6 TX6 7
-- two fields of one name: no nmX6
theorem tyX6_ok : ∀ k, k < 7 → parseFieldDescriptor (TX6 k).2.2.1 = some (tyX6 k) := by decide +kernel
abbrev cX6_init : ByteArray := prog_10_method_1_code
def yX6_init : MethodName := ⟨RX6, "<init>", "(LTwoGuilds;)V"⟩
def dkwX6_init_0 : List UInt8 := [42, 43, 181, 0, 3, 42, 43, 183, 0, 9, 177]
abbrev dktX6_init_0 : List UInt8 := dkwX6_init_0 ++ []
theorem dksX6_init_0 : cX6_init.data.toList.drop 0 = dktX6_init_0 := by decide +kernel
theorem dX6_init_0 : decode cX6_init 0 = .ok (.aload_n 0, 1) := dk_42 (dk_at dksX6_init_0 0 rfl rfl)
theorem dX6_init_1 : decode cX6_init 1 = .ok (.aload_n 1, 1) := dk_43 (dk_at dksX6_init_0 1 rfl rfl)
theorem dX6_init_2 : decode cX6_init 2 = .ok (.putfield 3, 3) := dk_181 0 3 (dk_at dksX6_init_0 2 rfl rfl)
theorem dX6_init_5 : decode cX6_init 5 = .ok (.aload_n 0, 1) := dk_42 (dk_at dksX6_init_0 5 rfl rfl)
theorem dX6_init_6 : decode cX6_init 6 = .ok (.aload_n 1, 1) := dk_43 (dk_at dksX6_init_0 6 rfl rfl)
theorem dX6_init_7 : decode cX6_init 7 = .ok (.invokespecial 9, 3) := dk_183 0 9 (dk_at dksX6_init_0 7 rfl rfl)
theorem dX6_init_10 : decode cX6_init 10 = .ok (.return_, 1) := dk_177 (dk_at dksX6_init_0 10 rfl rfl)
abbrev cX6_kind : ByteArray := prog_10_method_2_code
def yX6_kind : MethodName := ⟨RX6, "kind", "()I"⟩
def dkwX6_kind_0 : List UInt8 := [42, 183, 0, 15, 5, 96, 172]
abbrev dktX6_kind_0 : List UInt8 := dkwX6_kind_0 ++ []
theorem dksX6_kind_0 : cX6_kind.data.toList.drop 0 = dktX6_kind_0 := by decide +kernel
theorem dX6_kind_0 : decode cX6_kind 0 = .ok (.aload_n 0, 1) := dk_42 (dk_at dksX6_kind_0 0 rfl rfl)
theorem dX6_kind_1 : decode cX6_kind 1 = .ok (.invokespecial 15, 3) := dk_183 0 15 (dk_at dksX6_kind_0 1 rfl rfl)
theorem dX6_kind_4 : decode cX6_kind 4 = .ok (.iconst 2, 1) := dk_5 (dk_at dksX6_kind_0 4 rfl rfl)
theorem dX6_kind_5 : decode cX6_kind 5 = .ok (.iadd, 1) := dk_96 (dk_at dksX6_kind_0 5 rfl rfl)
theorem dX6_kind_6 : decode cX6_kind 6 = .ok (.ireturn, 1) := dk_172 (dk_at dksX6_kind_0 6 rfl rfl)
abbrev cX6_worth : ByteArray := prog_10_method_4_code
def yX6_worth : MethodName := ⟨RX6, "worth", "()I"⟩
def dkwX6_worth_0 : List UInt8 := [16, 99, 42, 183, 0, 30, 100, 172]
abbrev dktX6_worth_0 : List UInt8 := dkwX6_worth_0 ++ []
theorem dksX6_worth_0 : cX6_worth.data.toList.drop 0 = dktX6_worth_0 := by decide +kernel
theorem dX6_worth_0 : decode cX6_worth 0 = .ok (.bipush 99, 2) := dk_16 99 (dk_at dksX6_worth_0 0 rfl rfl)
theorem dX6_worth_2 : decode cX6_worth 2 = .ok (.aload_n 0, 1) := dk_42 (dk_at dksX6_worth_0 2 rfl rfl)
theorem dX6_worth_3 : decode cX6_worth 3 = .ok (.invokespecial 30, 3) := dk_183 0 30 (dk_at dksX6_worth_0 3 rfl rfl)
theorem dX6_worth_6 : decode cX6_worth 6 = .ok (.isub, 1) := dk_100 (dk_at dksX6_worth_0 6 rfl rfl)
theorem dX6_worth_7 : decode cX6_worth 7 = .ok (.ireturn, 1) := dk_172 (dk_at dksX6_worth_0 7 rfl rfl)
abbrev cX6_fits : ByteArray := prog_10_method_3_code
def yX6_fits : MethodName := ⟨RX6, "fits", "(LTwoGuilds$Glove;)Z"⟩
def dkwX6_fits_0 : List UInt8 := [42, 180, 0, 19, 43, 180, 0, 23, 100, 184, 0, 24, 4, 163, 0, 7, 4, 167, 0, 4, 3, 172]
abbrev dktX6_fits_0 : List UInt8 := dkwX6_fits_0 ++ []
theorem dksX6_fits_0 : cX6_fits.data.toList.drop 0 = dktX6_fits_0 := by decide +kernel
theorem dX6_fits_0 : decode cX6_fits 0 = .ok (.aload_n 0, 1) := dk_42 (dk_at dksX6_fits_0 0 rfl rfl)
theorem dX6_fits_1 : decode cX6_fits 1 = .ok (.getfield 19, 3) := dk_180 0 19 (dk_at dksX6_fits_0 1 rfl rfl)
theorem dX6_fits_4 : decode cX6_fits 4 = .ok (.aload_n 1, 1) := dk_43 (dk_at dksX6_fits_0 4 rfl rfl)
theorem dX6_fits_5 : decode cX6_fits 5 = .ok (.getfield 23, 3) := dk_180 0 23 (dk_at dksX6_fits_0 5 rfl rfl)
theorem dX6_fits_8 : decode cX6_fits 8 = .ok (.isub, 1) := dk_100 (dk_at dksX6_fits_0 8 rfl rfl)
theorem dX6_fits_9 : decode cX6_fits 9 = .ok (.invokestatic 24, 3) := dk_184 0 24 (dk_at dksX6_fits_0 9 rfl rfl)
theorem dX6_fits_12 : decode cX6_fits 12 = .ok (.iconst 1, 1) := dk_4 (dk_at dksX6_fits_0 12 rfl rfl)
theorem dX6_fits_13 : decode cX6_fits 13 = .ok (.if_icmp .gt 7, 3) := dk_163 0 7 (dk_at dksX6_fits_0 13 rfl rfl)
theorem dX6_fits_16 : decode cX6_fits 16 = .ok (.iconst 1, 1) := dk_4 (dk_at dksX6_fits_0 16 rfl rfl)
theorem dX6_fits_17 : decode cX6_fits 17 = .ok (.goto 4, 3) := dk_167 0 4 (dk_at dksX6_fits_0 17 rfl rfl)
theorem dX6_fits_20 : decode cX6_fits 20 = .ok (.iconst 0, 1) := dk_3 (dk_at dksX6_fits_0 20 rfl rfl)
theorem dX6_fits_21 : decode cX6_fits 21 = .ok (.ireturn, 1) := dk_172 (dk_at dksX6_fits_0 21 rfl rfl)
theorem q78 : (Jvm.Cond.initialized "TwoGuilds$Loose") ∈ lw_all := lw_g (lw_at lw_m1 7 rfl) rfl
theorem q292 : (Jvm.Cond.fieldLink "TwoGuilds$Loose" (19 : Nat) "TwoGuilds$Loose" "size" "I") ∈ lw_all := lw_g (lw_at lw_m1 221 rfl) rfl
theorem q293 : (Jvm.Cond.sameField "TwoGuilds$Loose" "TwoGuilds$Glove" "size" "I") ∈ lw_all := lw_g (lw_at lw_m1 222 rfl) rfl
theorem q294 : (Jvm.Cond.fieldLink "TwoGuilds$Loose" (23 : Nat) "TwoGuilds$Glove" "size" "I") ∈ lw_all := lw_g (lw_at lw_m1 223 rfl) rfl
theorem q342 : (Jvm.Cond.instantiable "TwoGuilds$Loose" (7 : Nat)) ∈ lw_all := lw_g (lw_at lw_m2 31 rfl) rfl
theorem q344 : (Jvm.Cond.instanceMethod ({ cls := "TwoGuilds$Loose", name := "<init>", desc := "(LTwoGuilds;)V" } : Jvm.MethodName)) ∈ lw_all := lw_g (lw_at lw_m2 33 rfl) rfl
theorem q345 : (Jvm.Cond.code ({ cls := "TwoGuilds$Loose", name := "<init>", desc := "(LTwoGuilds;)V" } : Jvm.MethodName) prog_10_method_1_code (2 : Nat) (Option.none : Option Jvm.ClassFile.FieldType)) ∈ lw_all := lw_g (lw_at lw_m2 34 rfl) rfl
theorem q346 : (Jvm.Cond.methodLinkNest "TwoGuilds$Loose" (9 : Nat) ({ cls := "TwoGuilds$Glove", name := "<init>", desc := "(LTwoGuilds;)V" } : Jvm.MethodName) "TwoGuilds") ∈ lw_tbl := lw_at lw_m2 35 rfl
theorem q347 : (Jvm.Cond.fieldLink "TwoGuilds$Loose" (3 : Nat) "TwoGuilds$Loose" "this$0" "LTwoGuilds;") ∈ lw_all := lw_g (lw_at lw_m2 36 rfl) rfl
theorem q348 : (Jvm.Cond.laysFinal "TwoGuilds$Loose" "TwoGuilds$Loose" "this$0" "LTwoGuilds;") ∈ lw_all := lw_g (lw_at lw_m2 37 rfl) rfl
theorem q349 : (Jvm.Cond.soleField "TwoGuilds$Loose" "this$0") ∈ lw_all := lw_g (lw_at lw_m2 38 rfl) rfl
theorem q350 : (Jvm.Cond.lays "TwoGuilds$Loose" "TwoGuilds$Glove" "side" "I") ∈ lw_all := lw_g (lw_at lw_m2 39 rfl) rfl
theorem q351 : (Jvm.Cond.lays "TwoGuilds$Loose" "TwoGuilds$Glove" "size" "I") ∈ lw_all := lw_g (lw_at lw_m2 40 rfl) rfl
theorem q352 : (Jvm.Cond.lays "TwoGuilds$Loose" "TwoGuilds$Glove" "price" "I") ∈ lw_all := lw_g (lw_at lw_m2 41 rfl) rfl
theorem q353 : (Jvm.Cond.lays "TwoGuilds$Loose" "TwoGuilds$Glove" "wear" "I") ∈ lw_all := lw_g (lw_at lw_m2 42 rfl) rfl
theorem q354 : (Jvm.Cond.lays "TwoGuilds$Loose" "TwoGuilds$Glove" "isLost" "Z") ∈ lw_all := lw_g (lw_at lw_m2 43 rfl) rfl
theorem q355 : (Jvm.Cond.laysFinal "TwoGuilds$Loose" "TwoGuilds$Glove" "this$0" "LTwoGuilds;") ∈ lw_all := lw_g (lw_at lw_m2 44 rfl) rfl
theorem q356 : (Jvm.Cond.superclass "TwoGuilds$Loose" "TwoGuilds$Glove") ∈ lw_all := lw_g (lw_at lw_m2 45 rfl) rfl
theorem q423 : (Jvm.Cond.instanceMethod ({ cls := "TwoGuilds$Loose", name := "kind", desc := "()I" } : Jvm.MethodName)) ∈ lw_all := lw_g (lw_at lw_m2 112 rfl) rfl
theorem q424 : (Jvm.Cond.code ({ cls := "TwoGuilds$Loose", name := "kind", desc := "()I" } : Jvm.MethodName) prog_10_method_2_code (1 : Nat) (Option.some Jvm.ClassFile.FieldType.int)) ∈ lw_all := lw_g (lw_at lw_m2 113 rfl) rfl
theorem q425 : (Jvm.Cond.methodLink "TwoGuilds$Loose" (15 : Nat) ({ cls := "TwoGuilds$Glove", name := "kind", desc := "()I" } : Jvm.MethodName)) ∈ lw_all := lw_g (lw_at lw_m2 114 rfl) rfl
theorem q434 : (Jvm.Cond.selects "TwoGuilds$Loose" ({ cls := "TwoGuilds$Glove", name := "kind", desc := "()I" } : Jvm.MethodName) ({ cls := "TwoGuilds$Loose", name := "kind", desc := "()I" } : Jvm.MethodName)) ∈ lw_all := lw_g (lw_at lw_m2 123 rfl) rfl
theorem q451 : (Jvm.Cond.instanceMethod ({ cls := "TwoGuilds$Loose", name := "worth", desc := "()I" } : Jvm.MethodName)) ∈ lw_all := lw_g (lw_at lw_m2 140 rfl) rfl
theorem q452 : (Jvm.Cond.code ({ cls := "TwoGuilds$Loose", name := "worth", desc := "()I" } : Jvm.MethodName) prog_10_method_4_code (1 : Nat) (Option.some Jvm.ClassFile.FieldType.int)) ∈ lw_all := lw_g (lw_at lw_m2 141 rfl) rfl
theorem q453 : (Jvm.Cond.methodLink "TwoGuilds$Loose" (30 : Nat) ({ cls := "TwoGuilds$Glove", name := "worth", desc := "()I" } : Jvm.MethodName)) ∈ lw_all := lw_g (lw_at lw_m2 142 rfl) rfl
theorem q462 : (Jvm.Cond.selects "TwoGuilds$Loose" ({ cls := "TwoGuilds$Glove", name := "worth", desc := "()I" } : Jvm.MethodName) ({ cls := "TwoGuilds$Loose", name := "worth", desc := "()I" } : Jvm.MethodName)) ∈ lw_all := lw_g (lw_at lw_m2 151 rfl) rfl
theorem q573 : (Jvm.Cond.selects "TwoGuilds$Loose" ({ cls := "TwoGuilds$Glove", name := "like", desc := "(LTwoGuilds$Glove;)LTwoGuilds$Glove;" } : Jvm.MethodName) ({ cls := "TwoGuilds$Glove", name := "like", desc := "(LTwoGuilds$Glove;)LTwoGuilds$Glove;" } : Jvm.MethodName)) ∈ lw_all := lw_g (lw_at lw_m3 22 rfl) rfl
theorem q597 : (Jvm.Cond.instanceMethod ({ cls := "TwoGuilds$Loose", name := "fits", desc := "(LTwoGuilds$Glove;)Z" } : Jvm.MethodName)) ∈ lw_all := lw_g (lw_at lw_m3 46 rfl) rfl
theorem q598 : (Jvm.Cond.code ({ cls := "TwoGuilds$Loose", name := "fits", desc := "(LTwoGuilds$Glove;)Z" } : Jvm.MethodName) prog_10_method_3_code (2 : Nat) (Option.some Jvm.ClassFile.FieldType.boolean)) ∈ lw_all := lw_g (lw_at lw_m3 47 rfl) rfl
theorem q599 : (Jvm.Cond.methodLink "TwoGuilds$Loose" (24 : Nat) ({ cls := "java/lang/Math", name := "abs", desc := "(I)I" } : Jvm.MethodName)) ∈ lw_all := lw_g (lw_at lw_m3 48 rfl) rfl
theorem q610 : (Jvm.Cond.sameMethod "TwoGuilds$Loose" "TwoGuilds$Glove" "turns" "()Z") ∈ lw_all := lw_g (lw_at lw_m3 59 rfl) rfl
theorem q614 : (Jvm.Cond.selects "TwoGuilds$Loose" ({ cls := "TwoGuilds$Glove", name := "turns", desc := "()Z" } : Jvm.MethodName) ({ cls := "TwoGuilds$Glove", name := "turns", desc := "()Z" } : Jvm.MethodName)) ∈ lw_all := lw_g (lw_at lw_m3 63 rfl) rfl
theorem q625 : (Jvm.Cond.selects "TwoGuilds$Loose" ({ cls := "TwoGuilds$Glove", name := "fits", desc := "(LTwoGuilds$Glove;)Z" } : Jvm.MethodName) ({ cls := "TwoGuilds$Loose", name := "fits", desc := "(LTwoGuilds$Glove;)Z" } : Jvm.MethodName)) ∈ lw_all := lw_g (lw_at lw_m3 74 rfl) rfl
theorem q641 : (Jvm.Cond.selects "TwoGuilds$Loose" ({ cls := "TwoGuilds$Glove", name := "pairs", desc := "(LTwoGuilds$Glove;)Z" } : Jvm.MethodName) ({ cls := "TwoGuilds$Glove", name := "pairs", desc := "(LTwoGuilds$Glove;)Z" } : Jvm.MethodName)) ∈ lw_all := lw_g (lw_at lw_m3 90 rfl) rfl
theorem q650 : (Jvm.Cond.unhidden "TwoGuilds$Loose" "isLike" "(LTwoGuilds$Glove;LTwoGuilds$Glove;)Z") ∈ lw_tbl := lw_at lw_m3 99 rfl
theorem q675 : (Jvm.Cond.castable "TwoGuilds$Loose" "TwoGuilds$Fits") ∈ lw_tbl := lw_at lw_m3 124 rfl
theorem q676 : (Jvm.Cond.selects "TwoGuilds$Loose" ({ cls := "TwoGuilds$Fits", name := "fits", desc := "(LTwoGuilds$Glove;)Z" } : Jvm.MethodName) ({ cls := "TwoGuilds$Loose", name := "fits", desc := "(LTwoGuilds$Glove;)Z" } : Jvm.MethodName)) ∈ lw_all := lw_g (lw_at lw_m3 125 rfl) rfl
theorem q677 : (Jvm.Cond.unhidden "TwoGuilds$Loose" "fits" "(LTwoGuilds$Glove;)Z") ∈ lw_tbl := lw_at lw_m3 126 rfl
theorem q678 : (Jvm.Cond.publicMethod ({ cls := "TwoGuilds$Loose", name := "fits", desc := "(LTwoGuilds$Glove;)Z" } : Jvm.MethodName)) ∈ lw_tbl := lw_at lw_m3 127 rfl
theorem q841 : (Jvm.Cond.selects "TwoGuilds$Loose" ({ cls := "TwoGuilds$Glove", name := "wears", desc := "(I)I" } : Jvm.MethodName) ({ cls := "TwoGuilds$Glove", name := "wears", desc := "(I)I" } : Jvm.MethodName)) ∈ lw_all := lw_g (lw_at lw_m4 50 rfl) rfl
theorem q1298 : (Jvm.Cond.castable "TwoGuilds$Loose" "TwoGuilds$Weighs") ∈ lw_tbl := lw_at lw_m6 27 rfl
theorem q1299 : (Jvm.Cond.selects "TwoGuilds$Loose" ({ cls := "TwoGuilds$Weighs", name := "worth", desc := "()I" } : Jvm.MethodName) ({ cls := "TwoGuilds$Loose", name := "worth", desc := "()I" } : Jvm.MethodName)) ∈ lw_all := lw_g (lw_at lw_m6 28 rfl) rfl
theorem q1300 : (Jvm.Cond.unhidden "TwoGuilds$Loose" "worth" "()I") ∈ lw_tbl := lw_at lw_m6 29 rfl
theorem q1301 : (Jvm.Cond.publicMethod ({ cls := "TwoGuilds$Loose", name := "worth", desc := "()I" } : Jvm.MethodName)) ∈ lw_tbl := lw_at lw_m6 30 rfl
theorem q1842 : (Jvm.Cond.sameMethod "TwoGuilds$Loose" "TwoGuilds$Loose" "kind" "()I") ∈ lw_all := lw_g (lw_at lw_m8 91 rfl) rfl
theorem q1844 : (Jvm.Cond.sameMethod "TwoGuilds$Loose" "TwoGuilds$Loose" "worth" "()I") ∈ lw_all := lw_g (lw_at lw_m8 93 rfl) rfl
theorem q1847 : (Jvm.Cond.sameMethod "TwoGuilds$Loose" "TwoGuilds$Loose" "fits" "(LTwoGuilds$Glove;)Z") ∈ lw_all := lw_g (lw_at lw_m8 96 rfl) rfl
theorem q1853 : (Jvm.Cond.castable "TwoGuilds$Loose" "TwoGuilds$Glove") ∈ lw_tbl := lw_at lw_m8 102 rfl
theorem in_X6 : ∀ w ∈ wsX60, w ∈ lw_all := lw_in wsX60 [350, 351, 352, 353, 354, 355, 348] (by decide +kernel) (by decide +kernel)

/-! TwoGuilds$Furred -/
set_option maxRecDepth 100000
def RX7 : String := "TwoGuilds$Furred"
def TX7 : u_T := fun k => match k with
  | 0 => ("TwoGuilds$Glove", "side", "I", false)
  | 1 => ("TwoGuilds$Glove", "size", "I", false)
  | 2 => ("TwoGuilds$Glove", "price", "I", false)
  | 3 => ("TwoGuilds$Glove", "wear", "I", false)
  | 4 => ("TwoGuilds$Glove", "isLost", "Z", false)
  | 5 => ("TwoGuilds$Glove", "this$0", "LTwoGuilds;", true)
  | 6 => ("TwoGuilds$Lined", "this$0", "LTwoGuilds;", true)
  | _ => ("TwoGuilds$Furred", "this$0", "LTwoGuilds;", true)
def tyX7 : Nat → FieldType := fun k => match k with
  | 0 => .int
  | 1 => .int
  | 2 => .int
  | 3 => .int
  | 4 => .boolean
  | 5 => .object "TwoGuilds"
  | 6 => .object "TwoGuilds"
  | _ => .object "TwoGuilds"
abbrev wsX70 : List Cond := u_ws RX7 TX7 8
-- two fields of one name: no nmX7
theorem tyX7_ok : ∀ k, k < 8 → parseFieldDescriptor (TX7 k).2.2.1 = some (tyX7 k) := by decide +kernel
abbrev cX7_init : ByteArray := prog_6_method_1_code
def yX7_init : MethodName := ⟨RX7, "<init>", "(LTwoGuilds;)V"⟩
def dkwX7_init_0 : List UInt8 := [42, 43, 181, 0, 1, 42, 43, 183, 0, 7, 177]
abbrev dktX7_init_0 : List UInt8 := dkwX7_init_0 ++ []
theorem dksX7_init_0 : cX7_init.data.toList.drop 0 = dktX7_init_0 := by decide +kernel
theorem dX7_init_0 : decode cX7_init 0 = .ok (.aload_n 0, 1) := dk_42 (dk_at dksX7_init_0 0 rfl rfl)
theorem dX7_init_1 : decode cX7_init 1 = .ok (.aload_n 1, 1) := dk_43 (dk_at dksX7_init_0 1 rfl rfl)
theorem dX7_init_2 : decode cX7_init 2 = .ok (.putfield 1, 3) := dk_181 0 1 (dk_at dksX7_init_0 2 rfl rfl)
theorem dX7_init_5 : decode cX7_init 5 = .ok (.aload_n 0, 1) := dk_42 (dk_at dksX7_init_0 5 rfl rfl)
theorem dX7_init_6 : decode cX7_init 6 = .ok (.aload_n 1, 1) := dk_43 (dk_at dksX7_init_0 6 rfl rfl)
theorem dX7_init_7 : decode cX7_init 7 = .ok (.invokespecial 7, 3) := dk_183 0 7 (dk_at dksX7_init_0 7 rfl rfl)
theorem dX7_init_10 : decode cX7_init 10 = .ok (.return_, 1) := dk_177 (dk_at dksX7_init_0 10 rfl rfl)
abbrev cX7_kind : ByteArray := prog_6_method_2_code
def yX7_kind : MethodName := ⟨RX7, "kind", "()I"⟩
def dkwX7_kind_0 : List UInt8 := [42, 183, 0, 13, 5, 96, 172]
abbrev dktX7_kind_0 : List UInt8 := dkwX7_kind_0 ++ []
theorem dksX7_kind_0 : cX7_kind.data.toList.drop 0 = dktX7_kind_0 := by decide +kernel
theorem dX7_kind_0 : decode cX7_kind 0 = .ok (.aload_n 0, 1) := dk_42 (dk_at dksX7_kind_0 0 rfl rfl)
theorem dX7_kind_1 : decode cX7_kind 1 = .ok (.invokespecial 13, 3) := dk_183 0 13 (dk_at dksX7_kind_0 1 rfl rfl)
theorem dX7_kind_4 : decode cX7_kind 4 = .ok (.iconst 2, 1) := dk_5 (dk_at dksX7_kind_0 4 rfl rfl)
theorem dX7_kind_5 : decode cX7_kind 5 = .ok (.iadd, 1) := dk_96 (dk_at dksX7_kind_0 5 rfl rfl)
theorem dX7_kind_6 : decode cX7_kind 6 = .ok (.ireturn, 1) := dk_172 (dk_at dksX7_kind_0 6 rfl rfl)
abbrev cX7_worth : ByteArray := prog_6_method_4_code
def yX7_worth : MethodName := ⟨RX7, "worth", "()I"⟩
def dkwX7_worth_0 : List UInt8 := [5, 42, 183, 0, 28, 104, 172]
abbrev dktX7_worth_0 : List UInt8 := dkwX7_worth_0 ++ []
theorem dksX7_worth_0 : cX7_worth.data.toList.drop 0 = dktX7_worth_0 := by decide +kernel
theorem dX7_worth_0 : decode cX7_worth 0 = .ok (.iconst 2, 1) := dk_5 (dk_at dksX7_worth_0 0 rfl rfl)
theorem dX7_worth_1 : decode cX7_worth 1 = .ok (.aload_n 0, 1) := dk_42 (dk_at dksX7_worth_0 1 rfl rfl)
theorem dX7_worth_2 : decode cX7_worth 2 = .ok (.invokespecial 28, 3) := dk_183 0 28 (dk_at dksX7_worth_0 2 rfl rfl)
theorem dX7_worth_5 : decode cX7_worth 5 = .ok (.imul, 1) := dk_104 (dk_at dksX7_worth_0 5 rfl rfl)
theorem dX7_worth_6 : decode cX7_worth 6 = .ok (.ireturn, 1) := dk_172 (dk_at dksX7_worth_0 6 rfl rfl)
abbrev cX7_fits : ByteArray := prog_6_method_3_code
def yX7_fits : MethodName := ⟨RX7, "fits", "(LTwoGuilds$Glove;)Z"⟩
def dkwX7_fits_1 : List UInt8 := [167, 0, 4, 3, 172]
abbrev dktX7_fits_1 : List UInt8 := dkwX7_fits_1 ++ []
def dkwX7_fits_0 : List UInt8 := [42, 43, 183, 0, 17, 153, 0, 20, 43, 180, 0, 21, 42, 180, 0, 27, 5, 108, 161, 0, 7, 4]
abbrev dktX7_fits_0 : List UInt8 := dkwX7_fits_0 ++ dktX7_fits_1
theorem dksX7_fits_0 : cX7_fits.data.toList.drop 0 = dktX7_fits_0 := by decide +kernel
theorem dksX7_fits_1 : cX7_fits.data.toList.drop 22 = dktX7_fits_1 := dk_seg dksX7_fits_0 22 rfl rfl
theorem dX7_fits_0 : decode cX7_fits 0 = .ok (.aload_n 0, 1) := dk_42 (dk_at dksX7_fits_0 0 rfl rfl)
theorem dX7_fits_1 : decode cX7_fits 1 = .ok (.aload_n 1, 1) := dk_43 (dk_at dksX7_fits_0 1 rfl rfl)
theorem dX7_fits_2 : decode cX7_fits 2 = .ok (.invokespecial 17, 3) := dk_183 0 17 (dk_at dksX7_fits_0 2 rfl rfl)
theorem dX7_fits_5 : decode cX7_fits 5 = .ok (.ifCond .eq 20, 3) := dk_153 0 20 (dk_at dksX7_fits_0 5 rfl rfl)
theorem dX7_fits_8 : decode cX7_fits 8 = .ok (.aload_n 1, 1) := dk_43 (dk_at dksX7_fits_0 8 rfl rfl)
theorem dX7_fits_9 : decode cX7_fits 9 = .ok (.getfield 21, 3) := dk_180 0 21 (dk_at dksX7_fits_0 9 rfl rfl)
theorem dX7_fits_12 : decode cX7_fits 12 = .ok (.aload_n 0, 1) := dk_42 (dk_at dksX7_fits_0 12 rfl rfl)
theorem dX7_fits_13 : decode cX7_fits 13 = .ok (.getfield 27, 3) := dk_180 0 27 (dk_at dksX7_fits_0 13 rfl rfl)
theorem dX7_fits_16 : decode cX7_fits 16 = .ok (.iconst 2, 1) := dk_5 (dk_at dksX7_fits_0 16 rfl rfl)
theorem dX7_fits_17 : decode cX7_fits 17 = .ok (.idiv, 1) := dk_108 (dk_at dksX7_fits_0 17 rfl rfl)
theorem dX7_fits_18 : decode cX7_fits 18 = .ok (.if_icmp .lt 7, 3) := dk_161 0 7 (dk_at dksX7_fits_0 18 rfl rfl)
theorem dX7_fits_21 : decode cX7_fits 21 = .ok (.iconst 1, 1) := dk_4 (dk_at dksX7_fits_0 21 rfl rfl)
theorem dX7_fits_22 : decode cX7_fits 22 = .ok (.goto 4, 3) := dk_167 0 4 (dk_at dksX7_fits_1 0 rfl rfl)
theorem dX7_fits_25 : decode cX7_fits 25 = .ok (.iconst 0, 1) := dk_3 (dk_at dksX7_fits_1 3 rfl rfl)
theorem dX7_fits_26 : decode cX7_fits 26 = .ok (.ireturn, 1) := dk_172 (dk_at dksX7_fits_1 4 rfl rfl)
theorem q79 : (Jvm.Cond.initialized "TwoGuilds$Furred") ∈ lw_all := lw_g (lw_at lw_m1 8 rfl) rfl
theorem q297 : (Jvm.Cond.fieldLink "TwoGuilds$Furred" (21 : Nat) "TwoGuilds$Glove" "price" "I") ∈ lw_all := lw_g (lw_at lw_m1 226 rfl) rfl
theorem q298 : (Jvm.Cond.fieldLink "TwoGuilds$Furred" (27 : Nat) "TwoGuilds$Furred" "price" "I") ∈ lw_all := lw_g (lw_at lw_m1 227 rfl) rfl
theorem q299 : (Jvm.Cond.sameField "TwoGuilds$Furred" "TwoGuilds$Glove" "price" "I") ∈ lw_all := lw_g (lw_at lw_m1 228 rfl) rfl
theorem q358 : (Jvm.Cond.instantiable "TwoGuilds$Furred" (8 : Nat)) ∈ lw_all := lw_g (lw_at lw_m2 47 rfl) rfl
theorem q360 : (Jvm.Cond.instanceMethod ({ cls := "TwoGuilds$Furred", name := "<init>", desc := "(LTwoGuilds;)V" } : Jvm.MethodName)) ∈ lw_all := lw_g (lw_at lw_m2 49 rfl) rfl
theorem q361 : (Jvm.Cond.code ({ cls := "TwoGuilds$Furred", name := "<init>", desc := "(LTwoGuilds;)V" } : Jvm.MethodName) prog_6_method_1_code (2 : Nat) (Option.none : Option Jvm.ClassFile.FieldType)) ∈ lw_all := lw_g (lw_at lw_m2 50 rfl) rfl
theorem q362 : (Jvm.Cond.methodLinkNest "TwoGuilds$Furred" (7 : Nat) ({ cls := "TwoGuilds$Lined", name := "<init>", desc := "(LTwoGuilds;)V" } : Jvm.MethodName) "TwoGuilds") ∈ lw_tbl := lw_at lw_m2 51 rfl
theorem q363 : (Jvm.Cond.fieldLink "TwoGuilds$Furred" (1 : Nat) "TwoGuilds$Furred" "this$0" "LTwoGuilds;") ∈ lw_all := lw_g (lw_at lw_m2 52 rfl) rfl
theorem q364 : (Jvm.Cond.laysFinal "TwoGuilds$Furred" "TwoGuilds$Furred" "this$0" "LTwoGuilds;") ∈ lw_all := lw_g (lw_at lw_m2 53 rfl) rfl
theorem q365 : (Jvm.Cond.soleField "TwoGuilds$Furred" "this$0") ∈ lw_all := lw_g (lw_at lw_m2 54 rfl) rfl
theorem q366 : (Jvm.Cond.laysFinal "TwoGuilds$Furred" "TwoGuilds$Lined" "this$0" "LTwoGuilds;") ∈ lw_all := lw_g (lw_at lw_m2 55 rfl) rfl
theorem q367 : (Jvm.Cond.lays "TwoGuilds$Furred" "TwoGuilds$Glove" "side" "I") ∈ lw_all := lw_g (lw_at lw_m2 56 rfl) rfl
theorem q368 : (Jvm.Cond.lays "TwoGuilds$Furred" "TwoGuilds$Glove" "size" "I") ∈ lw_all := lw_g (lw_at lw_m2 57 rfl) rfl
theorem q369 : (Jvm.Cond.lays "TwoGuilds$Furred" "TwoGuilds$Glove" "price" "I") ∈ lw_all := lw_g (lw_at lw_m2 58 rfl) rfl
theorem q370 : (Jvm.Cond.lays "TwoGuilds$Furred" "TwoGuilds$Glove" "wear" "I") ∈ lw_all := lw_g (lw_at lw_m2 59 rfl) rfl
theorem q371 : (Jvm.Cond.lays "TwoGuilds$Furred" "TwoGuilds$Glove" "isLost" "Z") ∈ lw_all := lw_g (lw_at lw_m2 60 rfl) rfl
theorem q372 : (Jvm.Cond.laysFinal "TwoGuilds$Furred" "TwoGuilds$Glove" "this$0" "LTwoGuilds;") ∈ lw_all := lw_g (lw_at lw_m2 61 rfl) rfl
theorem q373 : (Jvm.Cond.superclass "TwoGuilds$Furred" "TwoGuilds$Lined") ∈ lw_all := lw_g (lw_at lw_m2 62 rfl) rfl
theorem q426 : (Jvm.Cond.selects "TwoGuilds$Furred" ({ cls := "TwoGuilds$Glove", name := "kind", desc := "()I" } : Jvm.MethodName) ({ cls := "TwoGuilds$Furred", name := "kind", desc := "()I" } : Jvm.MethodName)) ∈ lw_all := lw_g (lw_at lw_m2 115 rfl) rfl
theorem q427 : (Jvm.Cond.instanceMethod ({ cls := "TwoGuilds$Furred", name := "kind", desc := "()I" } : Jvm.MethodName)) ∈ lw_all := lw_g (lw_at lw_m2 116 rfl) rfl
theorem q428 : (Jvm.Cond.code ({ cls := "TwoGuilds$Furred", name := "kind", desc := "()I" } : Jvm.MethodName) prog_6_method_2_code (1 : Nat) (Option.some Jvm.ClassFile.FieldType.int)) ∈ lw_all := lw_g (lw_at lw_m2 117 rfl) rfl
theorem q429 : (Jvm.Cond.methodLink "TwoGuilds$Furred" (13 : Nat) ({ cls := "TwoGuilds$Lined", name := "kind", desc := "()I" } : Jvm.MethodName)) ∈ lw_all := lw_g (lw_at lw_m2 118 rfl) rfl
theorem q454 : (Jvm.Cond.selects "TwoGuilds$Furred" ({ cls := "TwoGuilds$Glove", name := "worth", desc := "()I" } : Jvm.MethodName) ({ cls := "TwoGuilds$Furred", name := "worth", desc := "()I" } : Jvm.MethodName)) ∈ lw_all := lw_g (lw_at lw_m2 143 rfl) rfl
theorem q455 : (Jvm.Cond.instanceMethod ({ cls := "TwoGuilds$Furred", name := "worth", desc := "()I" } : Jvm.MethodName)) ∈ lw_all := lw_g (lw_at lw_m2 144 rfl) rfl
theorem q456 : (Jvm.Cond.code ({ cls := "TwoGuilds$Furred", name := "worth", desc := "()I" } : Jvm.MethodName) prog_6_method_4_code (1 : Nat) (Option.some Jvm.ClassFile.FieldType.int)) ∈ lw_all := lw_g (lw_at lw_m2 145 rfl) rfl
theorem q457 : (Jvm.Cond.methodLink "TwoGuilds$Furred" (28 : Nat) ({ cls := "TwoGuilds$Lined", name := "worth", desc := "()I" } : Jvm.MethodName)) ∈ lw_all := lw_g (lw_at lw_m2 146 rfl) rfl
theorem q571 : (Jvm.Cond.selects "TwoGuilds$Furred" ({ cls := "TwoGuilds$Glove", name := "like", desc := "(LTwoGuilds$Glove;)LTwoGuilds$Glove;" } : Jvm.MethodName) ({ cls := "TwoGuilds$Glove", name := "like", desc := "(LTwoGuilds$Glove;)LTwoGuilds$Glove;" } : Jvm.MethodName)) ∈ lw_all := lw_g (lw_at lw_m3 20 rfl) rfl
theorem q612 : (Jvm.Cond.selects "TwoGuilds$Furred" ({ cls := "TwoGuilds$Glove", name := "turns", desc := "()Z" } : Jvm.MethodName) ({ cls := "TwoGuilds$Glove", name := "turns", desc := "()Z" } : Jvm.MethodName)) ∈ lw_all := lw_g (lw_at lw_m3 61 rfl) rfl
theorem q617 : (Jvm.Cond.selects "TwoGuilds$Furred" ({ cls := "TwoGuilds$Glove", name := "fits", desc := "(LTwoGuilds$Glove;)Z" } : Jvm.MethodName) ({ cls := "TwoGuilds$Furred", name := "fits", desc := "(LTwoGuilds$Glove;)Z" } : Jvm.MethodName)) ∈ lw_all := lw_g (lw_at lw_m3 66 rfl) rfl
theorem q618 : (Jvm.Cond.instanceMethod ({ cls := "TwoGuilds$Furred", name := "fits", desc := "(LTwoGuilds$Glove;)Z" } : Jvm.MethodName)) ∈ lw_all := lw_g (lw_at lw_m3 67 rfl) rfl
theorem q619 : (Jvm.Cond.code ({ cls := "TwoGuilds$Furred", name := "fits", desc := "(LTwoGuilds$Glove;)Z" } : Jvm.MethodName) prog_6_method_3_code (2 : Nat) (Option.some Jvm.ClassFile.FieldType.boolean)) ∈ lw_all := lw_g (lw_at lw_m3 68 rfl) rfl
theorem q620 : (Jvm.Cond.methodLink "TwoGuilds$Furred" (17 : Nat) ({ cls := "TwoGuilds$Lined", name := "fits", desc := "(LTwoGuilds$Glove;)Z" } : Jvm.MethodName)) ∈ lw_all := lw_g (lw_at lw_m3 69 rfl) rfl
theorem q639 : (Jvm.Cond.selects "TwoGuilds$Furred" ({ cls := "TwoGuilds$Glove", name := "pairs", desc := "(LTwoGuilds$Glove;)Z" } : Jvm.MethodName) ({ cls := "TwoGuilds$Glove", name := "pairs", desc := "(LTwoGuilds$Glove;)Z" } : Jvm.MethodName)) ∈ lw_all := lw_g (lw_at lw_m3 88 rfl) rfl
theorem q647 : (Jvm.Cond.unhidden "TwoGuilds$Furred" "isLike" "(LTwoGuilds$Glove;LTwoGuilds$Glove;)Z") ∈ lw_tbl := lw_at lw_m3 96 rfl
theorem q663 : (Jvm.Cond.castable "TwoGuilds$Furred" "TwoGuilds$Fits") ∈ lw_tbl := lw_at lw_m3 112 rfl
theorem q664 : (Jvm.Cond.selects "TwoGuilds$Furred" ({ cls := "TwoGuilds$Fits", name := "fits", desc := "(LTwoGuilds$Glove;)Z" } : Jvm.MethodName) ({ cls := "TwoGuilds$Furred", name := "fits", desc := "(LTwoGuilds$Glove;)Z" } : Jvm.MethodName)) ∈ lw_all := lw_g (lw_at lw_m3 113 rfl) rfl
theorem q665 : (Jvm.Cond.unhidden "TwoGuilds$Furred" "fits" "(LTwoGuilds$Glove;)Z") ∈ lw_tbl := lw_at lw_m3 114 rfl
theorem q666 : (Jvm.Cond.publicMethod ({ cls := "TwoGuilds$Furred", name := "fits", desc := "(LTwoGuilds$Glove;)Z" } : Jvm.MethodName)) ∈ lw_tbl := lw_at lw_m3 115 rfl
theorem q839 : (Jvm.Cond.selects "TwoGuilds$Furred" ({ cls := "TwoGuilds$Glove", name := "wears", desc := "(I)I" } : Jvm.MethodName) ({ cls := "TwoGuilds$Glove", name := "wears", desc := "(I)I" } : Jvm.MethodName)) ∈ lw_all := lw_g (lw_at lw_m4 48 rfl) rfl
theorem q1286 : (Jvm.Cond.castable "TwoGuilds$Furred" "TwoGuilds$Weighs") ∈ lw_tbl := lw_at lw_m6 15 rfl
theorem q1287 : (Jvm.Cond.selects "TwoGuilds$Furred" ({ cls := "TwoGuilds$Weighs", name := "worth", desc := "()I" } : Jvm.MethodName) ({ cls := "TwoGuilds$Furred", name := "worth", desc := "()I" } : Jvm.MethodName)) ∈ lw_all := lw_g (lw_at lw_m6 16 rfl) rfl
theorem q1288 : (Jvm.Cond.unhidden "TwoGuilds$Furred" "worth" "()I") ∈ lw_tbl := lw_at lw_m6 17 rfl
theorem q1289 : (Jvm.Cond.publicMethod ({ cls := "TwoGuilds$Furred", name := "worth", desc := "()I" } : Jvm.MethodName)) ∈ lw_tbl := lw_at lw_m6 18 rfl
theorem q1851 : (Jvm.Cond.castable "TwoGuilds$Furred" "TwoGuilds$Glove") ∈ lw_tbl := lw_at lw_m8 100 rfl
theorem q1855 : (Jvm.Cond.castable "TwoGuilds$Furred" "TwoGuilds$Lined") ∈ lw_tbl := lw_at lw_m8 104 rfl
theorem in_X7 : ∀ w ∈ wsX70, w ∈ lw_all := lw_in wsX70 [367, 368, 369, 370, 371, 372, 366, 364] (by decide +kernel) (by decide +kernel)

/-! TwoGuilds$Forged -/
set_option maxRecDepth 100000
def RX8 : String := "TwoGuilds$Forged"
def TX8 : u_T := fun k => match k with
  | 0 => ("TwoGuilds$Glove", "side", "I", false)
  | 1 => ("TwoGuilds$Glove", "size", "I", false)
  | 2 => ("TwoGuilds$Glove", "price", "I", false)
  | 3 => ("TwoGuilds$Glove", "wear", "I", false)
  | 4 => ("TwoGuilds$Glove", "isLost", "Z", false)
  | 5 => ("TwoGuilds$Glove", "this$0", "LTwoGuilds;", true)
  | 6 => ("TwoGuilds$Loose", "this$0", "LTwoGuilds;", true)
  | _ => ("TwoGuilds$Forged", "this$0", "LTwoGuilds;", true)
def tyX8 : Nat → FieldType := fun k => match k with
  | 0 => .int
  | 1 => .int
  | 2 => .int
  | 3 => .int
  | 4 => .boolean
  | 5 => .object "TwoGuilds"
  | 6 => .object "TwoGuilds"
  | _ => .object "TwoGuilds"
abbrev wsX80 : List Cond := u_ws RX8 TX8 8
-- two fields of one name: no nmX8
theorem tyX8_ok : ∀ k, k < 8 → parseFieldDescriptor (TX8 k).2.2.1 = some (tyX8 k) := by decide +kernel
abbrev cX8_init : ByteArray := prog_5_method_1_code
def yX8_init : MethodName := ⟨RX8, "<init>", "(LTwoGuilds;)V"⟩
def dkwX8_init_0 : List UInt8 := [42, 43, 181, 0, 1, 42, 43, 183, 0, 7, 177]
abbrev dktX8_init_0 : List UInt8 := dkwX8_init_0 ++ []
theorem dksX8_init_0 : cX8_init.data.toList.drop 0 = dktX8_init_0 := by decide +kernel
theorem dX8_init_0 : decode cX8_init 0 = .ok (.aload_n 0, 1) := dk_42 (dk_at dksX8_init_0 0 rfl rfl)
theorem dX8_init_1 : decode cX8_init 1 = .ok (.aload_n 1, 1) := dk_43 (dk_at dksX8_init_0 1 rfl rfl)
theorem dX8_init_2 : decode cX8_init 2 = .ok (.putfield 1, 3) := dk_181 0 1 (dk_at dksX8_init_0 2 rfl rfl)
theorem dX8_init_5 : decode cX8_init 5 = .ok (.aload_n 0, 1) := dk_42 (dk_at dksX8_init_0 5 rfl rfl)
theorem dX8_init_6 : decode cX8_init 6 = .ok (.aload_n 1, 1) := dk_43 (dk_at dksX8_init_0 6 rfl rfl)
theorem dX8_init_7 : decode cX8_init 7 = .ok (.invokespecial 7, 3) := dk_183 0 7 (dk_at dksX8_init_0 7 rfl rfl)
theorem dX8_init_10 : decode cX8_init 10 = .ok (.return_, 1) := dk_177 (dk_at dksX8_init_0 10 rfl rfl)
abbrev cX8_kind : ByteArray := prog_5_method_2_code
def yX8_kind : MethodName := ⟨RX8, "kind", "()I"⟩
def dkwX8_kind_0 : List UInt8 := [42, 183, 0, 13, 5, 96, 172]
abbrev dktX8_kind_0 : List UInt8 := dkwX8_kind_0 ++ []
theorem dksX8_kind_0 : cX8_kind.data.toList.drop 0 = dktX8_kind_0 := by decide +kernel
theorem dX8_kind_0 : decode cX8_kind 0 = .ok (.aload_n 0, 1) := dk_42 (dk_at dksX8_kind_0 0 rfl rfl)
theorem dX8_kind_1 : decode cX8_kind 1 = .ok (.invokespecial 13, 3) := dk_183 0 13 (dk_at dksX8_kind_0 1 rfl rfl)
theorem dX8_kind_4 : decode cX8_kind 4 = .ok (.iconst 2, 1) := dk_5 (dk_at dksX8_kind_0 4 rfl rfl)
theorem dX8_kind_5 : decode cX8_kind 5 = .ok (.iadd, 1) := dk_96 (dk_at dksX8_kind_0 5 rfl rfl)
theorem dX8_kind_6 : decode cX8_kind 6 = .ok (.ireturn, 1) := dk_172 (dk_at dksX8_kind_0 6 rfl rfl)
abbrev cX8_worth : ByteArray := prog_5_method_5_code
def yX8_worth : MethodName := ⟨RX8, "worth", "()I"⟩
def dkwX8_worth_0 : List UInt8 := [42, 183, 0, 28, 6, 100, 172]
abbrev dktX8_worth_0 : List UInt8 := dkwX8_worth_0 ++ []
theorem dksX8_worth_0 : cX8_worth.data.toList.drop 0 = dktX8_worth_0 := by decide +kernel
theorem dX8_worth_0 : decode cX8_worth 0 = .ok (.aload_n 0, 1) := dk_42 (dk_at dksX8_worth_0 0 rfl rfl)
theorem dX8_worth_1 : decode cX8_worth 1 = .ok (.invokespecial 28, 3) := dk_183 0 28 (dk_at dksX8_worth_0 1 rfl rfl)
theorem dX8_worth_4 : decode cX8_worth 4 = .ok (.iconst 3, 1) := dk_6 (dk_at dksX8_worth_0 4 rfl rfl)
theorem dX8_worth_5 : decode cX8_worth 5 = .ok (.isub, 1) := dk_100 (dk_at dksX8_worth_0 5 rfl rfl)
theorem dX8_worth_6 : decode cX8_worth 6 = .ok (.ireturn, 1) := dk_172 (dk_at dksX8_worth_0 6 rfl rfl)
abbrev cX8_fits : ByteArray := prog_5_method_3_code
def yX8_fits : MethodName := ⟨RX8, "fits", "(LTwoGuilds$Glove;)Z"⟩
def dkwX8_fits_0 : List UInt8 := [42, 43, 183, 0, 17, 153, 0, 14, 43, 182, 0, 21, 154, 0, 7, 4, 167, 0, 4, 3, 172]
abbrev dktX8_fits_0 : List UInt8 := dkwX8_fits_0 ++ []
theorem dksX8_fits_0 : cX8_fits.data.toList.drop 0 = dktX8_fits_0 := by decide +kernel
theorem dX8_fits_0 : decode cX8_fits 0 = .ok (.aload_n 0, 1) := dk_42 (dk_at dksX8_fits_0 0 rfl rfl)
theorem dX8_fits_1 : decode cX8_fits 1 = .ok (.aload_n 1, 1) := dk_43 (dk_at dksX8_fits_0 1 rfl rfl)
theorem dX8_fits_2 : decode cX8_fits 2 = .ok (.invokespecial 17, 3) := dk_183 0 17 (dk_at dksX8_fits_0 2 rfl rfl)
theorem dX8_fits_5 : decode cX8_fits 5 = .ok (.ifCond .eq 14, 3) := dk_153 0 14 (dk_at dksX8_fits_0 5 rfl rfl)
theorem dX8_fits_8 : decode cX8_fits 8 = .ok (.aload_n 1, 1) := dk_43 (dk_at dksX8_fits_0 8 rfl rfl)
theorem dX8_fits_9 : decode cX8_fits 9 = .ok (.invokevirtual 21, 3) := dk_182 0 21 (dk_at dksX8_fits_0 9 rfl rfl)
theorem dX8_fits_12 : decode cX8_fits 12 = .ok (.ifCond .ne 7, 3) := dk_154 0 7 (dk_at dksX8_fits_0 12 rfl rfl)
theorem dX8_fits_15 : decode cX8_fits 15 = .ok (.iconst 1, 1) := dk_4 (dk_at dksX8_fits_0 15 rfl rfl)
theorem dX8_fits_16 : decode cX8_fits 16 = .ok (.goto 4, 3) := dk_167 0 4 (dk_at dksX8_fits_0 16 rfl rfl)
theorem dX8_fits_19 : decode cX8_fits 19 = .ok (.iconst 0, 1) := dk_3 (dk_at dksX8_fits_0 19 rfl rfl)
theorem dX8_fits_20 : decode cX8_fits 20 = .ok (.ireturn, 1) := dk_172 (dk_at dksX8_fits_0 20 rfl rfl)
abbrev cX8_turns : ByteArray := prog_5_method_4_code
def yX8_turns : MethodName := ⟨RX8, "turns", "()Z"⟩
def dkwX8_turns_0 : List UInt8 := [42, 183, 0, 27, 154, 0, 7, 4, 167, 0, 4, 3, 172]
abbrev dktX8_turns_0 : List UInt8 := dkwX8_turns_0 ++ []
theorem dksX8_turns_0 : cX8_turns.data.toList.drop 0 = dktX8_turns_0 := by decide +kernel
theorem dX8_turns_0 : decode cX8_turns 0 = .ok (.aload_n 0, 1) := dk_42 (dk_at dksX8_turns_0 0 rfl rfl)
theorem dX8_turns_1 : decode cX8_turns 1 = .ok (.invokespecial 27, 3) := dk_183 0 27 (dk_at dksX8_turns_0 1 rfl rfl)
theorem dX8_turns_4 : decode cX8_turns 4 = .ok (.ifCond .ne 7, 3) := dk_154 0 7 (dk_at dksX8_turns_0 4 rfl rfl)
theorem dX8_turns_7 : decode cX8_turns 7 = .ok (.iconst 1, 1) := dk_4 (dk_at dksX8_turns_0 7 rfl rfl)
theorem dX8_turns_8 : decode cX8_turns 8 = .ok (.goto 4, 3) := dk_167 0 4 (dk_at dksX8_turns_0 8 rfl rfl)
theorem dX8_turns_11 : decode cX8_turns 11 = .ok (.iconst 0, 1) := dk_3 (dk_at dksX8_turns_0 11 rfl rfl)
theorem dX8_turns_12 : decode cX8_turns 12 = .ok (.ireturn, 1) := dk_172 (dk_at dksX8_turns_0 12 rfl rfl)
theorem q80 : (Jvm.Cond.initialized "TwoGuilds$Forged") ∈ lw_all := lw_g (lw_at lw_m1 9 rfl) rfl
theorem q375 : (Jvm.Cond.instantiable "TwoGuilds$Forged" (8 : Nat)) ∈ lw_all := lw_g (lw_at lw_m2 64 rfl) rfl
theorem q377 : (Jvm.Cond.instanceMethod ({ cls := "TwoGuilds$Forged", name := "<init>", desc := "(LTwoGuilds;)V" } : Jvm.MethodName)) ∈ lw_all := lw_g (lw_at lw_m2 66 rfl) rfl
theorem q378 : (Jvm.Cond.code ({ cls := "TwoGuilds$Forged", name := "<init>", desc := "(LTwoGuilds;)V" } : Jvm.MethodName) prog_5_method_1_code (2 : Nat) (Option.none : Option Jvm.ClassFile.FieldType)) ∈ lw_all := lw_g (lw_at lw_m2 67 rfl) rfl
theorem q379 : (Jvm.Cond.methodLinkNest "TwoGuilds$Forged" (7 : Nat) ({ cls := "TwoGuilds$Loose", name := "<init>", desc := "(LTwoGuilds;)V" } : Jvm.MethodName) "TwoGuilds") ∈ lw_tbl := lw_at lw_m2 68 rfl
theorem q380 : (Jvm.Cond.fieldLink "TwoGuilds$Forged" (1 : Nat) "TwoGuilds$Forged" "this$0" "LTwoGuilds;") ∈ lw_all := lw_g (lw_at lw_m2 69 rfl) rfl
theorem q381 : (Jvm.Cond.laysFinal "TwoGuilds$Forged" "TwoGuilds$Forged" "this$0" "LTwoGuilds;") ∈ lw_all := lw_g (lw_at lw_m2 70 rfl) rfl
theorem q382 : (Jvm.Cond.soleField "TwoGuilds$Forged" "this$0") ∈ lw_all := lw_g (lw_at lw_m2 71 rfl) rfl
theorem q383 : (Jvm.Cond.laysFinal "TwoGuilds$Forged" "TwoGuilds$Loose" "this$0" "LTwoGuilds;") ∈ lw_all := lw_g (lw_at lw_m2 72 rfl) rfl
theorem q384 : (Jvm.Cond.lays "TwoGuilds$Forged" "TwoGuilds$Glove" "side" "I") ∈ lw_all := lw_g (lw_at lw_m2 73 rfl) rfl
theorem q385 : (Jvm.Cond.lays "TwoGuilds$Forged" "TwoGuilds$Glove" "size" "I") ∈ lw_all := lw_g (lw_at lw_m2 74 rfl) rfl
theorem q386 : (Jvm.Cond.lays "TwoGuilds$Forged" "TwoGuilds$Glove" "price" "I") ∈ lw_all := lw_g (lw_at lw_m2 75 rfl) rfl
theorem q387 : (Jvm.Cond.lays "TwoGuilds$Forged" "TwoGuilds$Glove" "wear" "I") ∈ lw_all := lw_g (lw_at lw_m2 76 rfl) rfl
theorem q388 : (Jvm.Cond.lays "TwoGuilds$Forged" "TwoGuilds$Glove" "isLost" "Z") ∈ lw_all := lw_g (lw_at lw_m2 77 rfl) rfl
theorem q389 : (Jvm.Cond.laysFinal "TwoGuilds$Forged" "TwoGuilds$Glove" "this$0" "LTwoGuilds;") ∈ lw_all := lw_g (lw_at lw_m2 78 rfl) rfl
theorem q390 : (Jvm.Cond.superclass "TwoGuilds$Forged" "TwoGuilds$Loose") ∈ lw_all := lw_g (lw_at lw_m2 79 rfl) rfl
theorem q419 : (Jvm.Cond.selects "TwoGuilds$Forged" ({ cls := "TwoGuilds$Glove", name := "kind", desc := "()I" } : Jvm.MethodName) ({ cls := "TwoGuilds$Forged", name := "kind", desc := "()I" } : Jvm.MethodName)) ∈ lw_all := lw_g (lw_at lw_m2 108 rfl) rfl
theorem q420 : (Jvm.Cond.instanceMethod ({ cls := "TwoGuilds$Forged", name := "kind", desc := "()I" } : Jvm.MethodName)) ∈ lw_all := lw_g (lw_at lw_m2 109 rfl) rfl
theorem q421 : (Jvm.Cond.code ({ cls := "TwoGuilds$Forged", name := "kind", desc := "()I" } : Jvm.MethodName) prog_5_method_2_code (1 : Nat) (Option.some Jvm.ClassFile.FieldType.int)) ∈ lw_all := lw_g (lw_at lw_m2 110 rfl) rfl
theorem q422 : (Jvm.Cond.methodLink "TwoGuilds$Forged" (13 : Nat) ({ cls := "TwoGuilds$Loose", name := "kind", desc := "()I" } : Jvm.MethodName)) ∈ lw_all := lw_g (lw_at lw_m2 111 rfl) rfl
theorem q447 : (Jvm.Cond.selects "TwoGuilds$Forged" ({ cls := "TwoGuilds$Glove", name := "worth", desc := "()I" } : Jvm.MethodName) ({ cls := "TwoGuilds$Forged", name := "worth", desc := "()I" } : Jvm.MethodName)) ∈ lw_all := lw_g (lw_at lw_m2 136 rfl) rfl
theorem q448 : (Jvm.Cond.instanceMethod ({ cls := "TwoGuilds$Forged", name := "worth", desc := "()I" } : Jvm.MethodName)) ∈ lw_all := lw_g (lw_at lw_m2 137 rfl) rfl
theorem q449 : (Jvm.Cond.code ({ cls := "TwoGuilds$Forged", name := "worth", desc := "()I" } : Jvm.MethodName) prog_5_method_5_code (1 : Nat) (Option.some Jvm.ClassFile.FieldType.int)) ∈ lw_all := lw_g (lw_at lw_m2 138 rfl) rfl
theorem q450 : (Jvm.Cond.methodLink "TwoGuilds$Forged" (28 : Nat) ({ cls := "TwoGuilds$Loose", name := "worth", desc := "()I" } : Jvm.MethodName)) ∈ lw_all := lw_g (lw_at lw_m2 139 rfl) rfl
theorem q570 : (Jvm.Cond.selects "TwoGuilds$Forged" ({ cls := "TwoGuilds$Glove", name := "like", desc := "(LTwoGuilds$Glove;)LTwoGuilds$Glove;" } : Jvm.MethodName) ({ cls := "TwoGuilds$Glove", name := "like", desc := "(LTwoGuilds$Glove;)LTwoGuilds$Glove;" } : Jvm.MethodName)) ∈ lw_all := lw_g (lw_at lw_m3 19 rfl) rfl
theorem q593 : (Jvm.Cond.selects "TwoGuilds$Forged" ({ cls := "TwoGuilds$Glove", name := "fits", desc := "(LTwoGuilds$Glove;)Z" } : Jvm.MethodName) ({ cls := "TwoGuilds$Forged", name := "fits", desc := "(LTwoGuilds$Glove;)Z" } : Jvm.MethodName)) ∈ lw_all := lw_g (lw_at lw_m3 42 rfl) rfl
theorem q594 : (Jvm.Cond.instanceMethod ({ cls := "TwoGuilds$Forged", name := "fits", desc := "(LTwoGuilds$Glove;)Z" } : Jvm.MethodName)) ∈ lw_all := lw_g (lw_at lw_m3 43 rfl) rfl
theorem q595 : (Jvm.Cond.code ({ cls := "TwoGuilds$Forged", name := "fits", desc := "(LTwoGuilds$Glove;)Z" } : Jvm.MethodName) prog_5_method_3_code (2 : Nat) (Option.some Jvm.ClassFile.FieldType.boolean)) ∈ lw_all := lw_g (lw_at lw_m3 44 rfl) rfl
theorem q596 : (Jvm.Cond.methodLink "TwoGuilds$Forged" (17 : Nat) ({ cls := "TwoGuilds$Loose", name := "fits", desc := "(LTwoGuilds$Glove;)Z" } : Jvm.MethodName)) ∈ lw_all := lw_g (lw_at lw_m3 45 rfl) rfl
theorem q602 : (Jvm.Cond.methodLink "TwoGuilds$Forged" (21 : Nat) ({ cls := "TwoGuilds$Glove", name := "turns", desc := "()Z" } : Jvm.MethodName)) ∈ lw_all := lw_g (lw_at lw_m3 51 rfl) rfl
theorem q606 : (Jvm.Cond.selects "TwoGuilds$Forged" ({ cls := "TwoGuilds$Glove", name := "turns", desc := "()Z" } : Jvm.MethodName) ({ cls := "TwoGuilds$Forged", name := "turns", desc := "()Z" } : Jvm.MethodName)) ∈ lw_all := lw_g (lw_at lw_m3 55 rfl) rfl
theorem q607 : (Jvm.Cond.instanceMethod ({ cls := "TwoGuilds$Forged", name := "turns", desc := "()Z" } : Jvm.MethodName)) ∈ lw_all := lw_g (lw_at lw_m3 56 rfl) rfl
theorem q608 : (Jvm.Cond.code ({ cls := "TwoGuilds$Forged", name := "turns", desc := "()Z" } : Jvm.MethodName) prog_5_method_4_code (1 : Nat) (Option.some Jvm.ClassFile.FieldType.boolean)) ∈ lw_all := lw_g (lw_at lw_m3 57 rfl) rfl
theorem q609 : (Jvm.Cond.methodLink "TwoGuilds$Forged" (27 : Nat) ({ cls := "TwoGuilds$Loose", name := "turns", desc := "()Z" } : Jvm.MethodName)) ∈ lw_all := lw_g (lw_at lw_m3 58 rfl) rfl
theorem q638 : (Jvm.Cond.selects "TwoGuilds$Forged" ({ cls := "TwoGuilds$Glove", name := "pairs", desc := "(LTwoGuilds$Glove;)Z" } : Jvm.MethodName) ({ cls := "TwoGuilds$Glove", name := "pairs", desc := "(LTwoGuilds$Glove;)Z" } : Jvm.MethodName)) ∈ lw_all := lw_g (lw_at lw_m3 87 rfl) rfl
theorem q646 : (Jvm.Cond.unhidden "TwoGuilds$Forged" "isLike" "(LTwoGuilds$Glove;LTwoGuilds$Glove;)Z") ∈ lw_tbl := lw_at lw_m3 95 rfl
theorem q659 : (Jvm.Cond.castable "TwoGuilds$Forged" "TwoGuilds$Fits") ∈ lw_tbl := lw_at lw_m3 108 rfl
theorem q660 : (Jvm.Cond.selects "TwoGuilds$Forged" ({ cls := "TwoGuilds$Fits", name := "fits", desc := "(LTwoGuilds$Glove;)Z" } : Jvm.MethodName) ({ cls := "TwoGuilds$Forged", name := "fits", desc := "(LTwoGuilds$Glove;)Z" } : Jvm.MethodName)) ∈ lw_all := lw_g (lw_at lw_m3 109 rfl) rfl
theorem q661 : (Jvm.Cond.unhidden "TwoGuilds$Forged" "fits" "(LTwoGuilds$Glove;)Z") ∈ lw_tbl := lw_at lw_m3 110 rfl
theorem q662 : (Jvm.Cond.publicMethod ({ cls := "TwoGuilds$Forged", name := "fits", desc := "(LTwoGuilds$Glove;)Z" } : Jvm.MethodName)) ∈ lw_tbl := lw_at lw_m3 111 rfl
theorem q838 : (Jvm.Cond.selects "TwoGuilds$Forged" ({ cls := "TwoGuilds$Glove", name := "wears", desc := "(I)I" } : Jvm.MethodName) ({ cls := "TwoGuilds$Glove", name := "wears", desc := "(I)I" } : Jvm.MethodName)) ∈ lw_all := lw_g (lw_at lw_m4 47 rfl) rfl
theorem q1282 : (Jvm.Cond.castable "TwoGuilds$Forged" "TwoGuilds$Weighs") ∈ lw_tbl := lw_at lw_m6 11 rfl
theorem q1283 : (Jvm.Cond.selects "TwoGuilds$Forged" ({ cls := "TwoGuilds$Weighs", name := "worth", desc := "()I" } : Jvm.MethodName) ({ cls := "TwoGuilds$Forged", name := "worth", desc := "()I" } : Jvm.MethodName)) ∈ lw_all := lw_g (lw_at lw_m6 12 rfl) rfl
theorem q1284 : (Jvm.Cond.unhidden "TwoGuilds$Forged" "worth" "()I") ∈ lw_tbl := lw_at lw_m6 13 rfl
theorem q1285 : (Jvm.Cond.publicMethod ({ cls := "TwoGuilds$Forged", name := "worth", desc := "()I" } : Jvm.MethodName)) ∈ lw_tbl := lw_at lw_m6 14 rfl
theorem q1850 : (Jvm.Cond.castable "TwoGuilds$Forged" "TwoGuilds$Glove") ∈ lw_tbl := lw_at lw_m8 99 rfl
theorem q1856 : (Jvm.Cond.castable "TwoGuilds$Forged" "TwoGuilds$Loose") ∈ lw_tbl := lw_at lw_m8 105 rfl
theorem in_X8 : ∀ w ∈ wsX80, w ∈ lw_all := lw_in wsX80 [384, 385, 386, 387, 388, 389, 383, 381] (by decide +kernel) (by decide +kernel)

/-! TwoGuilds$Mitten -/
set_option maxRecDepth 100000
def RX9 : String := "TwoGuilds$Mitten"
def TX9 : u_T := fun k => match k with
  | 0 => ("TwoGuilds$Glove", "side", "I", false)
  | 1 => ("TwoGuilds$Glove", "size", "I", false)
  | 2 => ("TwoGuilds$Glove", "price", "I", false)
  | 3 => ("TwoGuilds$Glove", "wear", "I", false)
  | 4 => ("TwoGuilds$Glove", "isLost", "Z", false)
  | 5 => ("TwoGuilds$Glove", "this$0", "LTwoGuilds;", true)
  | _ => ("TwoGuilds$Mitten", "this$0", "LTwoGuilds;", true)
def tyX9 : Nat → FieldType := fun k => match k with
  | 0 => .int
  | 1 => .int
  | 2 => .int
  | 3 => .int
  | 4 => .boolean
  | 5 => .object "TwoGuilds"
  | _ => .object "TwoGuilds"
abbrev wsX90 : List Cond := u_ws RX9 TX9 7
-- two fields of one name: no nmX9
theorem tyX9_ok : ∀ k, k < 7 → parseFieldDescriptor (TX9 k).2.2.1 = some (tyX9 k) := by decide +kernel
abbrev cX9_init : ByteArray := prog_11_method_1_code
def yX9_init : MethodName := ⟨RX9, "<init>", "(LTwoGuilds;)V"⟩
def dkwX9_init_0 : List UInt8 := [42, 43, 181, 0, 1, 42, 43, 183, 0, 7, 177]
abbrev dktX9_init_0 : List UInt8 := dkwX9_init_0 ++ []
theorem dksX9_init_0 : cX9_init.data.toList.drop 0 = dktX9_init_0 := by decide +kernel
theorem dX9_init_0 : decode cX9_init 0 = .ok (.aload_n 0, 1) := dk_42 (dk_at dksX9_init_0 0 rfl rfl)
theorem dX9_init_1 : decode cX9_init 1 = .ok (.aload_n 1, 1) := dk_43 (dk_at dksX9_init_0 1 rfl rfl)
theorem dX9_init_2 : decode cX9_init 2 = .ok (.putfield 1, 3) := dk_181 0 1 (dk_at dksX9_init_0 2 rfl rfl)
theorem dX9_init_5 : decode cX9_init 5 = .ok (.aload_n 0, 1) := dk_42 (dk_at dksX9_init_0 5 rfl rfl)
theorem dX9_init_6 : decode cX9_init 6 = .ok (.aload_n 1, 1) := dk_43 (dk_at dksX9_init_0 6 rfl rfl)
theorem dX9_init_7 : decode cX9_init 7 = .ok (.invokespecial 7, 3) := dk_183 0 7 (dk_at dksX9_init_0 7 rfl rfl)
theorem dX9_init_10 : decode cX9_init 10 = .ok (.return_, 1) := dk_177 (dk_at dksX9_init_0 10 rfl rfl)
abbrev cX9_kind : ByteArray := prog_11_method_2_code
def yX9_kind : MethodName := ⟨RX9, "kind", "()I"⟩
def dkwX9_kind_0 : List UInt8 := [42, 183, 0, 13, 8, 96, 172]
abbrev dktX9_kind_0 : List UInt8 := dkwX9_kind_0 ++ []
theorem dksX9_kind_0 : cX9_kind.data.toList.drop 0 = dktX9_kind_0 := by decide +kernel
theorem dX9_kind_0 : decode cX9_kind 0 = .ok (.aload_n 0, 1) := dk_42 (dk_at dksX9_kind_0 0 rfl rfl)
theorem dX9_kind_1 : decode cX9_kind 1 = .ok (.invokespecial 13, 3) := dk_183 0 13 (dk_at dksX9_kind_0 1 rfl rfl)
theorem dX9_kind_4 : decode cX9_kind 4 = .ok (.iconst 5, 1) := dk_8 (dk_at dksX9_kind_0 4 rfl rfl)
theorem dX9_kind_5 : decode cX9_kind 5 = .ok (.iadd, 1) := dk_96 (dk_at dksX9_kind_0 5 rfl rfl)
theorem dX9_kind_6 : decode cX9_kind 6 = .ok (.ireturn, 1) := dk_172 (dk_at dksX9_kind_0 6 rfl rfl)
abbrev cX9_worth : ByteArray := prog_11_method_4_code
def yX9_worth : MethodName := ⟨RX9, "worth", "()I"⟩
theorem dX9_worth_0 : decode cX9_worth 0 = .ok (.bipush 8, 2) := by decide +kernel
theorem dX9_worth_2 : decode cX9_worth 2 = .ok (.ireturn, 1) := by decide +kernel
abbrev cX9_fits : ByteArray := prog_11_method_3_code
def yX9_fits : MethodName := ⟨RX9, "fits", "(LTwoGuilds$Glove;)Z"⟩
theorem dX9_fits_0 : decode cX9_fits 0 = .ok (.iconst 1, 1) := by decide +kernel
theorem dX9_fits_1 : decode cX9_fits 1 = .ok (.ireturn, 1) := by decide +kernel
theorem q81 : (Jvm.Cond.initialized "TwoGuilds$Mitten") ∈ lw_all := lw_g (lw_at lw_m1 10 rfl) rfl
theorem q392 : (Jvm.Cond.instantiable "TwoGuilds$Mitten" (7 : Nat)) ∈ lw_all := lw_g (lw_at lw_m2 81 rfl) rfl
theorem q394 : (Jvm.Cond.instanceMethod ({ cls := "TwoGuilds$Mitten", name := "<init>", desc := "(LTwoGuilds;)V" } : Jvm.MethodName)) ∈ lw_all := lw_g (lw_at lw_m2 83 rfl) rfl
theorem q395 : (Jvm.Cond.code ({ cls := "TwoGuilds$Mitten", name := "<init>", desc := "(LTwoGuilds;)V" } : Jvm.MethodName) prog_11_method_1_code (2 : Nat) (Option.none : Option Jvm.ClassFile.FieldType)) ∈ lw_all := lw_g (lw_at lw_m2 84 rfl) rfl
theorem q396 : (Jvm.Cond.methodLinkNest "TwoGuilds$Mitten" (7 : Nat) ({ cls := "TwoGuilds$Glove", name := "<init>", desc := "(LTwoGuilds;)V" } : Jvm.MethodName) "TwoGuilds") ∈ lw_tbl := lw_at lw_m2 85 rfl
theorem q397 : (Jvm.Cond.fieldLink "TwoGuilds$Mitten" (1 : Nat) "TwoGuilds$Mitten" "this$0" "LTwoGuilds;") ∈ lw_all := lw_g (lw_at lw_m2 86 rfl) rfl
theorem q398 : (Jvm.Cond.laysFinal "TwoGuilds$Mitten" "TwoGuilds$Mitten" "this$0" "LTwoGuilds;") ∈ lw_all := lw_g (lw_at lw_m2 87 rfl) rfl
theorem q399 : (Jvm.Cond.soleField "TwoGuilds$Mitten" "this$0") ∈ lw_all := lw_g (lw_at lw_m2 88 rfl) rfl
theorem q400 : (Jvm.Cond.lays "TwoGuilds$Mitten" "TwoGuilds$Glove" "side" "I") ∈ lw_all := lw_g (lw_at lw_m2 89 rfl) rfl
theorem q401 : (Jvm.Cond.lays "TwoGuilds$Mitten" "TwoGuilds$Glove" "size" "I") ∈ lw_all := lw_g (lw_at lw_m2 90 rfl) rfl
theorem q402 : (Jvm.Cond.lays "TwoGuilds$Mitten" "TwoGuilds$Glove" "price" "I") ∈ lw_all := lw_g (lw_at lw_m2 91 rfl) rfl
theorem q403 : (Jvm.Cond.lays "TwoGuilds$Mitten" "TwoGuilds$Glove" "wear" "I") ∈ lw_all := lw_g (lw_at lw_m2 92 rfl) rfl
theorem q404 : (Jvm.Cond.lays "TwoGuilds$Mitten" "TwoGuilds$Glove" "isLost" "Z") ∈ lw_all := lw_g (lw_at lw_m2 93 rfl) rfl
theorem q405 : (Jvm.Cond.laysFinal "TwoGuilds$Mitten" "TwoGuilds$Glove" "this$0" "LTwoGuilds;") ∈ lw_all := lw_g (lw_at lw_m2 94 rfl) rfl
theorem q406 : (Jvm.Cond.superclass "TwoGuilds$Mitten" "TwoGuilds$Glove") ∈ lw_all := lw_g (lw_at lw_m2 95 rfl) rfl
theorem q435 : (Jvm.Cond.selects "TwoGuilds$Mitten" ({ cls := "TwoGuilds$Glove", name := "kind", desc := "()I" } : Jvm.MethodName) ({ cls := "TwoGuilds$Mitten", name := "kind", desc := "()I" } : Jvm.MethodName)) ∈ lw_all := lw_g (lw_at lw_m2 124 rfl) rfl
theorem q436 : (Jvm.Cond.instanceMethod ({ cls := "TwoGuilds$Mitten", name := "kind", desc := "()I" } : Jvm.MethodName)) ∈ lw_all := lw_g (lw_at lw_m2 125 rfl) rfl
theorem q437 : (Jvm.Cond.code ({ cls := "TwoGuilds$Mitten", name := "kind", desc := "()I" } : Jvm.MethodName) prog_11_method_2_code (1 : Nat) (Option.some Jvm.ClassFile.FieldType.int)) ∈ lw_all := lw_g (lw_at lw_m2 126 rfl) rfl
theorem q438 : (Jvm.Cond.methodLink "TwoGuilds$Mitten" (13 : Nat) ({ cls := "TwoGuilds$Glove", name := "kind", desc := "()I" } : Jvm.MethodName)) ∈ lw_all := lw_g (lw_at lw_m2 127 rfl) rfl
theorem q463 : (Jvm.Cond.selects "TwoGuilds$Mitten" ({ cls := "TwoGuilds$Glove", name := "worth", desc := "()I" } : Jvm.MethodName) ({ cls := "TwoGuilds$Mitten", name := "worth", desc := "()I" } : Jvm.MethodName)) ∈ lw_all := lw_g (lw_at lw_m2 152 rfl) rfl
theorem q464 : (Jvm.Cond.instanceMethod ({ cls := "TwoGuilds$Mitten", name := "worth", desc := "()I" } : Jvm.MethodName)) ∈ lw_all := lw_g (lw_at lw_m2 153 rfl) rfl
theorem q465 : (Jvm.Cond.code ({ cls := "TwoGuilds$Mitten", name := "worth", desc := "()I" } : Jvm.MethodName) prog_11_method_4_code (1 : Nat) (Option.some Jvm.ClassFile.FieldType.int)) ∈ lw_all := lw_g (lw_at lw_m2 154 rfl) rfl
theorem q574 : (Jvm.Cond.selects "TwoGuilds$Mitten" ({ cls := "TwoGuilds$Glove", name := "like", desc := "(LTwoGuilds$Glove;)LTwoGuilds$Glove;" } : Jvm.MethodName) ({ cls := "TwoGuilds$Glove", name := "like", desc := "(LTwoGuilds$Glove;)LTwoGuilds$Glove;" } : Jvm.MethodName)) ∈ lw_all := lw_g (lw_at lw_m3 23 rfl) rfl
theorem q615 : (Jvm.Cond.selects "TwoGuilds$Mitten" ({ cls := "TwoGuilds$Glove", name := "turns", desc := "()Z" } : Jvm.MethodName) ({ cls := "TwoGuilds$Glove", name := "turns", desc := "()Z" } : Jvm.MethodName)) ∈ lw_all := lw_g (lw_at lw_m3 64 rfl) rfl
theorem q626 : (Jvm.Cond.selects "TwoGuilds$Mitten" ({ cls := "TwoGuilds$Glove", name := "fits", desc := "(LTwoGuilds$Glove;)Z" } : Jvm.MethodName) ({ cls := "TwoGuilds$Mitten", name := "fits", desc := "(LTwoGuilds$Glove;)Z" } : Jvm.MethodName)) ∈ lw_all := lw_g (lw_at lw_m3 75 rfl) rfl
theorem q627 : (Jvm.Cond.instanceMethod ({ cls := "TwoGuilds$Mitten", name := "fits", desc := "(LTwoGuilds$Glove;)Z" } : Jvm.MethodName)) ∈ lw_all := lw_g (lw_at lw_m3 76 rfl) rfl
theorem q628 : (Jvm.Cond.code ({ cls := "TwoGuilds$Mitten", name := "fits", desc := "(LTwoGuilds$Glove;)Z" } : Jvm.MethodName) prog_11_method_3_code (2 : Nat) (Option.some Jvm.ClassFile.FieldType.boolean)) ∈ lw_all := lw_g (lw_at lw_m3 77 rfl) rfl
theorem q642 : (Jvm.Cond.selects "TwoGuilds$Mitten" ({ cls := "TwoGuilds$Glove", name := "pairs", desc := "(LTwoGuilds$Glove;)Z" } : Jvm.MethodName) ({ cls := "TwoGuilds$Glove", name := "pairs", desc := "(LTwoGuilds$Glove;)Z" } : Jvm.MethodName)) ∈ lw_all := lw_g (lw_at lw_m3 91 rfl) rfl
theorem q651 : (Jvm.Cond.unhidden "TwoGuilds$Mitten" "isLike" "(LTwoGuilds$Glove;LTwoGuilds$Glove;)Z") ∈ lw_tbl := lw_at lw_m3 100 rfl
theorem q679 : (Jvm.Cond.castable "TwoGuilds$Mitten" "TwoGuilds$Fits") ∈ lw_tbl := lw_at lw_m3 128 rfl
theorem q680 : (Jvm.Cond.selects "TwoGuilds$Mitten" ({ cls := "TwoGuilds$Fits", name := "fits", desc := "(LTwoGuilds$Glove;)Z" } : Jvm.MethodName) ({ cls := "TwoGuilds$Mitten", name := "fits", desc := "(LTwoGuilds$Glove;)Z" } : Jvm.MethodName)) ∈ lw_all := lw_g (lw_at lw_m3 129 rfl) rfl
theorem q681 : (Jvm.Cond.unhidden "TwoGuilds$Mitten" "fits" "(LTwoGuilds$Glove;)Z") ∈ lw_tbl := lw_at lw_m3 130 rfl
theorem q682 : (Jvm.Cond.publicMethod ({ cls := "TwoGuilds$Mitten", name := "fits", desc := "(LTwoGuilds$Glove;)Z" } : Jvm.MethodName)) ∈ lw_tbl := lw_at lw_m3 131 rfl
theorem q842 : (Jvm.Cond.selects "TwoGuilds$Mitten" ({ cls := "TwoGuilds$Glove", name := "wears", desc := "(I)I" } : Jvm.MethodName) ({ cls := "TwoGuilds$Glove", name := "wears", desc := "(I)I" } : Jvm.MethodName)) ∈ lw_all := lw_g (lw_at lw_m4 51 rfl) rfl
theorem q1302 : (Jvm.Cond.castable "TwoGuilds$Mitten" "TwoGuilds$Weighs") ∈ lw_tbl := lw_at lw_m6 31 rfl
theorem q1303 : (Jvm.Cond.selects "TwoGuilds$Mitten" ({ cls := "TwoGuilds$Weighs", name := "worth", desc := "()I" } : Jvm.MethodName) ({ cls := "TwoGuilds$Mitten", name := "worth", desc := "()I" } : Jvm.MethodName)) ∈ lw_all := lw_g (lw_at lw_m6 32 rfl) rfl
theorem q1304 : (Jvm.Cond.unhidden "TwoGuilds$Mitten" "worth" "()I") ∈ lw_tbl := lw_at lw_m6 33 rfl
theorem q1305 : (Jvm.Cond.publicMethod ({ cls := "TwoGuilds$Mitten", name := "worth", desc := "()I" } : Jvm.MethodName)) ∈ lw_tbl := lw_at lw_m6 34 rfl
theorem q1854 : (Jvm.Cond.castable "TwoGuilds$Mitten" "TwoGuilds$Glove") ∈ lw_tbl := lw_at lw_m8 103 rfl
theorem in_X9 : ∀ w ∈ wsX90, w ∈ lw_all := lw_in wsX90 [400, 401, 402, 403, 404, 405, 398] (by decide +kernel) (by decide +kernel)

/-! TwoGuilds$Two -/
set_option maxRecDepth 100000
def RX10 : String := "TwoGuilds$Two"
def TX10 : u_T := fun k => match k with
  | 0 => ("TwoGuilds$Two", "sign", "I", true)
  | 1 => ("TwoGuilds$Two", "a", "LTwoGuilds$Worth;", true)
  | _ => ("TwoGuilds$Two", "b", "LTwoGuilds$Worth;", true)
def tyX10 : Nat → FieldType := fun k => match k with
  | 0 => .int
  | 1 => .object "TwoGuilds$Worth"
  | _ => .object "TwoGuilds$Worth"
abbrev wsX100 : List Cond := u_ws RX10 TX10 3
theorem nmX10 : ∀ a, a < 3 → ∀ b, b < 3 → a ≠ b → (TX10 a).2.1 ≠ (TX10 b).2.1 := by decide +kernel
theorem tyX10_ok : ∀ k, k < 3 → parseFieldDescriptor (TX10 k).2.2.1 = some (tyX10 k) := by decide +kernel
abbrev cX10_worth : ByteArray := prog_18_method_2_code
def yX10_worth : MethodName := ⟨RX10, "worth", "()I"⟩
def dkwX10_worth_5 : List UInt8 := [153, 0, 7, 4, 167, 0, 4, 3, 172]
abbrev dktX10_worth_5 : List UInt8 := dkwX10_worth_5 ++ []
def dkwX10_worth_4 : List UInt8 := [167, 0, 4, 3, 172, 27, 153, 0, 11, 28, 153, 0, 7, 4, 167, 0, 4, 3, 172, 27, 154, 0, 7, 28]
abbrev dktX10_worth_4 : List UInt8 := dkwX10_worth_4 ++ dktX10_worth_5
def dkwX10_worth_3 : List UInt8 := [167, 0, 4, 3, 172, 27, 28, 160, 0, 7, 4, 167, 0, 4, 3, 172, 27, 28, 164, 0, 7, 4]
abbrev dktX10_worth_3 : List UInt8 := dkwX10_worth_3 ++ dktX10_worth_4
def dkwX10_worth_2 : List UInt8 := [27, 28, 96, 172, 27, 28, 100, 172, 27, 28, 104, 172, 27, 28, 184, 0, 26, 172, 27, 28, 162, 0, 7, 4]
abbrev dktX10_worth_2 : List UInt8 := dkwX10_worth_2 ++ dktX10_worth_3
def dkwX10_worth_1 : List UInt8 := [170, 0, 0, 0, 0, 0, 0, 181, 0, 0, 0, 38, 0, 0, 0, 62, 0, 0, 0, 167, 0, 0, 0, 181, 0, 0, 0, 181, 0, 0, 0, 181, 0, 0, 0, 124, 0, 0, 0, 116, 0, 0, 0, 181, 0, 0, 0, 120, 0, 0, 0, 181, 0, 0, 0, 128, 0, 0, 0, 181, 0, 0, 0, 181, 0, 0, 0, 181, 0, 0, 0, 181, 0, 0, 0, 181, 0, 0, 0, 181, 0, 0, 0, 181, 0, 0, 0, 181, 0, 0, 0, 181, 0, 0, 0, 181, 0, 0, 0, 181, 0, 0, 0, 181, 0, 0, 0, 134, 0, 0, 0, 145, 0, 0, 0, 156]
abbrev dktX10_worth_1 : List UInt8 := dkwX10_worth_1 ++ dktX10_worth_2
def dkwX10_worth_0 : List UInt8 := [42, 180, 0, 13, 185, 0, 20, 1, 0, 60, 42, 180, 0, 17, 185, 0, 20, 1, 0, 61, 42, 180, 0, 7]
abbrev dktX10_worth_0 : List UInt8 := dkwX10_worth_0 ++ dktX10_worth_1
theorem dksX10_worth_0 : cX10_worth.data.toList.drop 0 = dktX10_worth_0 := by decide +kernel
theorem dksX10_worth_1 : cX10_worth.data.toList.drop 24 = dktX10_worth_1 := dk_seg dksX10_worth_0 24 rfl rfl
theorem dksX10_worth_2 : cX10_worth.data.toList.drop 140 = dktX10_worth_2 := dk_seg dksX10_worth_1 116 rfl rfl
theorem dksX10_worth_3 : cX10_worth.data.toList.drop 164 = dktX10_worth_3 := dk_seg dksX10_worth_2 24 rfl rfl
theorem dksX10_worth_4 : cX10_worth.data.toList.drop 186 = dktX10_worth_4 := dk_seg dksX10_worth_3 22 rfl rfl
theorem dksX10_worth_5 : cX10_worth.data.toList.drop 210 = dktX10_worth_5 := dk_seg dksX10_worth_4 24 rfl rfl
theorem dX10_worth_0 : decode cX10_worth 0 = .ok (.aload_n 0, 1) := dk_42 (dk_at dksX10_worth_0 0 rfl rfl)
theorem dX10_worth_1 : decode cX10_worth 1 = .ok (.getfield 13, 3) := dk_180 0 13 (dk_at dksX10_worth_0 1 rfl rfl)
theorem dX10_worth_4 : decode cX10_worth 4 = .ok (.invokeinterface 20 1, 5) := by decide +kernel
theorem dX10_worth_9 : decode cX10_worth 9 = .ok (.istore_n 1, 1) := dk_60 (dk_at dksX10_worth_0 9 rfl rfl)
theorem dX10_worth_10 : decode cX10_worth 10 = .ok (.aload_n 0, 1) := dk_42 (dk_at dksX10_worth_0 10 rfl rfl)
theorem dX10_worth_11 : decode cX10_worth 11 = .ok (.getfield 17, 3) := dk_180 0 17 (dk_at dksX10_worth_0 11 rfl rfl)
theorem dX10_worth_14 : decode cX10_worth 14 = .ok (.invokeinterface 20 1, 5) := by decide +kernel
theorem dX10_worth_19 : decode cX10_worth 19 = .ok (.istore_n 2, 1) := dk_61 (dk_at dksX10_worth_0 19 rfl rfl)
theorem dX10_worth_20 : decode cX10_worth 20 = .ok (.aload_n 0, 1) := dk_42 (dk_at dksX10_worth_0 20 rfl rfl)
theorem dX10_worth_21 : decode cX10_worth 21 = .ok (.getfield 7, 3) := dk_180 0 7 (dk_at dksX10_worth_0 21 rfl rfl)
theorem dX10_worth_24 : decode cX10_worth 24 = .ok (.tableswitch 181 38 62 #[167, 181, 181, 181, 124, 116, 181, 120, 181, 128, 181, 181, 181, 181, 181, 181, 181, 181, 181, 181, 181, 181, 134, 145, 156], 116) := by decide +kernel
theorem dX10_worth_140 : decode cX10_worth 140 = .ok (.iload_n 1, 1) := dk_27 (dk_at dksX10_worth_2 0 rfl rfl)
theorem dX10_worth_141 : decode cX10_worth 141 = .ok (.iload_n 2, 1) := dk_28 (dk_at dksX10_worth_2 1 rfl rfl)
theorem dX10_worth_142 : decode cX10_worth 142 = .ok (.iadd, 1) := dk_96 (dk_at dksX10_worth_2 2 rfl rfl)
theorem dX10_worth_143 : decode cX10_worth 143 = .ok (.ireturn, 1) := dk_172 (dk_at dksX10_worth_2 3 rfl rfl)
theorem dX10_worth_144 : decode cX10_worth 144 = .ok (.iload_n 1, 1) := dk_27 (dk_at dksX10_worth_2 4 rfl rfl)
theorem dX10_worth_145 : decode cX10_worth 145 = .ok (.iload_n 2, 1) := dk_28 (dk_at dksX10_worth_2 5 rfl rfl)
theorem dX10_worth_146 : decode cX10_worth 146 = .ok (.isub, 1) := dk_100 (dk_at dksX10_worth_2 6 rfl rfl)
theorem dX10_worth_147 : decode cX10_worth 147 = .ok (.ireturn, 1) := dk_172 (dk_at dksX10_worth_2 7 rfl rfl)
theorem dX10_worth_148 : decode cX10_worth 148 = .ok (.iload_n 1, 1) := dk_27 (dk_at dksX10_worth_2 8 rfl rfl)
theorem dX10_worth_149 : decode cX10_worth 149 = .ok (.iload_n 2, 1) := dk_28 (dk_at dksX10_worth_2 9 rfl rfl)
theorem dX10_worth_150 : decode cX10_worth 150 = .ok (.imul, 1) := dk_104 (dk_at dksX10_worth_2 10 rfl rfl)
theorem dX10_worth_151 : decode cX10_worth 151 = .ok (.ireturn, 1) := dk_172 (dk_at dksX10_worth_2 11 rfl rfl)
theorem dX10_worth_152 : decode cX10_worth 152 = .ok (.iload_n 1, 1) := dk_27 (dk_at dksX10_worth_2 12 rfl rfl)
theorem dX10_worth_153 : decode cX10_worth 153 = .ok (.iload_n 2, 1) := dk_28 (dk_at dksX10_worth_2 13 rfl rfl)
theorem dX10_worth_154 : decode cX10_worth 154 = .ok (.invokestatic 26, 3) := dk_184 0 26 (dk_at dksX10_worth_2 14 rfl rfl)
theorem dX10_worth_157 : decode cX10_worth 157 = .ok (.ireturn, 1) := dk_172 (dk_at dksX10_worth_2 17 rfl rfl)
theorem dX10_worth_158 : decode cX10_worth 158 = .ok (.iload_n 1, 1) := dk_27 (dk_at dksX10_worth_2 18 rfl rfl)
theorem dX10_worth_159 : decode cX10_worth 159 = .ok (.iload_n 2, 1) := dk_28 (dk_at dksX10_worth_2 19 rfl rfl)
theorem dX10_worth_160 : decode cX10_worth 160 = .ok (.if_icmp .ge 7, 3) := dk_162 0 7 (dk_at dksX10_worth_2 20 rfl rfl)
theorem dX10_worth_163 : decode cX10_worth 163 = .ok (.iconst 1, 1) := dk_4 (dk_at dksX10_worth_2 23 rfl rfl)
theorem dX10_worth_164 : decode cX10_worth 164 = .ok (.goto 4, 3) := dk_167 0 4 (dk_at dksX10_worth_3 0 rfl rfl)
theorem dX10_worth_167 : decode cX10_worth 167 = .ok (.iconst 0, 1) := dk_3 (dk_at dksX10_worth_3 3 rfl rfl)
theorem dX10_worth_168 : decode cX10_worth 168 = .ok (.ireturn, 1) := dk_172 (dk_at dksX10_worth_3 4 rfl rfl)
theorem dX10_worth_169 : decode cX10_worth 169 = .ok (.iload_n 1, 1) := dk_27 (dk_at dksX10_worth_3 5 rfl rfl)
theorem dX10_worth_170 : decode cX10_worth 170 = .ok (.iload_n 2, 1) := dk_28 (dk_at dksX10_worth_3 6 rfl rfl)
theorem dX10_worth_171 : decode cX10_worth 171 = .ok (.if_icmp .ne 7, 3) := dk_160 0 7 (dk_at dksX10_worth_3 7 rfl rfl)
theorem dX10_worth_174 : decode cX10_worth 174 = .ok (.iconst 1, 1) := dk_4 (dk_at dksX10_worth_3 10 rfl rfl)
theorem dX10_worth_175 : decode cX10_worth 175 = .ok (.goto 4, 3) := dk_167 0 4 (dk_at dksX10_worth_3 11 rfl rfl)
theorem dX10_worth_178 : decode cX10_worth 178 = .ok (.iconst 0, 1) := dk_3 (dk_at dksX10_worth_3 14 rfl rfl)
theorem dX10_worth_179 : decode cX10_worth 179 = .ok (.ireturn, 1) := dk_172 (dk_at dksX10_worth_3 15 rfl rfl)
theorem dX10_worth_180 : decode cX10_worth 180 = .ok (.iload_n 1, 1) := dk_27 (dk_at dksX10_worth_3 16 rfl rfl)
theorem dX10_worth_181 : decode cX10_worth 181 = .ok (.iload_n 2, 1) := dk_28 (dk_at dksX10_worth_3 17 rfl rfl)
theorem dX10_worth_182 : decode cX10_worth 182 = .ok (.if_icmp .le 7, 3) := dk_164 0 7 (dk_at dksX10_worth_3 18 rfl rfl)
theorem dX10_worth_185 : decode cX10_worth 185 = .ok (.iconst 1, 1) := dk_4 (dk_at dksX10_worth_3 21 rfl rfl)
theorem dX10_worth_186 : decode cX10_worth 186 = .ok (.goto 4, 3) := dk_167 0 4 (dk_at dksX10_worth_4 0 rfl rfl)
theorem dX10_worth_189 : decode cX10_worth 189 = .ok (.iconst 0, 1) := dk_3 (dk_at dksX10_worth_4 3 rfl rfl)
theorem dX10_worth_190 : decode cX10_worth 190 = .ok (.ireturn, 1) := dk_172 (dk_at dksX10_worth_4 4 rfl rfl)
theorem dX10_worth_191 : decode cX10_worth 191 = .ok (.iload_n 1, 1) := dk_27 (dk_at dksX10_worth_4 5 rfl rfl)
theorem dX10_worth_192 : decode cX10_worth 192 = .ok (.ifCond .eq 11, 3) := dk_153 0 11 (dk_at dksX10_worth_4 6 rfl rfl)
theorem dX10_worth_195 : decode cX10_worth 195 = .ok (.iload_n 2, 1) := dk_28 (dk_at dksX10_worth_4 9 rfl rfl)
theorem dX10_worth_196 : decode cX10_worth 196 = .ok (.ifCond .eq 7, 3) := dk_153 0 7 (dk_at dksX10_worth_4 10 rfl rfl)
theorem dX10_worth_199 : decode cX10_worth 199 = .ok (.iconst 1, 1) := dk_4 (dk_at dksX10_worth_4 13 rfl rfl)
theorem dX10_worth_200 : decode cX10_worth 200 = .ok (.goto 4, 3) := dk_167 0 4 (dk_at dksX10_worth_4 14 rfl rfl)
theorem dX10_worth_203 : decode cX10_worth 203 = .ok (.iconst 0, 1) := dk_3 (dk_at dksX10_worth_4 17 rfl rfl)
theorem dX10_worth_204 : decode cX10_worth 204 = .ok (.ireturn, 1) := dk_172 (dk_at dksX10_worth_4 18 rfl rfl)
theorem dX10_worth_205 : decode cX10_worth 205 = .ok (.iload_n 1, 1) := dk_27 (dk_at dksX10_worth_4 19 rfl rfl)
theorem dX10_worth_206 : decode cX10_worth 206 = .ok (.ifCond .ne 7, 3) := dk_154 0 7 (dk_at dksX10_worth_4 20 rfl rfl)
theorem dX10_worth_209 : decode cX10_worth 209 = .ok (.iload_n 2, 1) := dk_28 (dk_at dksX10_worth_4 23 rfl rfl)
theorem dX10_worth_210 : decode cX10_worth 210 = .ok (.ifCond .eq 7, 3) := dk_153 0 7 (dk_at dksX10_worth_5 0 rfl rfl)
theorem dX10_worth_213 : decode cX10_worth 213 = .ok (.iconst 1, 1) := dk_4 (dk_at dksX10_worth_5 3 rfl rfl)
theorem dX10_worth_214 : decode cX10_worth 214 = .ok (.goto 4, 3) := dk_167 0 4 (dk_at dksX10_worth_5 4 rfl rfl)
theorem dX10_worth_217 : decode cX10_worth 217 = .ok (.iconst 0, 1) := dk_3 (dk_at dksX10_worth_5 7 rfl rfl)
theorem dX10_worth_218 : decode cX10_worth 218 = .ok (.ireturn, 1) := dk_172 (dk_at dksX10_worth_5 8 rfl rfl)
abbrev cX10_over : ByteArray := prog_18_method_3_code
def yX10_over : MethodName := ⟨RX10, "over", "(II)I"⟩
def dkwX10_over_0 : List UInt8 := [27, 154, 0, 7, 3, 167, 0, 6, 26, 27, 108, 172]
abbrev dktX10_over_0 : List UInt8 := dkwX10_over_0 ++ []
theorem dksX10_over_0 : cX10_over.data.toList.drop 0 = dktX10_over_0 := by decide +kernel
theorem dX10_over_0 : decode cX10_over 0 = .ok (.iload_n 1, 1) := dk_27 (dk_at dksX10_over_0 0 rfl rfl)
theorem dX10_over_1 : decode cX10_over 1 = .ok (.ifCond .ne 7, 3) := dk_154 0 7 (dk_at dksX10_over_0 1 rfl rfl)
theorem dX10_over_4 : decode cX10_over 4 = .ok (.iconst 0, 1) := dk_3 (dk_at dksX10_over_0 4 rfl rfl)
theorem dX10_over_5 : decode cX10_over 5 = .ok (.goto 6, 3) := dk_167 0 6 (dk_at dksX10_over_0 5 rfl rfl)
theorem dX10_over_8 : decode cX10_over 8 = .ok (.iload_n 0, 1) := dk_26 (dk_at dksX10_over_0 8 rfl rfl)
theorem dX10_over_9 : decode cX10_over 9 = .ok (.iload_n 1, 1) := dk_27 (dk_at dksX10_over_0 9 rfl rfl)
theorem dX10_over_10 : decode cX10_over 10 = .ok (.idiv, 1) := dk_108 (dk_at dksX10_over_0 10 rfl rfl)
theorem dX10_over_11 : decode cX10_over 11 = .ok (.ireturn, 1) := dk_172 (dk_at dksX10_over_0 11 rfl rfl)
abbrev cX10_init : ByteArray := prog_18_method_1_code
def yX10_init : MethodName := ⟨RX10, "<init>", "(ILTwoGuilds$Worth;LTwoGuilds$Worth;)V"⟩
def dkwX10_init_0 : List UInt8 := [42, 183, 0, 1, 42, 27, 181, 0, 7, 42, 44, 181, 0, 13, 42, 45, 181, 0, 17, 177]
abbrev dktX10_init_0 : List UInt8 := dkwX10_init_0 ++ []
theorem dksX10_init_0 : cX10_init.data.toList.drop 0 = dktX10_init_0 := by decide +kernel
theorem dX10_init_0 : decode cX10_init 0 = .ok (.aload_n 0, 1) := dk_42 (dk_at dksX10_init_0 0 rfl rfl)
theorem dX10_init_1 : decode cX10_init 1 = .ok (.invokespecial 1, 3) := dk_183 0 1 (dk_at dksX10_init_0 1 rfl rfl)
theorem dX10_init_4 : decode cX10_init 4 = .ok (.aload_n 0, 1) := dk_42 (dk_at dksX10_init_0 4 rfl rfl)
theorem dX10_init_5 : decode cX10_init 5 = .ok (.iload_n 1, 1) := dk_27 (dk_at dksX10_init_0 5 rfl rfl)
theorem dX10_init_6 : decode cX10_init 6 = .ok (.putfield 7, 3) := dk_181 0 7 (dk_at dksX10_init_0 6 rfl rfl)
theorem dX10_init_9 : decode cX10_init 9 = .ok (.aload_n 0, 1) := dk_42 (dk_at dksX10_init_0 9 rfl rfl)
theorem dX10_init_10 : decode cX10_init 10 = .ok (.aload_n 2, 1) := dk_44 (dk_at dksX10_init_0 10 rfl rfl)
theorem dX10_init_11 : decode cX10_init 11 = .ok (.putfield 13, 3) := dk_181 0 13 (dk_at dksX10_init_0 11 rfl rfl)
theorem dX10_init_14 : decode cX10_init 14 = .ok (.aload_n 0, 1) := dk_42 (dk_at dksX10_init_0 14 rfl rfl)
theorem dX10_init_15 : decode cX10_init 15 = .ok (.aload_n 3, 1) := dk_45 (dk_at dksX10_init_0 15 rfl rfl)
theorem dX10_init_16 : decode cX10_init 16 = .ok (.putfield 17, 3) := dk_181 0 17 (dk_at dksX10_init_0 16 rfl rfl)
theorem dX10_init_19 : decode cX10_init 19 = .ok (.return_, 1) := dk_177 (dk_at dksX10_init_0 19 rfl rfl)
theorem q88 : (Jvm.Cond.initialized "TwoGuilds$Two") ∈ lw_all := lw_g (lw_at lw_m1 17 rfl) rfl
theorem q726 : (Jvm.Cond.castable "TwoGuilds$Two" "TwoGuilds$Worth") ∈ lw_tbl := lw_at lw_m3 175 rfl
theorem q727 : (Jvm.Cond.selects "TwoGuilds$Two" ({ cls := "TwoGuilds$Worth", name := "worth", desc := "()I" } : Jvm.MethodName) ({ cls := "TwoGuilds$Two", name := "worth", desc := "()I" } : Jvm.MethodName)) ∈ lw_all := lw_g (lw_at lw_m3 176 rfl) rfl
theorem q728 : (Jvm.Cond.unhidden "TwoGuilds$Two" "worth" "()I") ∈ lw_tbl := lw_at lw_m3 177 rfl
theorem q729 : (Jvm.Cond.instanceMethod ({ cls := "TwoGuilds$Two", name := "worth", desc := "()I" } : Jvm.MethodName)) ∈ lw_all := lw_g (lw_at lw_m3 178 rfl) rfl
theorem q730 : (Jvm.Cond.publicMethod ({ cls := "TwoGuilds$Two", name := "worth", desc := "()I" } : Jvm.MethodName)) ∈ lw_tbl := lw_at lw_m3 179 rfl
theorem q731 : (Jvm.Cond.code ({ cls := "TwoGuilds$Two", name := "worth", desc := "()I" } : Jvm.MethodName) prog_18_method_2_code (3 : Nat) (Option.some Jvm.ClassFile.FieldType.int)) ∈ lw_all := lw_g (lw_at lw_m3 180 rfl) rfl
theorem q732 : (Jvm.Cond.interfaceEntry "TwoGuilds$Two" (20 : Nat)) ∈ lw_tbl := lw_at lw_m3 181 rfl
theorem q733 : (Jvm.Cond.methodLink "TwoGuilds$Two" (20 : Nat) ({ cls := "TwoGuilds$Worth", name := "worth", desc := "()I" } : Jvm.MethodName)) ∈ lw_all := lw_g (lw_at lw_m3 182 rfl) rfl
theorem q734 : (Jvm.Cond.methodLink "TwoGuilds$Two" (26 : Nat) ({ cls := "TwoGuilds$Two", name := "over", desc := "(II)I" } : Jvm.MethodName)) ∈ lw_all := lw_g (lw_at lw_m3 183 rfl) rfl
theorem q735 : (Jvm.Cond.static ({ cls := "TwoGuilds$Two", name := "over", desc := "(II)I" } : Jvm.MethodName)) ∈ lw_all := lw_g (lw_at lw_m3 184 rfl) rfl
theorem q736 : (Jvm.Cond.code ({ cls := "TwoGuilds$Two", name := "over", desc := "(II)I" } : Jvm.MethodName) prog_18_method_3_code (2 : Nat) (Option.some Jvm.ClassFile.FieldType.int)) ∈ lw_all := lw_g (lw_at lw_m3 185 rfl) rfl
theorem q1100 : (Jvm.Cond.instantiable "TwoGuilds$Two" (3 : Nat)) ∈ lw_all := lw_g (lw_at lw_m5 69 rfl) rfl
theorem q1102 : (Jvm.Cond.instanceMethod ({ cls := "TwoGuilds$Two", name := "<init>", desc := "(ILTwoGuilds$Worth;LTwoGuilds$Worth;)V" } : Jvm.MethodName)) ∈ lw_all := lw_g (lw_at lw_m5 71 rfl) rfl
theorem q1103 : (Jvm.Cond.code ({ cls := "TwoGuilds$Two", name := "<init>", desc := "(ILTwoGuilds$Worth;LTwoGuilds$Worth;)V" } : Jvm.MethodName) prog_18_method_1_code (4 : Nat) (Option.none : Option Jvm.ClassFile.FieldType)) ∈ lw_all := lw_g (lw_at lw_m5 72 rfl) rfl
theorem q1104 : (Jvm.Cond.methodLink "TwoGuilds$Two" (1 : Nat) ({ cls := "java/lang/Object", name := "<init>", desc := "()V" } : Jvm.MethodName)) ∈ lw_all := lw_g (lw_at lw_m5 73 rfl) rfl
theorem q1105 : (Jvm.Cond.fieldLink "TwoGuilds$Two" (7 : Nat) "TwoGuilds$Two" "sign" "I") ∈ lw_all := lw_g (lw_at lw_m5 74 rfl) rfl
theorem q1106 : (Jvm.Cond.fieldLink "TwoGuilds$Two" (13 : Nat) "TwoGuilds$Two" "a" "LTwoGuilds$Worth;") ∈ lw_all := lw_g (lw_at lw_m5 75 rfl) rfl
theorem q1107 : (Jvm.Cond.fieldLink "TwoGuilds$Two" (17 : Nat) "TwoGuilds$Two" "b" "LTwoGuilds$Worth;") ∈ lw_all := lw_g (lw_at lw_m5 76 rfl) rfl
theorem q1108 : (Jvm.Cond.laysFinal "TwoGuilds$Two" "TwoGuilds$Two" "sign" "I") ∈ lw_all := lw_g (lw_at lw_m5 77 rfl) rfl
theorem q1109 : (Jvm.Cond.soleField "TwoGuilds$Two" "sign") ∈ lw_all := lw_g (lw_at lw_m5 78 rfl) rfl
theorem q1110 : (Jvm.Cond.laysFinal "TwoGuilds$Two" "TwoGuilds$Two" "a" "LTwoGuilds$Worth;") ∈ lw_all := lw_g (lw_at lw_m5 79 rfl) rfl
theorem q1111 : (Jvm.Cond.soleField "TwoGuilds$Two" "a") ∈ lw_all := lw_g (lw_at lw_m5 80 rfl) rfl
theorem q1112 : (Jvm.Cond.laysFinal "TwoGuilds$Two" "TwoGuilds$Two" "b" "LTwoGuilds$Worth;") ∈ lw_all := lw_g (lw_at lw_m5 81 rfl) rfl
theorem q1113 : (Jvm.Cond.soleField "TwoGuilds$Two" "b") ∈ lw_all := lw_g (lw_at lw_m5 82 rfl) rfl
theorem q1114 : (Jvm.Cond.superclass "TwoGuilds$Two" "java/lang/Object") ∈ lw_all := lw_g (lw_at lw_m5 83 rfl) rfl
theorem in_X10 : ∀ w ∈ wsX100, w ∈ lw_all := lw_in wsX100 [1108, 1110, 1112] (by decide +kernel) (by decide +kernel)

/-! TwoGuilds$Faulty -/
set_option maxRecDepth 100000
def RX11 : String := "TwoGuilds$Faulty"
def TX11 : u_T := fun k => match k with
  | 0 => ("java/lang/Throwable", "cause", "Ljava/lang/Throwable;", false)
  | 1 => ("java/lang/Throwable", "stackTrace", "[Ljava/lang/StackTraceElement;", false)
  | 2 => ("java/lang/Throwable", "suppressedExceptions", "Ljava/util/List;", false)
  | 3 => ("java/lang/Throwable", "detailMessage", "Ljava/lang/String;", false)
  | 4 => ("java/lang/Throwable", "backtrace", "Ljava/lang/Object;", false)
  | 5 => ("java/lang/Throwable", "depth", "I", false)
  | _ => ("TwoGuilds$Faulty", "place", "I", true)
def tyX11 : Nat → FieldType := fun k => match k with
  | 0 => .object "java/lang/Throwable"
  | 1 => .array (.object "java/lang/StackTraceElement")
  | 2 => .object "java/util/List"
  | 3 => .object "java/lang/String"
  | 4 => .object "java/lang/Object"
  | 5 => .int
  | _ => .int
abbrev wsX110 : List Cond := u_ws RX11 TX11 7
theorem nmX11 : ∀ a, a < 7 → ∀ b, b < 7 → a ≠ b → (TX11 a).2.1 ≠ (TX11 b).2.1 := by decide +kernel
theorem tyX11_ok : ∀ k, k < 7 → parseFieldDescriptor (TX11 k).2.2.1 = some (tyX11 k) := by decide +kernel
abbrev cX11_init : ByteArray := prog_2_method_1_code
def yX11_init : MethodName := ⟨RX11, "<init>", "(I)V"⟩
def dkwX11_init_0 : List UInt8 := [42, 1, 1, 3, 3, 183, 0, 1, 42, 27, 181, 0, 7, 177]
abbrev dktX11_init_0 : List UInt8 := dkwX11_init_0 ++ []
theorem dksX11_init_0 : cX11_init.data.toList.drop 0 = dktX11_init_0 := by decide +kernel
theorem dX11_init_0 : decode cX11_init 0 = .ok (.aload_n 0, 1) := dk_42 (dk_at dksX11_init_0 0 rfl rfl)
theorem dX11_init_1 : decode cX11_init 1 = .ok (.aconst_null, 1) := dk_1 (dk_at dksX11_init_0 1 rfl rfl)
theorem dX11_init_2 : decode cX11_init 2 = .ok (.aconst_null, 1) := dk_1 (dk_at dksX11_init_0 2 rfl rfl)
theorem dX11_init_3 : decode cX11_init 3 = .ok (.iconst 0, 1) := dk_3 (dk_at dksX11_init_0 3 rfl rfl)
theorem dX11_init_4 : decode cX11_init 4 = .ok (.iconst 0, 1) := dk_3 (dk_at dksX11_init_0 4 rfl rfl)
theorem dX11_init_5 : decode cX11_init 5 = .ok (.invokespecial 1, 3) := dk_183 0 1 (dk_at dksX11_init_0 5 rfl rfl)
theorem dX11_init_8 : decode cX11_init 8 = .ok (.aload_n 0, 1) := dk_42 (dk_at dksX11_init_0 8 rfl rfl)
theorem dX11_init_9 : decode cX11_init 9 = .ok (.iload_n 1, 1) := dk_27 (dk_at dksX11_init_0 9 rfl rfl)
theorem dX11_init_10 : decode cX11_init 10 = .ok (.putfield 7, 3) := dk_181 0 7 (dk_at dksX11_init_0 10 rfl rfl)
theorem dX11_init_13 : decode cX11_init 13 = .ok (.return_, 1) := dk_177 (dk_at dksX11_init_0 13 rfl rfl)
theorem q94 : (Jvm.Cond.initialized "TwoGuilds$Faulty") ∈ lw_all := lw_g (lw_at lw_m1 23 rfl) rfl
theorem q492 : (Jvm.Cond.selects "TwoGuilds$Faulty" ({ cls := "java/lang/Throwable", name := "fillInStackTrace", desc := "()Ljava/lang/Throwable;" } : Jvm.MethodName) ({ cls := "java/lang/Throwable", name := "fillInStackTrace", desc := "()Ljava/lang/Throwable;" } : Jvm.MethodName)) ∈ lw_all := lw_g (lw_at lw_m2 181 rfl) rfl
theorem q1011 : (Jvm.Cond.instantiable "TwoGuilds$Faulty" (7 : Nat)) ∈ lw_all := lw_g (lw_at lw_m4 220 rfl) rfl
theorem q1012 : (Jvm.Cond.castable "TwoGuilds$Faulty" "TwoGuilds$Faulty") ∈ lw_tbl := lw_at lw_m4 221 rfl
theorem q1013 : (Jvm.Cond.selects "TwoGuilds$Faulty" ({ cls := "java/lang/Throwable", name := "fillInStackTrace", desc := "(I)Ljava/lang/Throwable;" } : Jvm.MethodName) ({ cls := "java/lang/Throwable", name := "fillInStackTrace", desc := "(I)Ljava/lang/Throwable;" } : Jvm.MethodName)) ∈ lw_all := lw_g (lw_at lw_m4 222 rfl) rfl
theorem q1014 : (Jvm.Cond.lays "TwoGuilds$Faulty" "java/lang/Throwable" "cause" "Ljava/lang/Throwable;") ∈ lw_all := lw_g (lw_at lw_m4 223 rfl) rfl
theorem q1015 : (Jvm.Cond.lays "TwoGuilds$Faulty" "java/lang/Throwable" "stackTrace" "[Ljava/lang/StackTraceElement;") ∈ lw_all := lw_g (lw_at lw_m4 224 rfl) rfl
theorem q1016 : (Jvm.Cond.lays "TwoGuilds$Faulty" "java/lang/Throwable" "suppressedExceptions" "Ljava/util/List;") ∈ lw_all := lw_g (lw_at lw_m4 225 rfl) rfl
theorem q1017 : (Jvm.Cond.lays "TwoGuilds$Faulty" "java/lang/Throwable" "detailMessage" "Ljava/lang/String;") ∈ lw_all := lw_g (lw_at lw_m4 226 rfl) rfl
theorem q1018 : (Jvm.Cond.lays "TwoGuilds$Faulty" "java/lang/Throwable" "backtrace" "Ljava/lang/Object;") ∈ lw_all := lw_g (lw_at lw_m4 227 rfl) rfl
theorem q1020 : (Jvm.Cond.instanceMethod ({ cls := "TwoGuilds$Faulty", name := "<init>", desc := "(I)V" } : Jvm.MethodName)) ∈ lw_all := lw_g (lw_at lw_m4 229 rfl) rfl
theorem q1021 : (Jvm.Cond.code ({ cls := "TwoGuilds$Faulty", name := "<init>", desc := "(I)V" } : Jvm.MethodName) prog_2_method_1_code (2 : Nat) (Option.none : Option Jvm.ClassFile.FieldType)) ∈ lw_all := lw_g (lw_at lw_m4 230 rfl) rfl
theorem q1022 : (Jvm.Cond.methodLink "TwoGuilds$Faulty" (1 : Nat) ({ cls := "java/lang/Exception", name := "<init>", desc := "(Ljava/lang/String;Ljava/lang/Throwable;ZZ)V" } : Jvm.MethodName)) ∈ lw_all := lw_g (lw_at lw_m4 231 rfl) rfl
theorem q1028 : (Jvm.Cond.fieldLink "TwoGuilds$Faulty" (7 : Nat) "TwoGuilds$Faulty" "place" "I") ∈ lw_all := lw_g (lw_at lw_m4 237 rfl) rfl
theorem q1030 : (Jvm.Cond.laysFinal "TwoGuilds$Faulty" "TwoGuilds$Faulty" "place" "I") ∈ lw_all := lw_g (lw_at lw_m4 239 rfl) rfl
theorem q1031 : (Jvm.Cond.soleField "TwoGuilds$Faulty" "place") ∈ lw_all := lw_g (lw_at lw_m5 0 rfl) rfl
theorem q1032 : (Jvm.Cond.lays "TwoGuilds$Faulty" "java/lang/Throwable" "depth" "I") ∈ lw_all := lw_g (lw_at lw_m5 1 rfl) rfl
theorem q1033 : (Jvm.Cond.superclass "TwoGuilds$Faulty" "java/lang/Exception") ∈ lw_all := lw_g (lw_at lw_m5 2 rfl) rfl
theorem in_X11 : ∀ w ∈ wsX110, w ∈ lw_all := lw_in wsX110 [1014, 1015, 1016, 1017, 1018, 1032, 1030] (by decide +kernel) (by decide +kernel)

/-! TwoGuilds$Plain -/
set_option maxRecDepth 100000
def RX12 : String := "TwoGuilds$Plain"
def TX12 : u_T := fun k => match k with
  | _ => ("TwoGuilds$Plain", "v", "I", true)
def tyX12 : Nat → FieldType := fun k => match k with
  | _ => .int
abbrev wsX120 : List Cond := u_ws RX12 TX12 1
theorem nmX12 : ∀ a, a < 1 → ∀ b, b < 1 → a ≠ b → (TX12 a).2.1 ≠ (TX12 b).2.1 := by decide +kernel
theorem tyX12_ok : ∀ k, k < 1 → parseFieldDescriptor (TX12 k).2.2.1 = some (tyX12 k) := by decide +kernel
abbrev cX12_worth : ByteArray := prog_14_method_2_code
def yX12_worth : MethodName := ⟨RX12, "worth", "()I"⟩
theorem dX12_worth_0 : decode cX12_worth 0 = .ok (.aload_n 0, 1) := by decide +kernel
theorem dX12_worth_1 : decode cX12_worth 1 = .ok (.getfield 7, 3) := by decide +kernel
theorem dX12_worth_4 : decode cX12_worth 4 = .ok (.ireturn, 1) := by decide +kernel
abbrev cX12_init : ByteArray := prog_14_method_1_code
def yX12_init : MethodName := ⟨RX12, "<init>", "(I)V"⟩
def dkwX12_init_0 : List UInt8 := [42, 183, 0, 1, 42, 27, 181, 0, 7, 177]
abbrev dktX12_init_0 : List UInt8 := dkwX12_init_0 ++ []
theorem dksX12_init_0 : cX12_init.data.toList.drop 0 = dktX12_init_0 := by decide +kernel
theorem dX12_init_0 : decode cX12_init 0 = .ok (.aload_n 0, 1) := dk_42 (dk_at dksX12_init_0 0 rfl rfl)
theorem dX12_init_1 : decode cX12_init 1 = .ok (.invokespecial 1, 3) := dk_183 0 1 (dk_at dksX12_init_0 1 rfl rfl)
theorem dX12_init_4 : decode cX12_init 4 = .ok (.aload_n 0, 1) := dk_42 (dk_at dksX12_init_0 4 rfl rfl)
theorem dX12_init_5 : decode cX12_init 5 = .ok (.iload_n 1, 1) := dk_27 (dk_at dksX12_init_0 5 rfl rfl)
theorem dX12_init_6 : decode cX12_init 6 = .ok (.putfield 7, 3) := dk_181 0 7 (dk_at dksX12_init_0 6 rfl rfl)
theorem dX12_init_9 : decode cX12_init 9 = .ok (.return_, 1) := dk_177 (dk_at dksX12_init_0 9 rfl rfl)
theorem q95 : (Jvm.Cond.initialized "TwoGuilds$Plain") ∈ lw_all := lw_g (lw_at lw_m1 24 rfl) rfl
theorem q720 : (Jvm.Cond.castable "TwoGuilds$Plain" "TwoGuilds$Worth") ∈ lw_tbl := lw_at lw_m3 169 rfl
theorem q721 : (Jvm.Cond.selects "TwoGuilds$Plain" ({ cls := "TwoGuilds$Worth", name := "worth", desc := "()I" } : Jvm.MethodName) ({ cls := "TwoGuilds$Plain", name := "worth", desc := "()I" } : Jvm.MethodName)) ∈ lw_all := lw_g (lw_at lw_m3 170 rfl) rfl
theorem q722 : (Jvm.Cond.unhidden "TwoGuilds$Plain" "worth" "()I") ∈ lw_tbl := lw_at lw_m3 171 rfl
theorem q723 : (Jvm.Cond.instanceMethod ({ cls := "TwoGuilds$Plain", name := "worth", desc := "()I" } : Jvm.MethodName)) ∈ lw_all := lw_g (lw_at lw_m3 172 rfl) rfl
theorem q724 : (Jvm.Cond.publicMethod ({ cls := "TwoGuilds$Plain", name := "worth", desc := "()I" } : Jvm.MethodName)) ∈ lw_tbl := lw_at lw_m3 173 rfl
theorem q725 : (Jvm.Cond.code ({ cls := "TwoGuilds$Plain", name := "worth", desc := "()I" } : Jvm.MethodName) prog_14_method_2_code (1 : Nat) (Option.some Jvm.ClassFile.FieldType.int)) ∈ lw_all := lw_g (lw_at lw_m3 174 rfl) rfl
theorem q1063 : (Jvm.Cond.instantiable "TwoGuilds$Plain" (1 : Nat)) ∈ lw_all := lw_g (lw_at lw_m5 32 rfl) rfl
theorem q1065 : (Jvm.Cond.instanceMethod ({ cls := "TwoGuilds$Plain", name := "<init>", desc := "(I)V" } : Jvm.MethodName)) ∈ lw_all := lw_g (lw_at lw_m5 34 rfl) rfl
theorem q1066 : (Jvm.Cond.code ({ cls := "TwoGuilds$Plain", name := "<init>", desc := "(I)V" } : Jvm.MethodName) prog_14_method_1_code (2 : Nat) (Option.none : Option Jvm.ClassFile.FieldType)) ∈ lw_all := lw_g (lw_at lw_m5 35 rfl) rfl
theorem q1067 : (Jvm.Cond.methodLink "TwoGuilds$Plain" (1 : Nat) ({ cls := "java/lang/Object", name := "<init>", desc := "()V" } : Jvm.MethodName)) ∈ lw_all := lw_g (lw_at lw_m5 36 rfl) rfl
theorem q1068 : (Jvm.Cond.fieldLink "TwoGuilds$Plain" (7 : Nat) "TwoGuilds$Plain" "v" "I") ∈ lw_all := lw_g (lw_at lw_m5 37 rfl) rfl
theorem q1069 : (Jvm.Cond.laysFinal "TwoGuilds$Plain" "TwoGuilds$Plain" "v" "I") ∈ lw_all := lw_g (lw_at lw_m5 38 rfl) rfl
theorem q1070 : (Jvm.Cond.soleField "TwoGuilds$Plain" "v") ∈ lw_all := lw_g (lw_at lw_m5 39 rfl) rfl
theorem q1071 : (Jvm.Cond.superclass "TwoGuilds$Plain" "java/lang/Object") ∈ lw_all := lw_g (lw_at lw_m5 40 rfl) rfl
theorem in_X12 : ∀ w ∈ wsX120, w ∈ lw_all := lw_in wsX120 [1069] (by decide +kernel) (by decide +kernel)

/-! TwoGuilds$Name -/
set_option maxRecDepth 100000
def RX13 : String := "TwoGuilds$Name"
def TX13 : u_T := fun k => match k with
  | 0 => ("TwoGuilds$Name", "letter", "I", true)
  | _ => ("TwoGuilds$Name", "this$0", "LTwoGuilds;", true)
def tyX13 : Nat → FieldType := fun k => match k with
  | 0 => .int
  | _ => .object "TwoGuilds"
abbrev wsX130 : List Cond := u_ws RX13 TX13 2
theorem nmX13 : ∀ a, a < 2 → ∀ b, b < 2 → a ≠ b → (TX13 a).2.1 ≠ (TX13 b).2.1 := by decide +kernel
theorem tyX13_ok : ∀ k, k < 2 → parseFieldDescriptor (TX13 k).2.2.1 = some (tyX13 k) := by decide +kernel
abbrev cX13_worth : ByteArray := prog_12_method_2_code
def yX13_worth : MethodName := ⟨RX13, "worth", "()I"⟩
def dkwX13_worth_0 : List UInt8 := [42, 180, 0, 1, 180, 0, 17, 42, 180, 0, 13, 46, 172]
abbrev dktX13_worth_0 : List UInt8 := dkwX13_worth_0 ++ []
theorem dksX13_worth_0 : cX13_worth.data.toList.drop 0 = dktX13_worth_0 := by decide +kernel
theorem dX13_worth_0 : decode cX13_worth 0 = .ok (.aload_n 0, 1) := dk_42 (dk_at dksX13_worth_0 0 rfl rfl)
theorem dX13_worth_1 : decode cX13_worth 1 = .ok (.getfield 1, 3) := dk_180 0 1 (dk_at dksX13_worth_0 1 rfl rfl)
theorem dX13_worth_4 : decode cX13_worth 4 = .ok (.getfield 17, 3) := dk_180 0 17 (dk_at dksX13_worth_0 4 rfl rfl)
theorem dX13_worth_7 : decode cX13_worth 7 = .ok (.aload_n 0, 1) := dk_42 (dk_at dksX13_worth_0 7 rfl rfl)
theorem dX13_worth_8 : decode cX13_worth 8 = .ok (.getfield 13, 3) := dk_180 0 13 (dk_at dksX13_worth_0 8 rfl rfl)
theorem dX13_worth_11 : decode cX13_worth 11 = .ok (.iaload, 1) := dk_46 (dk_at dksX13_worth_0 11 rfl rfl)
theorem dX13_worth_12 : decode cX13_worth 12 = .ok (.ireturn, 1) := dk_172 (dk_at dksX13_worth_0 12 rfl rfl)
abbrev cX13_init : ByteArray := prog_12_method_1_code
def yX13_init : MethodName := ⟨RX13, "<init>", "(LTwoGuilds;I)V"⟩
def dkwX13_init_0 : List UInt8 := [42, 43, 181, 0, 1, 42, 183, 0, 7, 42, 28, 181, 0, 13, 177]
abbrev dktX13_init_0 : List UInt8 := dkwX13_init_0 ++ []
theorem dksX13_init_0 : cX13_init.data.toList.drop 0 = dktX13_init_0 := by decide +kernel
theorem dX13_init_0 : decode cX13_init 0 = .ok (.aload_n 0, 1) := dk_42 (dk_at dksX13_init_0 0 rfl rfl)
theorem dX13_init_1 : decode cX13_init 1 = .ok (.aload_n 1, 1) := dk_43 (dk_at dksX13_init_0 1 rfl rfl)
theorem dX13_init_2 : decode cX13_init 2 = .ok (.putfield 1, 3) := dk_181 0 1 (dk_at dksX13_init_0 2 rfl rfl)
theorem dX13_init_5 : decode cX13_init 5 = .ok (.aload_n 0, 1) := dk_42 (dk_at dksX13_init_0 5 rfl rfl)
theorem dX13_init_6 : decode cX13_init 6 = .ok (.invokespecial 7, 3) := dk_183 0 7 (dk_at dksX13_init_0 6 rfl rfl)
theorem dX13_init_9 : decode cX13_init 9 = .ok (.aload_n 0, 1) := dk_42 (dk_at dksX13_init_0 9 rfl rfl)
theorem dX13_init_10 : decode cX13_init 10 = .ok (.iload_n 2, 1) := dk_28 (dk_at dksX13_init_0 10 rfl rfl)
theorem dX13_init_11 : decode cX13_init 11 = .ok (.putfield 13, 3) := dk_181 0 13 (dk_at dksX13_init_0 11 rfl rfl)
theorem dX13_init_14 : decode cX13_init 14 = .ok (.return_, 1) := dk_177 (dk_at dksX13_init_0 14 rfl rfl)
theorem q96 : (Jvm.Cond.initialized "TwoGuilds$Name") ∈ lw_all := lw_g (lw_at lw_m1 25 rfl) rfl
theorem q190 : (Jvm.Cond.fieldLinkNest "TwoGuilds$Name" (17 : Nat) "TwoGuilds" "named" "[I" "TwoGuilds") ∈ lw_tbl := lw_at lw_m1 119 rfl
theorem q706 : (Jvm.Cond.castable "TwoGuilds$Name" "TwoGuilds$Worth") ∈ lw_tbl := lw_at lw_m3 155 rfl
theorem q707 : (Jvm.Cond.selects "TwoGuilds$Name" ({ cls := "TwoGuilds$Worth", name := "worth", desc := "()I" } : Jvm.MethodName) ({ cls := "TwoGuilds$Name", name := "worth", desc := "()I" } : Jvm.MethodName)) ∈ lw_all := lw_g (lw_at lw_m3 156 rfl) rfl
theorem q708 : (Jvm.Cond.unhidden "TwoGuilds$Name" "worth" "()I") ∈ lw_tbl := lw_at lw_m3 157 rfl
theorem q709 : (Jvm.Cond.instanceMethod ({ cls := "TwoGuilds$Name", name := "worth", desc := "()I" } : Jvm.MethodName)) ∈ lw_all := lw_g (lw_at lw_m3 158 rfl) rfl
theorem q710 : (Jvm.Cond.publicMethod ({ cls := "TwoGuilds$Name", name := "worth", desc := "()I" } : Jvm.MethodName)) ∈ lw_tbl := lw_at lw_m3 159 rfl
theorem q711 : (Jvm.Cond.code ({ cls := "TwoGuilds$Name", name := "worth", desc := "()I" } : Jvm.MethodName) prog_12_method_2_code (1 : Nat) (Option.some Jvm.ClassFile.FieldType.int)) ∈ lw_all := lw_g (lw_at lw_m3 160 rfl) rfl
theorem q1073 : (Jvm.Cond.instantiable "TwoGuilds$Name" (2 : Nat)) ∈ lw_all := lw_g (lw_at lw_m5 42 rfl) rfl
theorem q1075 : (Jvm.Cond.instanceMethod ({ cls := "TwoGuilds$Name", name := "<init>", desc := "(LTwoGuilds;I)V" } : Jvm.MethodName)) ∈ lw_all := lw_g (lw_at lw_m5 44 rfl) rfl
theorem q1076 : (Jvm.Cond.code ({ cls := "TwoGuilds$Name", name := "<init>", desc := "(LTwoGuilds;I)V" } : Jvm.MethodName) prog_12_method_1_code (3 : Nat) (Option.none : Option Jvm.ClassFile.FieldType)) ∈ lw_all := lw_g (lw_at lw_m5 45 rfl) rfl
theorem q1077 : (Jvm.Cond.methodLink "TwoGuilds$Name" (7 : Nat) ({ cls := "java/lang/Object", name := "<init>", desc := "()V" } : Jvm.MethodName)) ∈ lw_all := lw_g (lw_at lw_m5 46 rfl) rfl
theorem q1078 : (Jvm.Cond.fieldLink "TwoGuilds$Name" (13 : Nat) "TwoGuilds$Name" "letter" "I") ∈ lw_all := lw_g (lw_at lw_m5 47 rfl) rfl
theorem q1079 : (Jvm.Cond.fieldLink "TwoGuilds$Name" (1 : Nat) "TwoGuilds$Name" "this$0" "LTwoGuilds;") ∈ lw_all := lw_g (lw_at lw_m5 48 rfl) rfl
theorem q1080 : (Jvm.Cond.laysFinal "TwoGuilds$Name" "TwoGuilds$Name" "letter" "I") ∈ lw_all := lw_g (lw_at lw_m5 49 rfl) rfl
theorem q1081 : (Jvm.Cond.soleField "TwoGuilds$Name" "letter") ∈ lw_all := lw_g (lw_at lw_m5 50 rfl) rfl
theorem q1082 : (Jvm.Cond.laysFinal "TwoGuilds$Name" "TwoGuilds$Name" "this$0" "LTwoGuilds;") ∈ lw_all := lw_g (lw_at lw_m5 51 rfl) rfl
theorem q1083 : (Jvm.Cond.soleField "TwoGuilds$Name" "this$0") ∈ lw_all := lw_g (lw_at lw_m5 52 rfl) rfl
theorem q1084 : (Jvm.Cond.superclass "TwoGuilds$Name" "java/lang/Object") ∈ lw_all := lw_g (lw_at lw_m5 53 rfl) rfl
theorem in_X13 : ∀ w ∈ wsX130, w ∈ lw_all := lw_in wsX130 [1080, 1082] (by decide +kernel) (by decide +kernel)

/-! TwoGuilds$Not -/
set_option maxRecDepth 100000
def RX14 : String := "TwoGuilds$Not"
def TX14 : u_T := fun k => match k with
  | _ => ("TwoGuilds$Not", "of", "LTwoGuilds$Worth;", true)
def tyX14 : Nat → FieldType := fun k => match k with
  | _ => .object "TwoGuilds$Worth"
abbrev wsX140 : List Cond := u_ws RX14 TX14 1
theorem nmX14 : ∀ a, a < 1 → ∀ b, b < 1 → a ≠ b → (TX14 a).2.1 ≠ (TX14 b).2.1 := by decide +kernel
theorem tyX14_ok : ∀ k, k < 1 → parseFieldDescriptor (TX14 k).2.2.1 = some (tyX14 k) := by decide +kernel
abbrev cX14_worth : ByteArray := prog_13_method_2_code
def yX14_worth : MethodName := ⟨RX14, "worth", "()I"⟩
def dkwX14_worth_0 : List UInt8 := [42, 180, 0, 7, 185, 0, 13, 1, 0, 154, 0, 7, 4, 167, 0, 4, 3, 172]
abbrev dktX14_worth_0 : List UInt8 := dkwX14_worth_0 ++ []
theorem dksX14_worth_0 : cX14_worth.data.toList.drop 0 = dktX14_worth_0 := by decide +kernel
theorem dX14_worth_0 : decode cX14_worth 0 = .ok (.aload_n 0, 1) := dk_42 (dk_at dksX14_worth_0 0 rfl rfl)
theorem dX14_worth_1 : decode cX14_worth 1 = .ok (.getfield 7, 3) := dk_180 0 7 (dk_at dksX14_worth_0 1 rfl rfl)
theorem dX14_worth_4 : decode cX14_worth 4 = .ok (.invokeinterface 13 1, 5) := by decide +kernel
theorem dX14_worth_9 : decode cX14_worth 9 = .ok (.ifCond .ne 7, 3) := dk_154 0 7 (dk_at dksX14_worth_0 9 rfl rfl)
theorem dX14_worth_12 : decode cX14_worth 12 = .ok (.iconst 1, 1) := dk_4 (dk_at dksX14_worth_0 12 rfl rfl)
theorem dX14_worth_13 : decode cX14_worth 13 = .ok (.goto 4, 3) := dk_167 0 4 (dk_at dksX14_worth_0 13 rfl rfl)
theorem dX14_worth_16 : decode cX14_worth 16 = .ok (.iconst 0, 1) := dk_3 (dk_at dksX14_worth_0 16 rfl rfl)
theorem dX14_worth_17 : decode cX14_worth 17 = .ok (.ireturn, 1) := dk_172 (dk_at dksX14_worth_0 17 rfl rfl)
abbrev cX14_init : ByteArray := prog_13_method_1_code
def yX14_init : MethodName := ⟨RX14, "<init>", "(LTwoGuilds$Worth;)V"⟩
def dkwX14_init_0 : List UInt8 := [42, 183, 0, 1, 42, 43, 181, 0, 7, 177]
abbrev dktX14_init_0 : List UInt8 := dkwX14_init_0 ++ []
theorem dksX14_init_0 : cX14_init.data.toList.drop 0 = dktX14_init_0 := by decide +kernel
theorem dX14_init_0 : decode cX14_init 0 = .ok (.aload_n 0, 1) := dk_42 (dk_at dksX14_init_0 0 rfl rfl)
theorem dX14_init_1 : decode cX14_init 1 = .ok (.invokespecial 1, 3) := dk_183 0 1 (dk_at dksX14_init_0 1 rfl rfl)
theorem dX14_init_4 : decode cX14_init 4 = .ok (.aload_n 0, 1) := dk_42 (dk_at dksX14_init_0 4 rfl rfl)
theorem dX14_init_5 : decode cX14_init 5 = .ok (.aload_n 1, 1) := dk_43 (dk_at dksX14_init_0 5 rfl rfl)
theorem dX14_init_6 : decode cX14_init 6 = .ok (.putfield 7, 3) := dk_181 0 7 (dk_at dksX14_init_0 6 rfl rfl)
theorem dX14_init_9 : decode cX14_init 9 = .ok (.return_, 1) := dk_177 (dk_at dksX14_init_0 9 rfl rfl)
theorem q97 : (Jvm.Cond.initialized "TwoGuilds$Not") ∈ lw_all := lw_g (lw_at lw_m1 26 rfl) rfl
theorem q712 : (Jvm.Cond.castable "TwoGuilds$Not" "TwoGuilds$Worth") ∈ lw_tbl := lw_at lw_m3 161 rfl
theorem q713 : (Jvm.Cond.selects "TwoGuilds$Not" ({ cls := "TwoGuilds$Worth", name := "worth", desc := "()I" } : Jvm.MethodName) ({ cls := "TwoGuilds$Not", name := "worth", desc := "()I" } : Jvm.MethodName)) ∈ lw_all := lw_g (lw_at lw_m3 162 rfl) rfl
theorem q714 : (Jvm.Cond.unhidden "TwoGuilds$Not" "worth" "()I") ∈ lw_tbl := lw_at lw_m3 163 rfl
theorem q715 : (Jvm.Cond.instanceMethod ({ cls := "TwoGuilds$Not", name := "worth", desc := "()I" } : Jvm.MethodName)) ∈ lw_all := lw_g (lw_at lw_m3 164 rfl) rfl
theorem q716 : (Jvm.Cond.publicMethod ({ cls := "TwoGuilds$Not", name := "worth", desc := "()I" } : Jvm.MethodName)) ∈ lw_tbl := lw_at lw_m3 165 rfl
theorem q717 : (Jvm.Cond.code ({ cls := "TwoGuilds$Not", name := "worth", desc := "()I" } : Jvm.MethodName) prog_13_method_2_code (1 : Nat) (Option.some Jvm.ClassFile.FieldType.int)) ∈ lw_all := lw_g (lw_at lw_m3 166 rfl) rfl
theorem q718 : (Jvm.Cond.interfaceEntry "TwoGuilds$Not" (13 : Nat)) ∈ lw_tbl := lw_at lw_m3 167 rfl
theorem q719 : (Jvm.Cond.methodLink "TwoGuilds$Not" (13 : Nat) ({ cls := "TwoGuilds$Worth", name := "worth", desc := "()I" } : Jvm.MethodName)) ∈ lw_all := lw_g (lw_at lw_m3 168 rfl) rfl
theorem q1090 : (Jvm.Cond.instantiable "TwoGuilds$Not" (1 : Nat)) ∈ lw_all := lw_g (lw_at lw_m5 59 rfl) rfl
theorem q1092 : (Jvm.Cond.instanceMethod ({ cls := "TwoGuilds$Not", name := "<init>", desc := "(LTwoGuilds$Worth;)V" } : Jvm.MethodName)) ∈ lw_all := lw_g (lw_at lw_m5 61 rfl) rfl
theorem q1093 : (Jvm.Cond.code ({ cls := "TwoGuilds$Not", name := "<init>", desc := "(LTwoGuilds$Worth;)V" } : Jvm.MethodName) prog_13_method_1_code (2 : Nat) (Option.none : Option Jvm.ClassFile.FieldType)) ∈ lw_all := lw_g (lw_at lw_m5 62 rfl) rfl
theorem q1094 : (Jvm.Cond.methodLink "TwoGuilds$Not" (1 : Nat) ({ cls := "java/lang/Object", name := "<init>", desc := "()V" } : Jvm.MethodName)) ∈ lw_all := lw_g (lw_at lw_m5 63 rfl) rfl
theorem q1095 : (Jvm.Cond.fieldLink "TwoGuilds$Not" (7 : Nat) "TwoGuilds$Not" "of" "LTwoGuilds$Worth;") ∈ lw_all := lw_g (lw_at lw_m5 64 rfl) rfl
theorem q1096 : (Jvm.Cond.laysFinal "TwoGuilds$Not" "TwoGuilds$Not" "of" "LTwoGuilds$Worth;") ∈ lw_all := lw_g (lw_at lw_m5 65 rfl) rfl
theorem q1097 : (Jvm.Cond.soleField "TwoGuilds$Not" "of") ∈ lw_all := lw_g (lw_at lw_m5 66 rfl) rfl
theorem q1098 : (Jvm.Cond.superclass "TwoGuilds$Not" "java/lang/Object") ∈ lw_all := lw_g (lw_at lw_m5 67 rfl) rfl
theorem in_X14 : ∀ w ∈ wsX140, w ∈ lw_all := lw_in wsX140 [1096] (by decide +kernel) (by decide +kernel)

/-! TwoGuilds$Text -/
set_option maxRecDepth 100000
def RX15 : String := "TwoGuilds$Text"
def TX15 : u_T := fun k => match k with
  | 0 => ("TwoGuilds$Text", "key", "I", true)
  | 1 => ("TwoGuilds$Text", "words", "I", true)
  | _ => ("TwoGuilds$Text", "e", "LTwoGuilds$Worth;", true)
def tyX15 : Nat → FieldType := fun k => match k with
  | 0 => .int
  | 1 => .int
  | _ => .object "TwoGuilds$Worth"
abbrev wsX150 : List Cond := u_ws RX15 TX15 3
theorem nmX15 : ∀ a, a < 3 → ∀ b, b < 3 → a ≠ b → (TX15 a).2.1 ≠ (TX15 b).2.1 := by decide +kernel
theorem tyX15_ok : ∀ k, k < 3 → parseFieldDescriptor (TX15 k).2.2.1 = some (tyX15 k) := by decide +kernel
abbrev cX15_init : ByteArray := prog_16_method_1_code
def yX15_init : MethodName := ⟨RX15, "<init>", "(IILTwoGuilds$Worth;)V"⟩
def dkwX15_init_0 : List UInt8 := [42, 183, 0, 1, 42, 27, 181, 0, 7, 42, 28, 181, 0, 13, 42, 45, 181, 0, 16, 177]
abbrev dktX15_init_0 : List UInt8 := dkwX15_init_0 ++ []
theorem dksX15_init_0 : cX15_init.data.toList.drop 0 = dktX15_init_0 := by decide +kernel
theorem dX15_init_0 : decode cX15_init 0 = .ok (.aload_n 0, 1) := dk_42 (dk_at dksX15_init_0 0 rfl rfl)
theorem dX15_init_1 : decode cX15_init 1 = .ok (.invokespecial 1, 3) := dk_183 0 1 (dk_at dksX15_init_0 1 rfl rfl)
theorem dX15_init_4 : decode cX15_init 4 = .ok (.aload_n 0, 1) := dk_42 (dk_at dksX15_init_0 4 rfl rfl)
theorem dX15_init_5 : decode cX15_init 5 = .ok (.iload_n 1, 1) := dk_27 (dk_at dksX15_init_0 5 rfl rfl)
theorem dX15_init_6 : decode cX15_init 6 = .ok (.putfield 7, 3) := dk_181 0 7 (dk_at dksX15_init_0 6 rfl rfl)
theorem dX15_init_9 : decode cX15_init 9 = .ok (.aload_n 0, 1) := dk_42 (dk_at dksX15_init_0 9 rfl rfl)
theorem dX15_init_10 : decode cX15_init 10 = .ok (.iload_n 2, 1) := dk_28 (dk_at dksX15_init_0 10 rfl rfl)
theorem dX15_init_11 : decode cX15_init 11 = .ok (.putfield 13, 3) := dk_181 0 13 (dk_at dksX15_init_0 11 rfl rfl)
theorem dX15_init_14 : decode cX15_init 14 = .ok (.aload_n 0, 1) := dk_42 (dk_at dksX15_init_0 14 rfl rfl)
theorem dX15_init_15 : decode cX15_init 15 = .ok (.aload_n 3, 1) := dk_45 (dk_at dksX15_init_0 15 rfl rfl)
theorem dX15_init_16 : decode cX15_init 16 = .ok (.putfield 16, 3) := dk_181 0 16 (dk_at dksX15_init_0 16 rfl rfl)
theorem dX15_init_19 : decode cX15_init 19 = .ok (.return_, 1) := dk_177 (dk_at dksX15_init_0 19 rfl rfl)
theorem q98 : (Jvm.Cond.initialized "TwoGuilds$Text") ∈ lw_all := lw_g (lw_at lw_m1 27 rfl) rfl
theorem q1116 : (Jvm.Cond.instantiable "TwoGuilds$Text" (3 : Nat)) ∈ lw_all := lw_g (lw_at lw_m5 85 rfl) rfl
theorem q1118 : (Jvm.Cond.instanceMethod ({ cls := "TwoGuilds$Text", name := "<init>", desc := "(IILTwoGuilds$Worth;)V" } : Jvm.MethodName)) ∈ lw_all := lw_g (lw_at lw_m5 87 rfl) rfl
theorem q1119 : (Jvm.Cond.code ({ cls := "TwoGuilds$Text", name := "<init>", desc := "(IILTwoGuilds$Worth;)V" } : Jvm.MethodName) prog_16_method_1_code (4 : Nat) (Option.none : Option Jvm.ClassFile.FieldType)) ∈ lw_all := lw_g (lw_at lw_m5 88 rfl) rfl
theorem q1120 : (Jvm.Cond.methodLink "TwoGuilds$Text" (1 : Nat) ({ cls := "java/lang/Object", name := "<init>", desc := "()V" } : Jvm.MethodName)) ∈ lw_all := lw_g (lw_at lw_m5 89 rfl) rfl
theorem q1121 : (Jvm.Cond.fieldLink "TwoGuilds$Text" (7 : Nat) "TwoGuilds$Text" "key" "I") ∈ lw_all := lw_g (lw_at lw_m5 90 rfl) rfl
theorem q1123 : (Jvm.Cond.fieldLink "TwoGuilds$Text" (13 : Nat) "TwoGuilds$Text" "words" "I") ∈ lw_all := lw_g (lw_at lw_m5 92 rfl) rfl
theorem q1125 : (Jvm.Cond.fieldLink "TwoGuilds$Text" (16 : Nat) "TwoGuilds$Text" "e" "LTwoGuilds$Worth;") ∈ lw_all := lw_g (lw_at lw_m5 94 rfl) rfl
theorem q1127 : (Jvm.Cond.laysFinal "TwoGuilds$Text" "TwoGuilds$Text" "key" "I") ∈ lw_all := lw_g (lw_at lw_m5 96 rfl) rfl
theorem q1128 : (Jvm.Cond.soleField "TwoGuilds$Text" "key") ∈ lw_all := lw_g (lw_at lw_m5 97 rfl) rfl
theorem q1129 : (Jvm.Cond.laysFinal "TwoGuilds$Text" "TwoGuilds$Text" "words" "I") ∈ lw_all := lw_g (lw_at lw_m5 98 rfl) rfl
theorem q1130 : (Jvm.Cond.soleField "TwoGuilds$Text" "words") ∈ lw_all := lw_g (lw_at lw_m5 99 rfl) rfl
theorem q1131 : (Jvm.Cond.laysFinal "TwoGuilds$Text" "TwoGuilds$Text" "e" "LTwoGuilds$Worth;") ∈ lw_all := lw_g (lw_at lw_m5 100 rfl) rfl
theorem q1132 : (Jvm.Cond.soleField "TwoGuilds$Text" "e") ∈ lw_all := lw_g (lw_at lw_m5 101 rfl) rfl
theorem q1133 : (Jvm.Cond.superclass "TwoGuilds$Text" "java/lang/Object") ∈ lw_all := lw_g (lw_at lw_m5 102 rfl) rfl
theorem in_X15 : ∀ w ∈ wsX150, w ∈ lw_all := lw_in wsX150 [1127, 1129, 1131] (by decide +kernel) (by decide +kernel)

/-! TwoGuilds$Figure -/
set_option maxRecDepth 100000
def RX16 : String := "TwoGuilds$Figure"
def TX16 : u_T := fun k => match k with
  | _ => ("TwoGuilds$Figure", "v", "I", true)
def tyX16 : Nat → FieldType := fun k => match k with
  | _ => .int
abbrev wsX160 : List Cond := u_ws RX16 TX16 1
theorem nmX16 : ∀ a, a < 1 → ∀ b, b < 1 → a ≠ b → (TX16 a).2.1 ≠ (TX16 b).2.1 := by decide +kernel
theorem tyX16_ok : ∀ k, k < 1 → parseFieldDescriptor (TX16 k).2.2.1 = some (tyX16 k) := by decide +kernel
abbrev cX16_init : ByteArray := prog_3_method_1_code
def yX16_init : MethodName := ⟨RX16, "<init>", "(I)V"⟩
def dkwX16_init_0 : List UInt8 := [42, 183, 0, 1, 42, 27, 181, 0, 7, 177]
abbrev dktX16_init_0 : List UInt8 := dkwX16_init_0 ++ []
theorem dksX16_init_0 : cX16_init.data.toList.drop 0 = dktX16_init_0 := by decide +kernel
theorem dX16_init_0 : decode cX16_init 0 = .ok (.aload_n 0, 1) := dk_42 (dk_at dksX16_init_0 0 rfl rfl)
theorem dX16_init_1 : decode cX16_init 1 = .ok (.invokespecial 1, 3) := dk_183 0 1 (dk_at dksX16_init_0 1 rfl rfl)
theorem dX16_init_4 : decode cX16_init 4 = .ok (.aload_n 0, 1) := dk_42 (dk_at dksX16_init_0 4 rfl rfl)
theorem dX16_init_5 : decode cX16_init 5 = .ok (.iload_n 1, 1) := dk_27 (dk_at dksX16_init_0 5 rfl rfl)
theorem dX16_init_6 : decode cX16_init 6 = .ok (.putfield 7, 3) := dk_181 0 7 (dk_at dksX16_init_0 6 rfl rfl)
theorem dX16_init_9 : decode cX16_init 9 = .ok (.return_, 1) := dk_177 (dk_at dksX16_init_0 9 rfl rfl)
theorem q103 : (Jvm.Cond.initialized "TwoGuilds$Figure") ∈ lw_all := lw_g (lw_at lw_m1 32 rfl) rfl
theorem q1261 : (Jvm.Cond.instantiable "TwoGuilds$Figure" (1 : Nat)) ∈ lw_all := lw_g (lw_at lw_m5 230 rfl) rfl
theorem q1263 : (Jvm.Cond.instanceMethod ({ cls := "TwoGuilds$Figure", name := "<init>", desc := "(I)V" } : Jvm.MethodName)) ∈ lw_all := lw_g (lw_at lw_m5 232 rfl) rfl
theorem q1264 : (Jvm.Cond.code ({ cls := "TwoGuilds$Figure", name := "<init>", desc := "(I)V" } : Jvm.MethodName) prog_3_method_1_code (2 : Nat) (Option.none : Option Jvm.ClassFile.FieldType)) ∈ lw_all := lw_g (lw_at lw_m5 233 rfl) rfl
theorem q1265 : (Jvm.Cond.methodLink "TwoGuilds$Figure" (1 : Nat) ({ cls := "java/lang/Object", name := "<init>", desc := "()V" } : Jvm.MethodName)) ∈ lw_all := lw_g (lw_at lw_m5 234 rfl) rfl
theorem q1266 : (Jvm.Cond.fieldLink "TwoGuilds$Figure" (7 : Nat) "TwoGuilds$Figure" "v" "I") ∈ lw_all := lw_g (lw_at lw_m5 235 rfl) rfl
theorem q1268 : (Jvm.Cond.laysFinal "TwoGuilds$Figure" "TwoGuilds$Figure" "v" "I") ∈ lw_all := lw_g (lw_at lw_m5 237 rfl) rfl
theorem q1269 : (Jvm.Cond.soleField "TwoGuilds$Figure" "v") ∈ lw_all := lw_g (lw_at lw_m5 238 rfl) rfl
theorem q1270 : (Jvm.Cond.superclass "TwoGuilds$Figure" "java/lang/Object") ∈ lw_all := lw_g (lw_at lw_m5 239 rfl) rfl
theorem in_X16 : ∀ w ∈ wsX160, w ∈ lw_all := lw_in wsX160 [1268] (by decide +kernel) (by decide +kernel)

/-! TwoGuilds$Fits -/
set_option maxRecDepth 100000
def RX17 : String := "TwoGuilds$Fits"
abbrev cX17_isLike : ByteArray := prog_4_method_2_code
def yX17_isLike : MethodName := ⟨RX17, "isLike", "(LTwoGuilds$Glove;LTwoGuilds$Glove;)Z"⟩
def dkwX17_isLike_0 : List UInt8 := [42, 44, 185, 0, 1, 2, 0, 153, 0, 15, 44, 43, 182, 0, 7, 153, 0, 7, 4, 167, 0, 4, 3, 172]
abbrev dktX17_isLike_0 : List UInt8 := dkwX17_isLike_0 ++ []
theorem dksX17_isLike_0 : cX17_isLike.data.toList.drop 0 = dktX17_isLike_0 := by decide +kernel
theorem dX17_isLike_0 : decode cX17_isLike 0 = .ok (.aload_n 0, 1) := dk_42 (dk_at dksX17_isLike_0 0 rfl rfl)
theorem dX17_isLike_1 : decode cX17_isLike 1 = .ok (.aload_n 2, 1) := dk_44 (dk_at dksX17_isLike_0 1 rfl rfl)
theorem dX17_isLike_2 : decode cX17_isLike 2 = .ok (.invokeinterface 1 2, 5) := by decide +kernel
theorem dX17_isLike_7 : decode cX17_isLike 7 = .ok (.ifCond .eq 15, 3) := dk_153 0 15 (dk_at dksX17_isLike_0 7 rfl rfl)
theorem dX17_isLike_10 : decode cX17_isLike 10 = .ok (.aload_n 2, 1) := dk_44 (dk_at dksX17_isLike_0 10 rfl rfl)
theorem dX17_isLike_11 : decode cX17_isLike 11 = .ok (.aload_n 1, 1) := dk_43 (dk_at dksX17_isLike_0 11 rfl rfl)
theorem dX17_isLike_12 : decode cX17_isLike 12 = .ok (.invokevirtual 7, 3) := dk_182 0 7 (dk_at dksX17_isLike_0 12 rfl rfl)
theorem dX17_isLike_15 : decode cX17_isLike 15 = .ok (.ifCond .eq 7, 3) := dk_153 0 7 (dk_at dksX17_isLike_0 15 rfl rfl)
theorem dX17_isLike_18 : decode cX17_isLike 18 = .ok (.iconst 1, 1) := dk_4 (dk_at dksX17_isLike_0 18 rfl rfl)
theorem dX17_isLike_19 : decode cX17_isLike 19 = .ok (.goto 4, 3) := dk_167 0 4 (dk_at dksX17_isLike_0 19 rfl rfl)
theorem dX17_isLike_22 : decode cX17_isLike 22 = .ok (.iconst 0, 1) := dk_3 (dk_at dksX17_isLike_0 22 rfl rfl)
theorem dX17_isLike_23 : decode cX17_isLike 23 = .ok (.ireturn, 1) := dk_172 (dk_at dksX17_isLike_0 23 rfl rfl)
theorem q645 : (Jvm.Cond.declares ({ cls := "TwoGuilds$Fits", name := "isLike", desc := "(LTwoGuilds$Glove;LTwoGuilds$Glove;)Z" } : Jvm.MethodName)) ∈ lw_tbl := lw_at lw_m3 94 rfl
theorem q652 : (Jvm.Cond.instanceMethod ({ cls := "TwoGuilds$Fits", name := "isLike", desc := "(LTwoGuilds$Glove;LTwoGuilds$Glove;)Z" } : Jvm.MethodName)) ∈ lw_all := lw_g (lw_at lw_m3 101 rfl) rfl
theorem q653 : (Jvm.Cond.publicMethod ({ cls := "TwoGuilds$Fits", name := "isLike", desc := "(LTwoGuilds$Glove;LTwoGuilds$Glove;)Z" } : Jvm.MethodName)) ∈ lw_tbl := lw_at lw_m3 102 rfl
theorem q654 : (Jvm.Cond.code ({ cls := "TwoGuilds$Fits", name := "isLike", desc := "(LTwoGuilds$Glove;LTwoGuilds$Glove;)Z" } : Jvm.MethodName) prog_4_method_2_code (3 : Nat) (Option.some Jvm.ClassFile.FieldType.boolean)) ∈ lw_all := lw_g (lw_at lw_m3 103 rfl) rfl
theorem q655 : (Jvm.Cond.interfaceEntry "TwoGuilds$Fits" (1 : Nat)) ∈ lw_tbl := lw_at lw_m3 104 rfl
theorem q656 : (Jvm.Cond.methodLink "TwoGuilds$Fits" (1 : Nat) ({ cls := "TwoGuilds$Fits", name := "fits", desc := "(LTwoGuilds$Glove;)Z" } : Jvm.MethodName)) ∈ lw_all := lw_g (lw_at lw_m3 105 rfl) rfl
theorem q657 : (Jvm.Cond.interfaceMethod "TwoGuilds$Fits" "TwoGuilds$Fits" "fits" "(LTwoGuilds$Glove;)Z") ∈ lw_tbl := lw_at lw_m3 106 rfl
theorem q658 : (Jvm.Cond.declares ({ cls := "TwoGuilds$Fits", name := "fits", desc := "(LTwoGuilds$Glove;)Z" } : Jvm.MethodName)) ∈ lw_tbl := lw_at lw_m3 107 rfl
theorem q683 : (Jvm.Cond.methodLink "TwoGuilds$Fits" (7 : Nat) ({ cls := "TwoGuilds$Glove", name := "fits", desc := "(LTwoGuilds$Glove;)Z" } : Jvm.MethodName)) ∈ lw_all := lw_g (lw_at lw_m3 132 rfl) rfl
