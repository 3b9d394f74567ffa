/-! FortyDaysModel -/
set_option maxRecDepth 100000
def RX4 : String := "FortyDaysModel"
def TX4 : u_T := fun k => match k with
  | 0 => ("FortyDaysModel", "thrown", "I", false)
  | 1 => ("FortyDaysModel", "s", "[I", true)
  | 2 => ("FortyDaysModel", "image", "[I", true)
  | 3 => ("FortyDaysModel", "hasImage", "Z", false)
  | 4 => ("FortyDaysModel", "act", "I", false)
  | 5 => ("FortyDaysModel", "spot", "I", false)
  | 6 => ("FortyDaysModel", "size", "I", false)
  | 7 => ("FortyDaysModel", "isWrong", "Z", false)
  | 8 => ("FortyDaysModel", "open", "I", false)
  | 9 => ("FortyDaysModel", "truths", "[Z", true)
  | 10 => ("FortyDaysModel", "q", "[I", true)
  | 11 => ("FortyDaysModel", "text", "I", false)
  | 12 => ("FortyDaysModel", "hands", "I", false)
  | 13 => ("FortyDaysModel", "says", "I", false)
  | 14 => ("FortyDaysModel", "giveMore", "I", false)
  | 15 => ("FortyDaysModel", "isLet", "Z", false)
  | 16 => ("FortyDaysModel", "harms", "[J", true)
  | 17 => ("FortyDaysModel", "means", "[J", true)
  | 18 => ("FortyDaysModel", "halves", "[J", true)
  | 19 => ("FortyDaysModel", "bodies", "[I", true)
  | 20 => ("FortyDaysModel", "ran", "I", false)
  | 21 => ("FortyDaysModel", "kindNow", "I", false)
  | 22 => ("FortyDaysModel", "who", "I", false)
  | _ => ("FortyDaysModel", "tellsV", "I", false)
def tyX4 : Nat → FieldType := fun k => match k with
  | 0 => .int
  | 1 => .array .int
  | 2 => .array .int
  | 3 => .boolean
  | 4 => .int
  | 5 => .int
  | 6 => .int
  | 7 => .boolean
  | 8 => .int
  | 9 => .array .boolean
  | 10 => .array .int
  | 11 => .int
  | 12 => .int
  | 13 => .int
  | 14 => .int
  | 15 => .boolean
  | 16 => .array .long
  | 17 => .array .long
  | 18 => .array .long
  | 19 => .array .int
  | 20 => .int
  | 21 => .int
  | 22 => .int
  | _ => .int
abbrev wsX40 : List Cond := u_ws RX4 TX4 24
set_option maxRecDepth 100000 in
theorem nmX4 : ∀ a, a < 24 → ∀ b, b < 24 → a ≠ b → (TX4 a).2.1 ≠ (TX4 b).2.1 := by decide +kernel
set_option maxRecDepth 100000 in
theorem tyX4_ok : ∀ k, k < 24 → parseFieldDescriptor (TX4 k).2.2.1 = some (tyX4 k) := by decide +kernel
abbrev cX4_init : ByteArray := prog_21_method_1_code
def yX4_init : MethodName := ⟨RX4, "<init>", "()V"⟩
def dkwX4_init_2 : List UInt8 := [16, 20, 188, 11, 181, 0, 29, 42, 16, 20, 188, 11, 181, 0, 32, 42, 16, 20, 188, 10, 181, 0, 35, 177]
abbrev dktX4_init_2 : List UInt8 := dkwX4_init_2 ++ []
def dkwX4_init_1 : List UInt8 := [16, 64, 188, 4, 181, 0, 18, 42, 16, 8, 188, 10, 181, 0, 22, 42, 16, 12, 188, 11, 181, 0, 25, 42]
abbrev dktX4_init_1 : List UInt8 := dkwX4_init_1 ++ dktX4_init_2
def dkwX4_init_0 : List UInt8 := [42, 183, 0, 3, 42, 17, 4, 136, 188, 10, 181, 0, 9, 42, 17, 4, 136, 188, 10, 181, 0, 15, 42]
abbrev dktX4_init_0 : List UInt8 := dkwX4_init_0 ++ dktX4_init_1
theorem dksX4_init_0 : cX4_init.data.toList.drop 0 = dktX4_init_0 := by decide +kernel
theorem dksX4_init_1 : cX4_init.data.toList.drop 23 = dktX4_init_1 := dk_seg dksX4_init_0 23 rfl rfl
theorem dksX4_init_2 : cX4_init.data.toList.drop 47 = dktX4_init_2 := dk_seg dksX4_init_1 24 rfl rfl
theorem dX4_init_0 : decode cX4_init 0 = .ok (.aload_n 0, 1) := dk_42 (dk_at dksX4_init_0 0 rfl rfl)
theorem dX4_init_1 : decode cX4_init 1 = .ok (.invokespecial 3, 3) := dk_183 0 3 (dk_at dksX4_init_0 1 rfl rfl)
theorem dX4_init_4 : decode cX4_init 4 = .ok (.aload_n 0, 1) := dk_42 (dk_at dksX4_init_0 4 rfl rfl)
theorem dX4_init_5 : decode cX4_init 5 = .ok (.sipush 1160, 3) := dk_17 4 136 (dk_at dksX4_init_0 5 rfl rfl)
theorem dX4_init_8 : decode cX4_init 8 = .ok (.newarray .int, 2) := dk_188_10 (dk_at dksX4_init_0 8 rfl rfl)
theorem dX4_init_10 : decode cX4_init 10 = .ok (.putfield 9, 3) := dk_181 0 9 (dk_at dksX4_init_0 10 rfl rfl)
theorem dX4_init_13 : decode cX4_init 13 = .ok (.aload_n 0, 1) := dk_42 (dk_at dksX4_init_0 13 rfl rfl)
theorem dX4_init_14 : decode cX4_init 14 = .ok (.sipush 1160, 3) := dk_17 4 136 (dk_at dksX4_init_0 14 rfl rfl)
theorem dX4_init_17 : decode cX4_init 17 = .ok (.newarray .int, 2) := dk_188_10 (dk_at dksX4_init_0 17 rfl rfl)
theorem dX4_init_19 : decode cX4_init 19 = .ok (.putfield 15, 3) := dk_181 0 15 (dk_at dksX4_init_0 19 rfl rfl)
theorem dX4_init_22 : decode cX4_init 22 = .ok (.aload_n 0, 1) := dk_42 (dk_at dksX4_init_0 22 rfl rfl)
theorem dX4_init_23 : decode cX4_init 23 = .ok (.bipush 64, 2) := dk_16 64 (dk_at dksX4_init_1 0 rfl rfl)
theorem dX4_init_25 : decode cX4_init 25 = .ok (.newarray .boolean, 2) := dk_188_4 (dk_at dksX4_init_1 2 rfl rfl)
theorem dX4_init_27 : decode cX4_init 27 = .ok (.putfield 18, 3) := dk_181 0 18 (dk_at dksX4_init_1 4 rfl rfl)
theorem dX4_init_30 : decode cX4_init 30 = .ok (.aload_n 0, 1) := dk_42 (dk_at dksX4_init_1 7 rfl rfl)
theorem dX4_init_31 : decode cX4_init 31 = .ok (.bipush 8, 2) := dk_16 8 (dk_at dksX4_init_1 8 rfl rfl)
theorem dX4_init_33 : decode cX4_init 33 = .ok (.newarray .int, 2) := dk_188_10 (dk_at dksX4_init_1 10 rfl rfl)
theorem dX4_init_35 : decode cX4_init 35 = .ok (.putfield 22, 3) := dk_181 0 22 (dk_at dksX4_init_1 12 rfl rfl)
theorem dX4_init_38 : decode cX4_init 38 = .ok (.aload_n 0, 1) := dk_42 (dk_at dksX4_init_1 15 rfl rfl)
theorem dX4_init_39 : decode cX4_init 39 = .ok (.bipush 12, 2) := dk_16 12 (dk_at dksX4_init_1 16 rfl rfl)
theorem dX4_init_41 : decode cX4_init 41 = .ok (.newarray .long, 2) := dk_188_11 (dk_at dksX4_init_1 18 rfl rfl)
theorem dX4_init_43 : decode cX4_init 43 = .ok (.putfield 25, 3) := dk_181 0 25 (dk_at dksX4_init_1 20 rfl rfl)
theorem dX4_init_46 : decode cX4_init 46 = .ok (.aload_n 0, 1) := dk_42 (dk_at dksX4_init_1 23 rfl rfl)
theorem dX4_init_47 : decode cX4_init 47 = .ok (.bipush 20, 2) := dk_16 20 (dk_at dksX4_init_2 0 rfl rfl)
theorem dX4_init_49 : decode cX4_init 49 = .ok (.newarray .long, 2) := dk_188_11 (dk_at dksX4_init_2 2 rfl rfl)
theorem dX4_init_51 : decode cX4_init 51 = .ok (.putfield 29, 3) := dk_181 0 29 (dk_at dksX4_init_2 4 rfl rfl)
theorem dX4_init_54 : decode cX4_init 54 = .ok (.aload_n 0, 1) := dk_42 (dk_at dksX4_init_2 7 rfl rfl)
theorem dX4_init_55 : decode cX4_init 55 = .ok (.bipush 20, 2) := dk_16 20 (dk_at dksX4_init_2 8 rfl rfl)
theorem dX4_init_57 : decode cX4_init 57 = .ok (.newarray .long, 2) := dk_188_11 (dk_at dksX4_init_2 10 rfl rfl)
theorem dX4_init_59 : decode cX4_init 59 = .ok (.putfield 32, 3) := dk_181 0 32 (dk_at dksX4_init_2 12 rfl rfl)
theorem dX4_init_62 : decode cX4_init 62 = .ok (.aload_n 0, 1) := dk_42 (dk_at dksX4_init_2 15 rfl rfl)
theorem dX4_init_63 : decode cX4_init 63 = .ok (.bipush 20, 2) := dk_16 20 (dk_at dksX4_init_2 16 rfl rfl)
theorem dX4_init_65 : decode cX4_init 65 = .ok (.newarray .int, 2) := dk_188_10 (dk_at dksX4_init_2 18 rfl rfl)
theorem dX4_init_67 : decode cX4_init 67 = .ok (.putfield 35, 3) := dk_181 0 35 (dk_at dksX4_init_2 20 rfl rfl)
theorem dX4_init_70 : decode cX4_init 70 = .ok (.return_, 1) := dk_177 (dk_at dksX4_init_2 23 rfl rfl)
abbrev cX4_feed : ByteArray := prog_21_method_7_code
def yX4_feed : MethodName := ⟨RX4, "feed", "(JI)I"⟩
def dkwX4_feed_3 : List UInt8 := [92, 46, 4, 96, 79, 132, 4, 255, 167, 255, 212, 42, 180, 0, 9, 6, 46, 172]
abbrev dktX4_feed_3 : List UInt8 := dkwX4_feed_3 ++ []
def dkwX4_feed_2 : List UInt8 := [180, 0, 9, 6, 46, 96, 31, 16, 8, 21, 4, 104, 123, 20, 0, 46, 127, 136, 79, 42, 180, 0, 9, 6]
abbrev dktX4_feed_2 : List UInt8 := dkwX4_feed_2 ++ dktX4_feed_3
def dkwX4_feed_1 : List UInt8 := [164, 0, 6, 16, 252, 172, 29, 4, 100, 54, 4, 21, 4, 155, 0, 45, 42, 180, 0, 9, 16, 10, 42]
abbrev dktX4_feed_1 : List UInt8 := dkwX4_feed_1 ++ dktX4_feed_2
def dkwX4_feed_0 : List UInt8 := [29, 4, 16, 8, 184, 0, 42, 154, 0, 6, 16, 254, 172, 42, 180, 0, 9, 6, 46, 29, 96, 16, 120]
abbrev dktX4_feed_0 : List UInt8 := dkwX4_feed_0 ++ dktX4_feed_1
theorem dksX4_feed_0 : cX4_feed.data.toList.drop 0 = dktX4_feed_0 := by decide +kernel
theorem dksX4_feed_1 : cX4_feed.data.toList.drop 23 = dktX4_feed_1 := dk_seg dksX4_feed_0 23 rfl rfl
theorem dksX4_feed_2 : cX4_feed.data.toList.drop 46 = dktX4_feed_2 := dk_seg dksX4_feed_1 23 rfl rfl
theorem dksX4_feed_3 : cX4_feed.data.toList.drop 70 = dktX4_feed_3 := dk_seg dksX4_feed_2 24 rfl rfl
theorem dX4_feed_0 : decode cX4_feed 0 = .ok (.iload_n 3, 1) := dk_29 (dk_at dksX4_feed_0 0 rfl rfl)
theorem dX4_feed_1 : decode cX4_feed 1 = .ok (.iconst 1, 1) := dk_4 (dk_at dksX4_feed_0 1 rfl rfl)
theorem dX4_feed_2 : decode cX4_feed 2 = .ok (.bipush 8, 2) := dk_16 8 (dk_at dksX4_feed_0 2 rfl rfl)
theorem dX4_feed_4 : decode cX4_feed 4 = .ok (.invokestatic 42, 3) := dk_184 0 42 (dk_at dksX4_feed_0 4 rfl rfl)
theorem dX4_feed_7 : decode cX4_feed 7 = .ok (.ifCond .ne 6, 3) := dk_154 0 6 (dk_at dksX4_feed_0 7 rfl rfl)
theorem dX4_feed_10 : decode cX4_feed 10 = .ok (.bipush (-2), 2) := dk_16 254 (dk_at dksX4_feed_0 10 rfl rfl)
theorem dX4_feed_12 : decode cX4_feed 12 = .ok (.ireturn, 1) := dk_172 (dk_at dksX4_feed_0 12 rfl rfl)
theorem dX4_feed_13 : decode cX4_feed 13 = .ok (.aload_n 0, 1) := dk_42 (dk_at dksX4_feed_0 13 rfl rfl)
theorem dX4_feed_14 : decode cX4_feed 14 = .ok (.getfield 9, 3) := dk_180 0 9 (dk_at dksX4_feed_0 14 rfl rfl)
theorem dX4_feed_17 : decode cX4_feed 17 = .ok (.iconst 3, 1) := dk_6 (dk_at dksX4_feed_0 17 rfl rfl)
theorem dX4_feed_18 : decode cX4_feed 18 = .ok (.iaload, 1) := dk_46 (dk_at dksX4_feed_0 18 rfl rfl)
theorem dX4_feed_19 : decode cX4_feed 19 = .ok (.iload_n 3, 1) := dk_29 (dk_at dksX4_feed_0 19 rfl rfl)
theorem dX4_feed_20 : decode cX4_feed 20 = .ok (.iadd, 1) := dk_96 (dk_at dksX4_feed_0 20 rfl rfl)
theorem dX4_feed_21 : decode cX4_feed 21 = .ok (.bipush 120, 2) := dk_16 120 (dk_at dksX4_feed_0 21 rfl rfl)
theorem dX4_feed_23 : decode cX4_feed 23 = .ok (.if_icmp .le 6, 3) := dk_164 0 6 (dk_at dksX4_feed_1 0 rfl rfl)
theorem dX4_feed_26 : decode cX4_feed 26 = .ok (.bipush (-4), 2) := dk_16 252 (dk_at dksX4_feed_1 3 rfl rfl)
theorem dX4_feed_28 : decode cX4_feed 28 = .ok (.ireturn, 1) := dk_172 (dk_at dksX4_feed_1 5 rfl rfl)
theorem dX4_feed_29 : decode cX4_feed 29 = .ok (.iload_n 3, 1) := dk_29 (dk_at dksX4_feed_1 6 rfl rfl)
theorem dX4_feed_30 : decode cX4_feed 30 = .ok (.iconst 1, 1) := dk_4 (dk_at dksX4_feed_1 7 rfl rfl)
theorem dX4_feed_31 : decode cX4_feed 31 = .ok (.isub, 1) := dk_100 (dk_at dksX4_feed_1 8 rfl rfl)
theorem dX4_feed_32 : decode cX4_feed 32 = .ok (.istore 4, 2) := dk_54 4 (dk_at dksX4_feed_1 9 rfl rfl)
theorem dX4_feed_34 : decode cX4_feed 34 = .ok (.iload 4, 2) := dk_21 4 (dk_at dksX4_feed_1 11 rfl rfl)
theorem dX4_feed_36 : decode cX4_feed 36 = .ok (.ifCond .lt 45, 3) := dk_155 0 45 (dk_at dksX4_feed_1 13 rfl rfl)
theorem dX4_feed_39 : decode cX4_feed 39 = .ok (.aload_n 0, 1) := dk_42 (dk_at dksX4_feed_1 16 rfl rfl)
theorem dX4_feed_40 : decode cX4_feed 40 = .ok (.getfield 9, 3) := dk_180 0 9 (dk_at dksX4_feed_1 17 rfl rfl)
theorem dX4_feed_43 : decode cX4_feed 43 = .ok (.bipush 10, 2) := dk_16 10 (dk_at dksX4_feed_1 20 rfl rfl)
theorem dX4_feed_45 : decode cX4_feed 45 = .ok (.aload_n 0, 1) := dk_42 (dk_at dksX4_feed_1 22 rfl rfl)
theorem dX4_feed_46 : decode cX4_feed 46 = .ok (.getfield 9, 3) := dk_180 0 9 (dk_at dksX4_feed_2 0 rfl rfl)
theorem dX4_feed_49 : decode cX4_feed 49 = .ok (.iconst 3, 1) := dk_6 (dk_at dksX4_feed_2 3 rfl rfl)
theorem dX4_feed_50 : decode cX4_feed 50 = .ok (.iaload, 1) := dk_46 (dk_at dksX4_feed_2 4 rfl rfl)
theorem dX4_feed_51 : decode cX4_feed 51 = .ok (.iadd, 1) := dk_96 (dk_at dksX4_feed_2 5 rfl rfl)
theorem dX4_feed_52 : decode cX4_feed 52 = .ok (.lload_n 1, 1) := dk_31 (dk_at dksX4_feed_2 6 rfl rfl)
theorem dX4_feed_53 : decode cX4_feed 53 = .ok (.bipush 8, 2) := dk_16 8 (dk_at dksX4_feed_2 7 rfl rfl)
theorem dX4_feed_55 : decode cX4_feed 55 = .ok (.iload 4, 2) := dk_21 4 (dk_at dksX4_feed_2 9 rfl rfl)
theorem dX4_feed_57 : decode cX4_feed 57 = .ok (.imul, 1) := dk_104 (dk_at dksX4_feed_2 11 rfl rfl)
theorem dX4_feed_58 : decode cX4_feed 58 = .ok (.lshr, 1) := dk_123 (dk_at dksX4_feed_2 12 rfl rfl)
theorem dX4_feed_59 : decode cX4_feed 59 = .ok (.ldc2_w 46, 3) := dk_20 0 46 (dk_at dksX4_feed_2 13 rfl rfl)
theorem dX4_feed_62 : decode cX4_feed 62 = .ok (.land, 1) := dk_127 (dk_at dksX4_feed_2 16 rfl rfl)
theorem dX4_feed_63 : decode cX4_feed 63 = .ok (.l2i, 1) := dk_136 (dk_at dksX4_feed_2 17 rfl rfl)
theorem dX4_feed_64 : decode cX4_feed 64 = .ok (.iastore, 1) := dk_79 (dk_at dksX4_feed_2 18 rfl rfl)
theorem dX4_feed_65 : decode cX4_feed 65 = .ok (.aload_n 0, 1) := dk_42 (dk_at dksX4_feed_2 19 rfl rfl)
theorem dX4_feed_66 : decode cX4_feed 66 = .ok (.getfield 9, 3) := dk_180 0 9 (dk_at dksX4_feed_2 20 rfl rfl)
theorem dX4_feed_69 : decode cX4_feed 69 = .ok (.iconst 3, 1) := dk_6 (dk_at dksX4_feed_2 23 rfl rfl)
theorem dX4_feed_70 : decode cX4_feed 70 = .ok (.dup2, 1) := dk_92 (dk_at dksX4_feed_3 0 rfl rfl)
theorem dX4_feed_71 : decode cX4_feed 71 = .ok (.iaload, 1) := dk_46 (dk_at dksX4_feed_3 1 rfl rfl)
theorem dX4_feed_72 : decode cX4_feed 72 = .ok (.iconst 1, 1) := dk_4 (dk_at dksX4_feed_3 2 rfl rfl)
theorem dX4_feed_73 : decode cX4_feed 73 = .ok (.iadd, 1) := dk_96 (dk_at dksX4_feed_3 3 rfl rfl)
theorem dX4_feed_74 : decode cX4_feed 74 = .ok (.iastore, 1) := dk_79 (dk_at dksX4_feed_3 4 rfl rfl)
theorem dX4_feed_75 : decode cX4_feed 75 = .ok (.iinc 4 (-1), 3) := dk_132 4 255 (dk_at dksX4_feed_3 5 rfl rfl)
theorem dX4_feed_78 : decode cX4_feed 78 = .ok (.goto (-44), 3) := dk_167 255 212 (dk_at dksX4_feed_3 8 rfl rfl)
theorem dX4_feed_81 : decode cX4_feed 81 = .ok (.aload_n 0, 1) := dk_42 (dk_at dksX4_feed_3 11 rfl rfl)
theorem dX4_feed_82 : decode cX4_feed 82 = .ok (.getfield 9, 3) := dk_180 0 9 (dk_at dksX4_feed_3 12 rfl rfl)
theorem dX4_feed_85 : decode cX4_feed 85 = .ok (.iconst 3, 1) := dk_6 (dk_at dksX4_feed_3 15 rfl rfl)
theorem dX4_feed_86 : decode cX4_feed 86 = .ok (.iaload, 1) := dk_46 (dk_at dksX4_feed_3 16 rfl rfl)
theorem dX4_feed_87 : decode cX4_feed 87 = .ok (.ireturn, 1) := dk_172 (dk_at dksX4_feed_3 17 rfl rfl)
abbrev cX4_in : ByteArray := prog_21_method_3_code
def yX4_in : MethodName := ⟨RX4, "in", "(III)Z"⟩
def dkwX4_in_0 : List UInt8 := [26, 27, 161, 0, 12, 26, 28, 163, 0, 7, 4, 167, 0, 4, 3, 172]
abbrev dktX4_in_0 : List UInt8 := dkwX4_in_0 ++ []
theorem dksX4_in_0 : cX4_in.data.toList.drop 0 = dktX4_in_0 := by decide +kernel
theorem dX4_in_0 : decode cX4_in 0 = .ok (.iload_n 0, 1) := dk_26 (dk_at dksX4_in_0 0 rfl rfl)
theorem dX4_in_1 : decode cX4_in 1 = .ok (.iload_n 1, 1) := dk_27 (dk_at dksX4_in_0 1 rfl rfl)
theorem dX4_in_2 : decode cX4_in 2 = .ok (.if_icmp .lt 12, 3) := dk_161 0 12 (dk_at dksX4_in_0 2 rfl rfl)
theorem dX4_in_5 : decode cX4_in 5 = .ok (.iload_n 0, 1) := dk_26 (dk_at dksX4_in_0 5 rfl rfl)
theorem dX4_in_6 : decode cX4_in 6 = .ok (.iload_n 2, 1) := dk_28 (dk_at dksX4_in_0 6 rfl rfl)
theorem dX4_in_7 : decode cX4_in 7 = .ok (.if_icmp .gt 7, 3) := dk_163 0 7 (dk_at dksX4_in_0 7 rfl rfl)
theorem dX4_in_10 : decode cX4_in 10 = .ok (.iconst 1, 1) := dk_4 (dk_at dksX4_in_0 10 rfl rfl)
theorem dX4_in_11 : decode cX4_in 11 = .ok (.goto 4, 3) := dk_167 0 4 (dk_at dksX4_in_0 11 rfl rfl)
theorem dX4_in_14 : decode cX4_in 14 = .ok (.iconst 0, 1) := dk_3 (dk_at dksX4_in_0 14 rfl rfl)
theorem dX4_in_15 : decode cX4_in 15 = .ok (.ireturn, 1) := dk_172 (dk_at dksX4_in_0 15 rfl rfl)
abbrev cX4_port : ByteArray := prog_21_method_21_code
def yX4_port : MethodName := ⟨RX4, "port", "()I"⟩
def dkwX4_port_8 : List UInt8 := [180, 0, 75, 172]
abbrev dktX4_port_8 : List UInt8 := dkwX4_port_8 ++ []
def dkwX4_port_7 : List UInt8 := [159, 0, 11, 16, 246, 42, 180, 0, 48, 100, 172, 42, 180, 0, 9, 3, 92, 46, 4, 96, 79, 42]
abbrev dktX4_port_7 : List UInt8 := dkwX4_port_7 ++ dktX4_port_8
def dkwX4_port_6 : List UInt8 := [182, 0, 131, 132, 1, 1, 167, 255, 217, 42, 180, 0, 54, 154, 0, 14, 42, 180, 0, 48, 42, 180, 0, 51]
abbrev dktX4_port_6 : List UInt8 := dkwX4_port_6 ++ dktX4_port_7
def dkwX4_port_5 : List UInt8 := [162, 0, 32, 42, 182, 0, 58, 16, 59, 160, 0, 23, 42, 89, 180, 0, 48, 4, 96, 181, 0, 48, 42]
abbrev dktX4_port_5 : List UInt8 := dkwX4_port_5 ++ dktX4_port_6
def dkwX4_port_4 : List UInt8 := [181, 0, 54, 42, 3, 181, 0, 78, 4, 60, 42, 182, 0, 131, 42, 180, 0, 54, 154, 0, 38, 27, 16, 12]
abbrev dktX4_port_4 : List UInt8 := dkwX4_port_4 ++ dktX4_port_5
def dkwX4_port_3 : List UInt8 := [180, 0, 75, 104, 96, 27, 96, 3, 79, 132, 1, 1, 167, 255, 228, 42, 3, 181, 0, 48, 42, 3]
abbrev dktX4_port_3 : List UInt8 := dkwX4_port_3 ++ dktX4_port_4
def dkwX4_port_2 : List UInt8 := [180, 0, 75, 96, 3, 79, 3, 60, 27, 16, 10, 162, 0, 28, 42, 180, 0, 9, 17, 0, 130, 16, 10, 42]
abbrev dktX4_port_2 : List UInt8 := dkwX4_port_2 ++ dktX4_port_3
def dkwX4_port_1 : List UInt8 := [42, 180, 0, 9, 6, 46, 181, 0, 51, 42, 180, 0, 9, 6, 3, 79, 42, 180, 0, 9, 17, 0, 180, 42]
abbrev dktX4_port_1 : List UInt8 := dkwX4_port_1 ++ dktX4_port_2
def dkwX4_port_0 : List UInt8 := [42, 180, 0, 9, 3, 46, 8, 160, 0, 6, 16, 252, 172, 42, 42, 180, 0, 9, 3, 46, 181, 0, 75, 42]
abbrev dktX4_port_0 : List UInt8 := dkwX4_port_0 ++ dktX4_port_1
theorem dksX4_port_0 : cX4_port.data.toList.drop 0 = dktX4_port_0 := by decide +kernel
theorem dksX4_port_1 : cX4_port.data.toList.drop 24 = dktX4_port_1 := dk_seg dksX4_port_0 24 rfl rfl
theorem dksX4_port_2 : cX4_port.data.toList.drop 48 = dktX4_port_2 := dk_seg dksX4_port_1 24 rfl rfl
theorem dksX4_port_3 : cX4_port.data.toList.drop 72 = dktX4_port_3 := dk_seg dksX4_port_2 24 rfl rfl
theorem dksX4_port_4 : cX4_port.data.toList.drop 94 = dktX4_port_4 := dk_seg dksX4_port_3 22 rfl rfl
theorem dksX4_port_5 : cX4_port.data.toList.drop 118 = dktX4_port_5 := dk_seg dksX4_port_4 24 rfl rfl
theorem dksX4_port_6 : cX4_port.data.toList.drop 141 = dktX4_port_6 := dk_seg dksX4_port_5 23 rfl rfl
theorem dksX4_port_7 : cX4_port.data.toList.drop 165 = dktX4_port_7 := dk_seg dksX4_port_6 24 rfl rfl
theorem dksX4_port_8 : cX4_port.data.toList.drop 187 = dktX4_port_8 := dk_seg dksX4_port_7 22 rfl rfl
theorem dX4_port_0 : decode cX4_port 0 = .ok (.aload_n 0, 1) := dk_42 (dk_at dksX4_port_0 0 rfl rfl)
theorem dX4_port_1 : decode cX4_port 1 = .ok (.getfield 9, 3) := dk_180 0 9 (dk_at dksX4_port_0 1 rfl rfl)
theorem dX4_port_4 : decode cX4_port 4 = .ok (.iconst 0, 1) := dk_3 (dk_at dksX4_port_0 4 rfl rfl)
theorem dX4_port_5 : decode cX4_port 5 = .ok (.iaload, 1) := dk_46 (dk_at dksX4_port_0 5 rfl rfl)
theorem dX4_port_6 : decode cX4_port 6 = .ok (.iconst 5, 1) := dk_8 (dk_at dksX4_port_0 6 rfl rfl)
theorem dX4_port_7 : decode cX4_port 7 = .ok (.if_icmp .ne 6, 3) := dk_160 0 6 (dk_at dksX4_port_0 7 rfl rfl)
theorem dX4_port_10 : decode cX4_port 10 = .ok (.bipush (-4), 2) := dk_16 252 (dk_at dksX4_port_0 10 rfl rfl)
theorem dX4_port_12 : decode cX4_port 12 = .ok (.ireturn, 1) := dk_172 (dk_at dksX4_port_0 12 rfl rfl)
theorem dX4_port_13 : decode cX4_port 13 = .ok (.aload_n 0, 1) := dk_42 (dk_at dksX4_port_0 13 rfl rfl)
theorem dX4_port_14 : decode cX4_port 14 = .ok (.aload_n 0, 1) := dk_42 (dk_at dksX4_port_0 14 rfl rfl)
theorem dX4_port_15 : decode cX4_port 15 = .ok (.getfield 9, 3) := dk_180 0 9 (dk_at dksX4_port_0 15 rfl rfl)
theorem dX4_port_18 : decode cX4_port 18 = .ok (.iconst 0, 1) := dk_3 (dk_at dksX4_port_0 18 rfl rfl)
theorem dX4_port_19 : decode cX4_port 19 = .ok (.iaload, 1) := dk_46 (dk_at dksX4_port_0 19 rfl rfl)
theorem dX4_port_20 : decode cX4_port 20 = .ok (.putfield 75, 3) := dk_181 0 75 (dk_at dksX4_port_0 20 rfl rfl)
theorem dX4_port_23 : decode cX4_port 23 = .ok (.aload_n 0, 1) := dk_42 (dk_at dksX4_port_0 23 rfl rfl)
theorem dX4_port_24 : decode cX4_port 24 = .ok (.aload_n 0, 1) := dk_42 (dk_at dksX4_port_1 0 rfl rfl)
theorem dX4_port_25 : decode cX4_port 25 = .ok (.getfield 9, 3) := dk_180 0 9 (dk_at dksX4_port_1 1 rfl rfl)
theorem dX4_port_28 : decode cX4_port 28 = .ok (.iconst 3, 1) := dk_6 (dk_at dksX4_port_1 4 rfl rfl)
theorem dX4_port_29 : decode cX4_port 29 = .ok (.iaload, 1) := dk_46 (dk_at dksX4_port_1 5 rfl rfl)
theorem dX4_port_30 : decode cX4_port 30 = .ok (.putfield 51, 3) := dk_181 0 51 (dk_at dksX4_port_1 6 rfl rfl)
theorem dX4_port_33 : decode cX4_port 33 = .ok (.aload_n 0, 1) := dk_42 (dk_at dksX4_port_1 9 rfl rfl)
theorem dX4_port_34 : decode cX4_port 34 = .ok (.getfield 9, 3) := dk_180 0 9 (dk_at dksX4_port_1 10 rfl rfl)
theorem dX4_port_37 : decode cX4_port 37 = .ok (.iconst 3, 1) := dk_6 (dk_at dksX4_port_1 13 rfl rfl)
theorem dX4_port_38 : decode cX4_port 38 = .ok (.iconst 0, 1) := dk_3 (dk_at dksX4_port_1 14 rfl rfl)
theorem dX4_port_39 : decode cX4_port 39 = .ok (.iastore, 1) := dk_79 (dk_at dksX4_port_1 15 rfl rfl)
theorem dX4_port_40 : decode cX4_port 40 = .ok (.aload_n 0, 1) := dk_42 (dk_at dksX4_port_1 16 rfl rfl)
theorem dX4_port_41 : decode cX4_port 41 = .ok (.getfield 9, 3) := dk_180 0 9 (dk_at dksX4_port_1 17 rfl rfl)
theorem dX4_port_44 : decode cX4_port 44 = .ok (.sipush 180, 3) := dk_17 0 180 (dk_at dksX4_port_1 20 rfl rfl)
theorem dX4_port_47 : decode cX4_port 47 = .ok (.aload_n 0, 1) := dk_42 (dk_at dksX4_port_1 23 rfl rfl)
theorem dX4_port_48 : decode cX4_port 48 = .ok (.getfield 75, 3) := dk_180 0 75 (dk_at dksX4_port_2 0 rfl rfl)
theorem dX4_port_51 : decode cX4_port 51 = .ok (.iadd, 1) := dk_96 (dk_at dksX4_port_2 3 rfl rfl)
theorem dX4_port_52 : decode cX4_port 52 = .ok (.iconst 0, 1) := dk_3 (dk_at dksX4_port_2 4 rfl rfl)
theorem dX4_port_53 : decode cX4_port 53 = .ok (.iastore, 1) := dk_79 (dk_at dksX4_port_2 5 rfl rfl)
theorem dX4_port_54 : decode cX4_port 54 = .ok (.iconst 0, 1) := dk_3 (dk_at dksX4_port_2 6 rfl rfl)
theorem dX4_port_55 : decode cX4_port 55 = .ok (.istore_n 1, 1) := dk_60 (dk_at dksX4_port_2 7 rfl rfl)
theorem dX4_port_56 : decode cX4_port 56 = .ok (.iload_n 1, 1) := dk_27 (dk_at dksX4_port_2 8 rfl rfl)
theorem dX4_port_57 : decode cX4_port 57 = .ok (.bipush 10, 2) := dk_16 10 (dk_at dksX4_port_2 9 rfl rfl)
theorem dX4_port_59 : decode cX4_port 59 = .ok (.if_icmp .ge 28, 3) := dk_162 0 28 (dk_at dksX4_port_2 11 rfl rfl)
theorem dX4_port_62 : decode cX4_port 62 = .ok (.aload_n 0, 1) := dk_42 (dk_at dksX4_port_2 14 rfl rfl)
theorem dX4_port_63 : decode cX4_port 63 = .ok (.getfield 9, 3) := dk_180 0 9 (dk_at dksX4_port_2 15 rfl rfl)
theorem dX4_port_66 : decode cX4_port 66 = .ok (.sipush 130, 3) := dk_17 0 130 (dk_at dksX4_port_2 18 rfl rfl)
theorem dX4_port_69 : decode cX4_port 69 = .ok (.bipush 10, 2) := dk_16 10 (dk_at dksX4_port_2 21 rfl rfl)
theorem dX4_port_71 : decode cX4_port 71 = .ok (.aload_n 0, 1) := dk_42 (dk_at dksX4_port_2 23 rfl rfl)
theorem dX4_port_72 : decode cX4_port 72 = .ok (.getfield 75, 3) := dk_180 0 75 (dk_at dksX4_port_3 0 rfl rfl)
theorem dX4_port_75 : decode cX4_port 75 = .ok (.imul, 1) := dk_104 (dk_at dksX4_port_3 3 rfl rfl)
theorem dX4_port_76 : decode cX4_port 76 = .ok (.iadd, 1) := dk_96 (dk_at dksX4_port_3 4 rfl rfl)
theorem dX4_port_77 : decode cX4_port 77 = .ok (.iload_n 1, 1) := dk_27 (dk_at dksX4_port_3 5 rfl rfl)
theorem dX4_port_78 : decode cX4_port 78 = .ok (.iadd, 1) := dk_96 (dk_at dksX4_port_3 6 rfl rfl)
theorem dX4_port_79 : decode cX4_port 79 = .ok (.iconst 0, 1) := dk_3 (dk_at dksX4_port_3 7 rfl rfl)
theorem dX4_port_80 : decode cX4_port 80 = .ok (.iastore, 1) := dk_79 (dk_at dksX4_port_3 8 rfl rfl)
theorem dX4_port_81 : decode cX4_port 81 = .ok (.iinc 1 1, 3) := dk_132 1 1 (dk_at dksX4_port_3 9 rfl rfl)
theorem dX4_port_84 : decode cX4_port 84 = .ok (.goto (-28), 3) := dk_167 255 228 (dk_at dksX4_port_3 12 rfl rfl)
theorem dX4_port_87 : decode cX4_port 87 = .ok (.aload_n 0, 1) := dk_42 (dk_at dksX4_port_3 15 rfl rfl)
theorem dX4_port_88 : decode cX4_port 88 = .ok (.iconst 0, 1) := dk_3 (dk_at dksX4_port_3 16 rfl rfl)
theorem dX4_port_89 : decode cX4_port 89 = .ok (.putfield 48, 3) := dk_181 0 48 (dk_at dksX4_port_3 17 rfl rfl)
theorem dX4_port_92 : decode cX4_port 92 = .ok (.aload_n 0, 1) := dk_42 (dk_at dksX4_port_3 20 rfl rfl)
theorem dX4_port_93 : decode cX4_port 93 = .ok (.iconst 0, 1) := dk_3 (dk_at dksX4_port_3 21 rfl rfl)
theorem dX4_port_94 : decode cX4_port 94 = .ok (.putfield 54, 3) := dk_181 0 54 (dk_at dksX4_port_4 0 rfl rfl)
theorem dX4_port_97 : decode cX4_port 97 = .ok (.aload_n 0, 1) := dk_42 (dk_at dksX4_port_4 3 rfl rfl)
theorem dX4_port_98 : decode cX4_port 98 = .ok (.iconst 0, 1) := dk_3 (dk_at dksX4_port_4 4 rfl rfl)
theorem dX4_port_99 : decode cX4_port 99 = .ok (.putfield 78, 3) := dk_181 0 78 (dk_at dksX4_port_4 5 rfl rfl)
theorem dX4_port_102 : decode cX4_port 102 = .ok (.iconst 1, 1) := dk_4 (dk_at dksX4_port_4 8 rfl rfl)
theorem dX4_port_103 : decode cX4_port 103 = .ok (.istore_n 1, 1) := dk_60 (dk_at dksX4_port_4 9 rfl rfl)
theorem dX4_port_104 : decode cX4_port 104 = .ok (.aload_n 0, 1) := dk_42 (dk_at dksX4_port_4 10 rfl rfl)
theorem dX4_port_105 : decode cX4_port 105 = .ok (.invokevirtual 131, 3) := dk_182 0 131 (dk_at dksX4_port_4 11 rfl rfl)
theorem dX4_port_108 : decode cX4_port 108 = .ok (.aload_n 0, 1) := dk_42 (dk_at dksX4_port_4 14 rfl rfl)
theorem dX4_port_109 : decode cX4_port 109 = .ok (.getfield 54, 3) := dk_180 0 54 (dk_at dksX4_port_4 15 rfl rfl)
theorem dX4_port_112 : decode cX4_port 112 = .ok (.ifCond .ne 38, 3) := dk_154 0 38 (dk_at dksX4_port_4 18 rfl rfl)
theorem dX4_port_115 : decode cX4_port 115 = .ok (.iload_n 1, 1) := dk_27 (dk_at dksX4_port_4 21 rfl rfl)
theorem dX4_port_116 : decode cX4_port 116 = .ok (.bipush 12, 2) := dk_16 12 (dk_at dksX4_port_4 22 rfl rfl)
theorem dX4_port_118 : decode cX4_port 118 = .ok (.if_icmp .ge 32, 3) := dk_162 0 32 (dk_at dksX4_port_5 0 rfl rfl)
theorem dX4_port_121 : decode cX4_port 121 = .ok (.aload_n 0, 1) := dk_42 (dk_at dksX4_port_5 3 rfl rfl)
theorem dX4_port_122 : decode cX4_port 122 = .ok (.invokevirtual 58, 3) := dk_182 0 58 (dk_at dksX4_port_5 4 rfl rfl)
theorem dX4_port_125 : decode cX4_port 125 = .ok (.bipush 59, 2) := dk_16 59 (dk_at dksX4_port_5 7 rfl rfl)
theorem dX4_port_127 : decode cX4_port 127 = .ok (.if_icmp .ne 23, 3) := dk_160 0 23 (dk_at dksX4_port_5 9 rfl rfl)
theorem dX4_port_130 : decode cX4_port 130 = .ok (.aload_n 0, 1) := dk_42 (dk_at dksX4_port_5 12 rfl rfl)
theorem dX4_port_131 : decode cX4_port 131 = .ok (.dup, 1) := dk_89 (dk_at dksX4_port_5 13 rfl rfl)
theorem dX4_port_132 : decode cX4_port 132 = .ok (.getfield 48, 3) := dk_180 0 48 (dk_at dksX4_port_5 14 rfl rfl)
theorem dX4_port_135 : decode cX4_port 135 = .ok (.iconst 1, 1) := dk_4 (dk_at dksX4_port_5 17 rfl rfl)
theorem dX4_port_136 : decode cX4_port 136 = .ok (.iadd, 1) := dk_96 (dk_at dksX4_port_5 18 rfl rfl)
theorem dX4_port_137 : decode cX4_port 137 = .ok (.putfield 48, 3) := dk_181 0 48 (dk_at dksX4_port_5 19 rfl rfl)
theorem dX4_port_140 : decode cX4_port 140 = .ok (.aload_n 0, 1) := dk_42 (dk_at dksX4_port_5 22 rfl rfl)
theorem dX4_port_141 : decode cX4_port 141 = .ok (.invokevirtual 131, 3) := dk_182 0 131 (dk_at dksX4_port_6 0 rfl rfl)
theorem dX4_port_144 : decode cX4_port 144 = .ok (.iinc 1 1, 3) := dk_132 1 1 (dk_at dksX4_port_6 3 rfl rfl)
theorem dX4_port_147 : decode cX4_port 147 = .ok (.goto (-39), 3) := dk_167 255 217 (dk_at dksX4_port_6 6 rfl rfl)
theorem dX4_port_150 : decode cX4_port 150 = .ok (.aload_n 0, 1) := dk_42 (dk_at dksX4_port_6 9 rfl rfl)
theorem dX4_port_151 : decode cX4_port 151 = .ok (.getfield 54, 3) := dk_180 0 54 (dk_at dksX4_port_6 10 rfl rfl)
theorem dX4_port_154 : decode cX4_port 154 = .ok (.ifCond .ne 14, 3) := dk_154 0 14 (dk_at dksX4_port_6 13 rfl rfl)
theorem dX4_port_157 : decode cX4_port 157 = .ok (.aload_n 0, 1) := dk_42 (dk_at dksX4_port_6 16 rfl rfl)
theorem dX4_port_158 : decode cX4_port 158 = .ok (.getfield 48, 3) := dk_180 0 48 (dk_at dksX4_port_6 17 rfl rfl)
theorem dX4_port_161 : decode cX4_port 161 = .ok (.aload_n 0, 1) := dk_42 (dk_at dksX4_port_6 20 rfl rfl)
theorem dX4_port_162 : decode cX4_port 162 = .ok (.getfield 51, 3) := dk_180 0 51 (dk_at dksX4_port_6 21 rfl rfl)
theorem dX4_port_165 : decode cX4_port 165 = .ok (.if_icmp .eq 11, 3) := dk_159 0 11 (dk_at dksX4_port_7 0 rfl rfl)
theorem dX4_port_168 : decode cX4_port 168 = .ok (.bipush (-10), 2) := dk_16 246 (dk_at dksX4_port_7 3 rfl rfl)
theorem dX4_port_170 : decode cX4_port 170 = .ok (.aload_n 0, 1) := dk_42 (dk_at dksX4_port_7 5 rfl rfl)
theorem dX4_port_171 : decode cX4_port 171 = .ok (.getfield 48, 3) := dk_180 0 48 (dk_at dksX4_port_7 6 rfl rfl)
theorem dX4_port_174 : decode cX4_port 174 = .ok (.isub, 1) := dk_100 (dk_at dksX4_port_7 9 rfl rfl)
theorem dX4_port_175 : decode cX4_port 175 = .ok (.ireturn, 1) := dk_172 (dk_at dksX4_port_7 10 rfl rfl)
theorem dX4_port_176 : decode cX4_port 176 = .ok (.aload_n 0, 1) := dk_42 (dk_at dksX4_port_7 11 rfl rfl)
theorem dX4_port_177 : decode cX4_port 177 = .ok (.getfield 9, 3) := dk_180 0 9 (dk_at dksX4_port_7 12 rfl rfl)
theorem dX4_port_180 : decode cX4_port 180 = .ok (.iconst 0, 1) := dk_3 (dk_at dksX4_port_7 15 rfl rfl)
theorem dX4_port_181 : decode cX4_port 181 = .ok (.dup2, 1) := dk_92 (dk_at dksX4_port_7 16 rfl rfl)
theorem dX4_port_182 : decode cX4_port 182 = .ok (.iaload, 1) := dk_46 (dk_at dksX4_port_7 17 rfl rfl)
theorem dX4_port_183 : decode cX4_port 183 = .ok (.iconst 1, 1) := dk_4 (dk_at dksX4_port_7 18 rfl rfl)
theorem dX4_port_184 : decode cX4_port 184 = .ok (.iadd, 1) := dk_96 (dk_at dksX4_port_7 19 rfl rfl)
theorem dX4_port_185 : decode cX4_port 185 = .ok (.iastore, 1) := dk_79 (dk_at dksX4_port_7 20 rfl rfl)
theorem dX4_port_186 : decode cX4_port 186 = .ok (.aload_n 0, 1) := dk_42 (dk_at dksX4_port_7 21 rfl rfl)
theorem dX4_port_187 : decode cX4_port 187 = .ok (.getfield 75, 3) := dk_180 0 75 (dk_at dksX4_port_8 0 rfl rfl)
theorem dX4_port_190 : decode cX4_port 190 = .ok (.ireturn, 1) := dk_172 (dk_at dksX4_port_8 3 rfl rfl)
abbrev cX4_clause : ByteArray := prog_21_method_20_code
def yX4_clause : MethodName := ⟨RX4, "clause", "()V"⟩
def dkwX4_clause_4 : List UInt8 := [167, 0, 19, 42, 16, 9, 18, 129, 182, 0, 104, 167, 0, 8, 42, 4, 181, 0, 54, 177]
abbrev dktX4_clause_4 : List UInt8 := dkwX4_clause_4 ++ []
def dkwX4_clause_3 : List UInt8 := [167, 0, 41, 42, 16, 6, 18, 125, 182, 0, 104, 167, 0, 30, 42, 16, 8, 18, 127, 182, 0, 104]
abbrev dktX4_clause_3 : List UInt8 := dkwX4_clause_3 ++ dktX4_clause_4
def dkwX4_clause_2 : List UInt8 := [42, 182, 0, 118, 167, 0, 61, 42, 7, 18, 121, 182, 0, 104, 167, 0, 51, 42, 8, 18, 123, 182, 0, 104]
abbrev dktX4_clause_2 : List UInt8 := dkwX4_clause_2 ++ dktX4_clause_3
def dkwX4_clause_1 : List UInt8 := [170, 0, 0, 0, 0, 0, 0, 128, 0, 0, 0, 103, 0, 0, 0, 115, 0, 0, 0, 75, 0, 0, 0, 68, 0, 0, 0, 128, 0, 0, 0, 128, 0, 0, 0, 128, 0, 0, 0, 106, 0, 0, 0, 117, 0, 0, 0, 128, 0, 0, 0, 95, 0, 0, 0, 128, 0, 0, 0, 128, 0, 0, 0, 128, 0, 0, 0, 85]
abbrev dktX4_clause_1 : List UInt8 := dkwX4_clause_1 ++ dktX4_clause_2
def dkwX4_clause_0 : List UInt8 := [42, 182, 0, 58]
abbrev dktX4_clause_0 : List UInt8 := dkwX4_clause_0 ++ dktX4_clause_1
theorem dksX4_clause_0 : cX4_clause.data.toList.drop 0 = dktX4_clause_0 := by decide +kernel
theorem dksX4_clause_1 : cX4_clause.data.toList.drop 4 = dktX4_clause_1 := dk_seg dksX4_clause_0 4 rfl rfl
theorem dksX4_clause_2 : cX4_clause.data.toList.drop 72 = dktX4_clause_2 := dk_seg dksX4_clause_1 68 rfl rfl
theorem dksX4_clause_3 : cX4_clause.data.toList.drop 96 = dktX4_clause_3 := dk_seg dksX4_clause_2 24 rfl rfl
theorem dksX4_clause_4 : cX4_clause.data.toList.drop 118 = dktX4_clause_4 := dk_seg dksX4_clause_3 22 rfl rfl
theorem dX4_clause_0 : decode cX4_clause 0 = .ok (.aload_n 0, 1) := dk_42 (dk_at dksX4_clause_0 0 rfl rfl)
theorem dX4_clause_1 : decode cX4_clause 1 = .ok (.invokevirtual 58, 3) := dk_182 0 58 (dk_at dksX4_clause_0 1 rfl rfl)
theorem dX4_clause_4 : decode cX4_clause 4 = .ok (.tableswitch 128 103 115 #[75, 68, 128, 128, 128, 106, 117, 128, 95, 128, 128, 128, 85], 68) := by decide +kernel
theorem dX4_clause_72 : decode cX4_clause 72 = .ok (.aload_n 0, 1) := dk_42 (dk_at dksX4_clause_2 0 rfl rfl)
theorem dX4_clause_73 : decode cX4_clause 73 = .ok (.invokevirtual 118, 3) := dk_182 0 118 (dk_at dksX4_clause_2 1 rfl rfl)
theorem dX4_clause_76 : decode cX4_clause 76 = .ok (.goto 61, 3) := dk_167 0 61 (dk_at dksX4_clause_2 4 rfl rfl)
theorem dX4_clause_79 : decode cX4_clause 79 = .ok (.aload_n 0, 1) := dk_42 (dk_at dksX4_clause_2 7 rfl rfl)
theorem dX4_clause_80 : decode cX4_clause 80 = .ok (.iconst 4, 1) := dk_7 (dk_at dksX4_clause_2 8 rfl rfl)
theorem dX4_clause_81 : decode cX4_clause 81 = .ok (.ldc 121, 2) := dk_18 121 (dk_at dksX4_clause_2 9 rfl rfl)
theorem dX4_clause_83 : decode cX4_clause 83 = .ok (.invokevirtual 104, 3) := dk_182 0 104 (dk_at dksX4_clause_2 11 rfl rfl)
theorem dX4_clause_86 : decode cX4_clause 86 = .ok (.goto 51, 3) := dk_167 0 51 (dk_at dksX4_clause_2 14 rfl rfl)
theorem dX4_clause_89 : decode cX4_clause 89 = .ok (.aload_n 0, 1) := dk_42 (dk_at dksX4_clause_2 17 rfl rfl)
theorem dX4_clause_90 : decode cX4_clause 90 = .ok (.iconst 5, 1) := dk_8 (dk_at dksX4_clause_2 18 rfl rfl)
theorem dX4_clause_91 : decode cX4_clause 91 = .ok (.ldc 123, 2) := dk_18 123 (dk_at dksX4_clause_2 19 rfl rfl)
theorem dX4_clause_93 : decode cX4_clause 93 = .ok (.invokevirtual 104, 3) := dk_182 0 104 (dk_at dksX4_clause_2 21 rfl rfl)
theorem dX4_clause_96 : decode cX4_clause 96 = .ok (.goto 41, 3) := dk_167 0 41 (dk_at dksX4_clause_3 0 rfl rfl)
theorem dX4_clause_99 : decode cX4_clause 99 = .ok (.aload_n 0, 1) := dk_42 (dk_at dksX4_clause_3 3 rfl rfl)
theorem dX4_clause_100 : decode cX4_clause 100 = .ok (.bipush 6, 2) := dk_16 6 (dk_at dksX4_clause_3 4 rfl rfl)
theorem dX4_clause_102 : decode cX4_clause 102 = .ok (.ldc 125, 2) := dk_18 125 (dk_at dksX4_clause_3 6 rfl rfl)
theorem dX4_clause_104 : decode cX4_clause 104 = .ok (.invokevirtual 104, 3) := dk_182 0 104 (dk_at dksX4_clause_3 8 rfl rfl)
theorem dX4_clause_107 : decode cX4_clause 107 = .ok (.goto 30, 3) := dk_167 0 30 (dk_at dksX4_clause_3 11 rfl rfl)
theorem dX4_clause_110 : decode cX4_clause 110 = .ok (.aload_n 0, 1) := dk_42 (dk_at dksX4_clause_3 14 rfl rfl)
theorem dX4_clause_111 : decode cX4_clause 111 = .ok (.bipush 8, 2) := dk_16 8 (dk_at dksX4_clause_3 15 rfl rfl)
theorem dX4_clause_113 : decode cX4_clause 113 = .ok (.ldc 127, 2) := dk_18 127 (dk_at dksX4_clause_3 17 rfl rfl)
theorem dX4_clause_115 : decode cX4_clause 115 = .ok (.invokevirtual 104, 3) := dk_182 0 104 (dk_at dksX4_clause_3 19 rfl rfl)
theorem dX4_clause_118 : decode cX4_clause 118 = .ok (.goto 19, 3) := dk_167 0 19 (dk_at dksX4_clause_4 0 rfl rfl)
theorem dX4_clause_121 : decode cX4_clause 121 = .ok (.aload_n 0, 1) := dk_42 (dk_at dksX4_clause_4 3 rfl rfl)
theorem dX4_clause_122 : decode cX4_clause 122 = .ok (.bipush 9, 2) := dk_16 9 (dk_at dksX4_clause_4 4 rfl rfl)
theorem dX4_clause_124 : decode cX4_clause 124 = .ok (.ldc 129, 2) := dk_18 129 (dk_at dksX4_clause_4 6 rfl rfl)
theorem dX4_clause_126 : decode cX4_clause 126 = .ok (.invokevirtual 104, 3) := dk_182 0 104 (dk_at dksX4_clause_4 8 rfl rfl)
theorem dX4_clause_129 : decode cX4_clause 129 = .ok (.goto 8, 3) := dk_167 0 8 (dk_at dksX4_clause_4 11 rfl rfl)
theorem dX4_clause_132 : decode cX4_clause 132 = .ok (.aload_n 0, 1) := dk_42 (dk_at dksX4_clause_4 14 rfl rfl)
theorem dX4_clause_133 : decode cX4_clause 133 = .ok (.iconst 1, 1) := dk_4 (dk_at dksX4_clause_4 15 rfl rfl)
theorem dX4_clause_134 : decode cX4_clause 134 = .ok (.putfield 54, 3) := dk_181 0 54 (dk_at dksX4_clause_4 16 rfl rfl)
theorem dX4_clause_137 : decode cX4_clause 137 = .ok (.return_, 1) := dk_177 (dk_at dksX4_clause_4 19 rfl rfl)
abbrev cX4_here : ByteArray := prog_21_method_8_code
def yX4_here : MethodName := ⟨RX4, "here", "()I"⟩
def dkwX4_here_1 : List UInt8 := [167, 0, 4, 2, 172]
abbrev dktX4_here_1 : List UInt8 := dkwX4_here_1 ++ []
def dkwX4_here_0 : List UInt8 := [42, 180, 0, 48, 42, 180, 0, 51, 162, 0, 18, 42, 180, 0, 9, 16, 10, 42, 180, 0, 48, 96, 46]
abbrev dktX4_here_0 : List UInt8 := dkwX4_here_0 ++ dktX4_here_1
theorem dksX4_here_0 : cX4_here.data.toList.drop 0 = dktX4_here_0 := by decide +kernel
theorem dksX4_here_1 : cX4_here.data.toList.drop 23 = dktX4_here_1 := dk_seg dksX4_here_0 23 rfl rfl
theorem dX4_here_0 : decode cX4_here 0 = .ok (.aload_n 0, 1) := dk_42 (dk_at dksX4_here_0 0 rfl rfl)
theorem dX4_here_1 : decode cX4_here 1 = .ok (.getfield 48, 3) := dk_180 0 48 (dk_at dksX4_here_0 1 rfl rfl)
theorem dX4_here_4 : decode cX4_here 4 = .ok (.aload_n 0, 1) := dk_42 (dk_at dksX4_here_0 4 rfl rfl)
theorem dX4_here_5 : decode cX4_here 5 = .ok (.getfield 51, 3) := dk_180 0 51 (dk_at dksX4_here_0 5 rfl rfl)
theorem dX4_here_8 : decode cX4_here 8 = .ok (.if_icmp .ge 18, 3) := dk_162 0 18 (dk_at dksX4_here_0 8 rfl rfl)
theorem dX4_here_11 : decode cX4_here 11 = .ok (.aload_n 0, 1) := dk_42 (dk_at dksX4_here_0 11 rfl rfl)
theorem dX4_here_12 : decode cX4_here 12 = .ok (.getfield 9, 3) := dk_180 0 9 (dk_at dksX4_here_0 12 rfl rfl)
theorem dX4_here_15 : decode cX4_here 15 = .ok (.bipush 10, 2) := dk_16 10 (dk_at dksX4_here_0 15 rfl rfl)
theorem dX4_here_17 : decode cX4_here 17 = .ok (.aload_n 0, 1) := dk_42 (dk_at dksX4_here_0 17 rfl rfl)
theorem dX4_here_18 : decode cX4_here 18 = .ok (.getfield 48, 3) := dk_180 0 48 (dk_at dksX4_here_0 18 rfl rfl)
theorem dX4_here_21 : decode cX4_here 21 = .ok (.iadd, 1) := dk_96 (dk_at dksX4_here_0 21 rfl rfl)
theorem dX4_here_22 : decode cX4_here 22 = .ok (.iaload, 1) := dk_46 (dk_at dksX4_here_0 22 rfl rfl)
theorem dX4_here_23 : decode cX4_here 23 = .ok (.goto 4, 3) := dk_167 0 4 (dk_at dksX4_here_1 0 rfl rfl)
theorem dX4_here_26 : decode cX4_here 26 = .ok (.iconst (-1), 1) := dk_2 (dk_at dksX4_here_1 3 rfl rfl)
theorem dX4_here_27 : decode cX4_here 27 = .ok (.ireturn, 1) := dk_172 (dk_at dksX4_here_1 4 rfl rfl)
abbrev cX4_clauseOfH : ByteArray := prog_21_method_19_code
def yX4_clauseOfH : MethodName := ⟨RX4, "clauseOfH", "()V"⟩
def dkwX4_clauseOfH_2 : List UInt8 := [160, 0, 14, 42, 16, 7, 18, 113, 182, 0, 104, 167, 0, 7, 42, 182, 0, 115, 177]
abbrev dktX4_clauseOfH_2 : List UInt8 := dkwX4_clauseOfH_2 ++ []
def dkwX4_clauseOfH_1 : List UInt8 := [182, 0, 110, 177, 42, 16, 97, 182, 0, 71, 42, 180, 0, 54, 154, 0, 23, 42, 182, 0, 58, 16, 114]
abbrev dktX4_clauseOfH_1 : List UInt8 := dkwX4_clauseOfH_1 ++ dktX4_clauseOfH_2
def dkwX4_clauseOfH_0 : List UInt8 := [42, 16, 104, 182, 0, 71, 42, 182, 0, 58, 16, 111, 160, 0, 14, 42, 16, 111, 182, 0, 71, 42]
abbrev dktX4_clauseOfH_0 : List UInt8 := dkwX4_clauseOfH_0 ++ dktX4_clauseOfH_1
theorem dksX4_clauseOfH_0 : cX4_clauseOfH.data.toList.drop 0 = dktX4_clauseOfH_0 := by decide +kernel
theorem dksX4_clauseOfH_1 : cX4_clauseOfH.data.toList.drop 22 = dktX4_clauseOfH_1 := dk_seg dksX4_clauseOfH_0 22 rfl rfl
theorem dksX4_clauseOfH_2 : cX4_clauseOfH.data.toList.drop 45 = dktX4_clauseOfH_2 := dk_seg dksX4_clauseOfH_1 23 rfl rfl
theorem dX4_clauseOfH_0 : decode cX4_clauseOfH 0 = .ok (.aload_n 0, 1) := dk_42 (dk_at dksX4_clauseOfH_0 0 rfl rfl)
theorem dX4_clauseOfH_1 : decode cX4_clauseOfH 1 = .ok (.bipush 104, 2) := dk_16 104 (dk_at dksX4_clauseOfH_0 1 rfl rfl)
theorem dX4_clauseOfH_3 : decode cX4_clauseOfH 3 = .ok (.invokevirtual 71, 3) := dk_182 0 71 (dk_at dksX4_clauseOfH_0 3 rfl rfl)
theorem dX4_clauseOfH_6 : decode cX4_clauseOfH 6 = .ok (.aload_n 0, 1) := dk_42 (dk_at dksX4_clauseOfH_0 6 rfl rfl)
theorem dX4_clauseOfH_7 : decode cX4_clauseOfH 7 = .ok (.invokevirtual 58, 3) := dk_182 0 58 (dk_at dksX4_clauseOfH_0 7 rfl rfl)
theorem dX4_clauseOfH_10 : decode cX4_clauseOfH 10 = .ok (.bipush 111, 2) := dk_16 111 (dk_at dksX4_clauseOfH_0 10 rfl rfl)
theorem dX4_clauseOfH_12 : decode cX4_clauseOfH 12 = .ok (.if_icmp .ne 14, 3) := dk_160 0 14 (dk_at dksX4_clauseOfH_0 12 rfl rfl)
theorem dX4_clauseOfH_15 : decode cX4_clauseOfH 15 = .ok (.aload_n 0, 1) := dk_42 (dk_at dksX4_clauseOfH_0 15 rfl rfl)
theorem dX4_clauseOfH_16 : decode cX4_clauseOfH 16 = .ok (.bipush 111, 2) := dk_16 111 (dk_at dksX4_clauseOfH_0 16 rfl rfl)
theorem dX4_clauseOfH_18 : decode cX4_clauseOfH 18 = .ok (.invokevirtual 71, 3) := dk_182 0 71 (dk_at dksX4_clauseOfH_0 18 rfl rfl)
theorem dX4_clauseOfH_21 : decode cX4_clauseOfH 21 = .ok (.aload_n 0, 1) := dk_42 (dk_at dksX4_clauseOfH_0 21 rfl rfl)
theorem dX4_clauseOfH_22 : decode cX4_clauseOfH 22 = .ok (.invokevirtual 110, 3) := dk_182 0 110 (dk_at dksX4_clauseOfH_1 0 rfl rfl)
theorem dX4_clauseOfH_25 : decode cX4_clauseOfH 25 = .ok (.return_, 1) := dk_177 (dk_at dksX4_clauseOfH_1 3 rfl rfl)
theorem dX4_clauseOfH_26 : decode cX4_clauseOfH 26 = .ok (.aload_n 0, 1) := dk_42 (dk_at dksX4_clauseOfH_1 4 rfl rfl)
theorem dX4_clauseOfH_27 : decode cX4_clauseOfH 27 = .ok (.bipush 97, 2) := dk_16 97 (dk_at dksX4_clauseOfH_1 5 rfl rfl)
theorem dX4_clauseOfH_29 : decode cX4_clauseOfH 29 = .ok (.invokevirtual 71, 3) := dk_182 0 71 (dk_at dksX4_clauseOfH_1 7 rfl rfl)
theorem dX4_clauseOfH_32 : decode cX4_clauseOfH 32 = .ok (.aload_n 0, 1) := dk_42 (dk_at dksX4_clauseOfH_1 10 rfl rfl)
theorem dX4_clauseOfH_33 : decode cX4_clauseOfH 33 = .ok (.getfield 54, 3) := dk_180 0 54 (dk_at dksX4_clauseOfH_1 11 rfl rfl)
theorem dX4_clauseOfH_36 : decode cX4_clauseOfH 36 = .ok (.ifCond .ne 23, 3) := dk_154 0 23 (dk_at dksX4_clauseOfH_1 14 rfl rfl)
theorem dX4_clauseOfH_39 : decode cX4_clauseOfH 39 = .ok (.aload_n 0, 1) := dk_42 (dk_at dksX4_clauseOfH_1 17 rfl rfl)
theorem dX4_clauseOfH_40 : decode cX4_clauseOfH 40 = .ok (.invokevirtual 58, 3) := dk_182 0 58 (dk_at dksX4_clauseOfH_1 18 rfl rfl)
theorem dX4_clauseOfH_43 : decode cX4_clauseOfH 43 = .ok (.bipush 114, 2) := dk_16 114 (dk_at dksX4_clauseOfH_1 21 rfl rfl)
theorem dX4_clauseOfH_45 : decode cX4_clauseOfH 45 = .ok (.if_icmp .ne 14, 3) := dk_160 0 14 (dk_at dksX4_clauseOfH_2 0 rfl rfl)
theorem dX4_clauseOfH_48 : decode cX4_clauseOfH 48 = .ok (.aload_n 0, 1) := dk_42 (dk_at dksX4_clauseOfH_2 3 rfl rfl)
theorem dX4_clauseOfH_49 : decode cX4_clauseOfH 49 = .ok (.bipush 7, 2) := dk_16 7 (dk_at dksX4_clauseOfH_2 4 rfl rfl)
theorem dX4_clauseOfH_51 : decode cX4_clauseOfH 51 = .ok (.ldc 113, 2) := dk_18 113 (dk_at dksX4_clauseOfH_2 6 rfl rfl)
theorem dX4_clauseOfH_53 : decode cX4_clauseOfH 53 = .ok (.invokevirtual 104, 3) := dk_182 0 104 (dk_at dksX4_clauseOfH_2 8 rfl rfl)
theorem dX4_clauseOfH_56 : decode cX4_clauseOfH 56 = .ok (.goto 7, 3) := dk_167 0 7 (dk_at dksX4_clauseOfH_2 11 rfl rfl)
theorem dX4_clauseOfH_59 : decode cX4_clauseOfH 59 = .ok (.aload_n 0, 1) := dk_42 (dk_at dksX4_clauseOfH_2 14 rfl rfl)
theorem dX4_clauseOfH_60 : decode cX4_clauseOfH 60 = .ok (.invokevirtual 115, 3) := dk_182 0 115 (dk_at dksX4_clauseOfH_2 15 rfl rfl)
theorem dX4_clauseOfH_63 : decode cX4_clauseOfH 63 = .ok (.return_, 1) := dk_177 (dk_at dksX4_clauseOfH_2 18 rfl rfl)
abbrev cX4_must : ByteArray := prog_21_method_9_code
def yX4_must : MethodName := ⟨RX4, "must", "(I)V"⟩
def dkwX4_must_1 : List UInt8 := [42, 89, 180, 0, 48, 42, 180, 0, 54, 153, 0, 7, 3, 167, 0, 4, 4, 96, 181, 0, 48, 177]
abbrev dktX4_must_1 : List UInt8 := dkwX4_must_1 ++ []
def dkwX4_must_0 : List UInt8 := [42, 42, 180, 0, 54, 154, 0, 11, 42, 182, 0, 58, 27, 159, 0, 7, 4, 167, 0, 4, 3, 181, 0, 54]
abbrev dktX4_must_0 : List UInt8 := dkwX4_must_0 ++ dktX4_must_1
theorem dksX4_must_0 : cX4_must.data.toList.drop 0 = dktX4_must_0 := by decide +kernel
theorem dksX4_must_1 : cX4_must.data.toList.drop 24 = dktX4_must_1 := dk_seg dksX4_must_0 24 rfl rfl
theorem dX4_must_0 : decode cX4_must 0 = .ok (.aload_n 0, 1) := dk_42 (dk_at dksX4_must_0 0 rfl rfl)
theorem dX4_must_1 : decode cX4_must 1 = .ok (.aload_n 0, 1) := dk_42 (dk_at dksX4_must_0 1 rfl rfl)
theorem dX4_must_2 : decode cX4_must 2 = .ok (.getfield 54, 3) := dk_180 0 54 (dk_at dksX4_must_0 2 rfl rfl)
theorem dX4_must_5 : decode cX4_must 5 = .ok (.ifCond .ne 11, 3) := dk_154 0 11 (dk_at dksX4_must_0 5 rfl rfl)
theorem dX4_must_8 : decode cX4_must 8 = .ok (.aload_n 0, 1) := dk_42 (dk_at dksX4_must_0 8 rfl rfl)
theorem dX4_must_9 : decode cX4_must 9 = .ok (.invokevirtual 58, 3) := dk_182 0 58 (dk_at dksX4_must_0 9 rfl rfl)
theorem dX4_must_12 : decode cX4_must 12 = .ok (.iload_n 1, 1) := dk_27 (dk_at dksX4_must_0 12 rfl rfl)
theorem dX4_must_13 : decode cX4_must 13 = .ok (.if_icmp .eq 7, 3) := dk_159 0 7 (dk_at dksX4_must_0 13 rfl rfl)
theorem dX4_must_16 : decode cX4_must 16 = .ok (.iconst 1, 1) := dk_4 (dk_at dksX4_must_0 16 rfl rfl)
theorem dX4_must_17 : decode cX4_must 17 = .ok (.goto 4, 3) := dk_167 0 4 (dk_at dksX4_must_0 17 rfl rfl)
theorem dX4_must_20 : decode cX4_must 20 = .ok (.iconst 0, 1) := dk_3 (dk_at dksX4_must_0 20 rfl rfl)
theorem dX4_must_21 : decode cX4_must 21 = .ok (.putfield 54, 3) := dk_181 0 54 (dk_at dksX4_must_0 21 rfl rfl)
theorem dX4_must_24 : decode cX4_must 24 = .ok (.aload_n 0, 1) := dk_42 (dk_at dksX4_must_1 0 rfl rfl)
theorem dX4_must_25 : decode cX4_must 25 = .ok (.dup, 1) := dk_89 (dk_at dksX4_must_1 1 rfl rfl)
theorem dX4_must_26 : decode cX4_must 26 = .ok (.getfield 48, 3) := dk_180 0 48 (dk_at dksX4_must_1 2 rfl rfl)
theorem dX4_must_29 : decode cX4_must 29 = .ok (.aload_n 0, 1) := dk_42 (dk_at dksX4_must_1 5 rfl rfl)
theorem dX4_must_30 : decode cX4_must 30 = .ok (.getfield 54, 3) := dk_180 0 54 (dk_at dksX4_must_1 6 rfl rfl)
theorem dX4_must_33 : decode cX4_must 33 = .ok (.ifCond .eq 7, 3) := dk_153 0 7 (dk_at dksX4_must_1 9 rfl rfl)
theorem dX4_must_36 : decode cX4_must 36 = .ok (.iconst 0, 1) := dk_3 (dk_at dksX4_must_1 12 rfl rfl)
theorem dX4_must_37 : decode cX4_must 37 = .ok (.goto 4, 3) := dk_167 0 4 (dk_at dksX4_must_1 13 rfl rfl)
theorem dX4_must_40 : decode cX4_must 40 = .ok (.iconst 1, 1) := dk_4 (dk_at dksX4_must_1 16 rfl rfl)
theorem dX4_must_41 : decode cX4_must 41 = .ok (.iadd, 1) := dk_96 (dk_at dksX4_must_1 17 rfl rfl)
theorem dX4_must_42 : decode cX4_must 42 = .ok (.putfield 48, 3) := dk_181 0 48 (dk_at dksX4_must_1 18 rfl rfl)
theorem dX4_must_45 : decode cX4_must 45 = .ok (.return_, 1) := dk_177 (dk_at dksX4_must_1 21 rfl rfl)
abbrev cX4_holdings : ByteArray := prog_21_method_18_code
def yX4_holdings : MethodName := ⟨RX4, "holdings", "()V"⟩
def dkwX4_holdings_1 : List UInt8 := [27, 100, 182, 0, 84, 177]
abbrev dktX4_holdings_1 : List UInt8 := dkwX4_holdings_1 ++ []
def dkwX4_holdings_0 : List UInt8 := [42, 18, 108, 182, 0, 96, 42, 182, 0, 90, 60, 42, 16, 32, 182, 0, 71, 42, 182, 0, 87, 42, 16, 246]
abbrev dktX4_holdings_0 : List UInt8 := dkwX4_holdings_0 ++ dktX4_holdings_1
theorem dksX4_holdings_0 : cX4_holdings.data.toList.drop 0 = dktX4_holdings_0 := by decide +kernel
theorem dksX4_holdings_1 : cX4_holdings.data.toList.drop 24 = dktX4_holdings_1 := dk_seg dksX4_holdings_0 24 rfl rfl
theorem dX4_holdings_0 : decode cX4_holdings 0 = .ok (.aload_n 0, 1) := dk_42 (dk_at dksX4_holdings_0 0 rfl rfl)
theorem dX4_holdings_1 : decode cX4_holdings 1 = .ok (.ldc 108, 2) := dk_18 108 (dk_at dksX4_holdings_0 1 rfl rfl)
theorem dX4_holdings_3 : decode cX4_holdings 3 = .ok (.invokevirtual 96, 3) := dk_182 0 96 (dk_at dksX4_holdings_0 3 rfl rfl)
theorem dX4_holdings_6 : decode cX4_holdings 6 = .ok (.aload_n 0, 1) := dk_42 (dk_at dksX4_holdings_0 6 rfl rfl)
theorem dX4_holdings_7 : decode cX4_holdings 7 = .ok (.invokevirtual 90, 3) := dk_182 0 90 (dk_at dksX4_holdings_0 7 rfl rfl)
theorem dX4_holdings_10 : decode cX4_holdings 10 = .ok (.istore_n 1, 1) := dk_60 (dk_at dksX4_holdings_0 10 rfl rfl)
theorem dX4_holdings_11 : decode cX4_holdings 11 = .ok (.aload_n 0, 1) := dk_42 (dk_at dksX4_holdings_0 11 rfl rfl)
theorem dX4_holdings_12 : decode cX4_holdings 12 = .ok (.bipush 32, 2) := dk_16 32 (dk_at dksX4_holdings_0 12 rfl rfl)
theorem dX4_holdings_14 : decode cX4_holdings 14 = .ok (.invokevirtual 71, 3) := dk_182 0 71 (dk_at dksX4_holdings_0 14 rfl rfl)
theorem dX4_holdings_17 : decode cX4_holdings 17 = .ok (.aload_n 0, 1) := dk_42 (dk_at dksX4_holdings_0 17 rfl rfl)
theorem dX4_holdings_18 : decode cX4_holdings 18 = .ok (.invokevirtual 87, 3) := dk_182 0 87 (dk_at dksX4_holdings_0 18 rfl rfl)
theorem dX4_holdings_21 : decode cX4_holdings 21 = .ok (.aload_n 0, 1) := dk_42 (dk_at dksX4_holdings_0 21 rfl rfl)
theorem dX4_holdings_22 : decode cX4_holdings 22 = .ok (.bipush (-10), 2) := dk_16 246 (dk_at dksX4_holdings_0 22 rfl rfl)
theorem dX4_holdings_24 : decode cX4_holdings 24 = .ok (.iload_n 1, 1) := dk_27 (dk_at dksX4_holdings_1 0 rfl rfl)
theorem dX4_holdings_25 : decode cX4_holdings 25 = .ok (.isub, 1) := dk_100 (dk_at dksX4_holdings_1 1 rfl rfl)
theorem dX4_holdings_26 : decode cX4_holdings 26 = .ok (.invokevirtual 84, 3) := dk_182 0 84 (dk_at dksX4_holdings_1 2 rfl rfl)
theorem dX4_holdings_29 : decode cX4_holdings 29 = .ok (.return_, 1) := dk_177 (dk_at dksX4_holdings_1 5 rfl rfl)
abbrev cX4_spells : ByteArray := prog_21_method_10_code
def yX4_spells : MethodName := ⟨RX4, "spells", "(Ljava/lang/String;)V"⟩
def dkwX4_spells_1 : List UInt8 := [167, 255, 236, 177]
abbrev dktX4_spells_1 : List UInt8 := dkwX4_spells_1 ++ []
def dkwX4_spells_0 : List UInt8 := [3, 61, 28, 43, 182, 0, 62, 162, 0, 18, 42, 43, 28, 182, 0, 67, 182, 0, 71, 132, 2, 1]
abbrev dktX4_spells_0 : List UInt8 := dkwX4_spells_0 ++ dktX4_spells_1
theorem dksX4_spells_0 : cX4_spells.data.toList.drop 0 = dktX4_spells_0 := by decide +kernel
theorem dksX4_spells_1 : cX4_spells.data.toList.drop 22 = dktX4_spells_1 := dk_seg dksX4_spells_0 22 rfl rfl
theorem dX4_spells_0 : decode cX4_spells 0 = .ok (.iconst 0, 1) := dk_3 (dk_at dksX4_spells_0 0 rfl rfl)
theorem dX4_spells_1 : decode cX4_spells 1 = .ok (.istore_n 2, 1) := dk_61 (dk_at dksX4_spells_0 1 rfl rfl)
theorem dX4_spells_2 : decode cX4_spells 2 = .ok (.iload_n 2, 1) := dk_28 (dk_at dksX4_spells_0 2 rfl rfl)
theorem dX4_spells_3 : decode cX4_spells 3 = .ok (.aload_n 1, 1) := dk_43 (dk_at dksX4_spells_0 3 rfl rfl)
theorem dX4_spells_4 : decode cX4_spells 4 = .ok (.invokevirtual 62, 3) := dk_182 0 62 (dk_at dksX4_spells_0 4 rfl rfl)
theorem dX4_spells_7 : decode cX4_spells 7 = .ok (.if_icmp .ge 18, 3) := dk_162 0 18 (dk_at dksX4_spells_0 7 rfl rfl)
theorem dX4_spells_10 : decode cX4_spells 10 = .ok (.aload_n 0, 1) := dk_42 (dk_at dksX4_spells_0 10 rfl rfl)
theorem dX4_spells_11 : decode cX4_spells 11 = .ok (.aload_n 1, 1) := dk_43 (dk_at dksX4_spells_0 11 rfl rfl)
theorem dX4_spells_12 : decode cX4_spells 12 = .ok (.iload_n 2, 1) := dk_28 (dk_at dksX4_spells_0 12 rfl rfl)
theorem dX4_spells_13 : decode cX4_spells 13 = .ok (.invokevirtual 67, 3) := dk_182 0 67 (dk_at dksX4_spells_0 13 rfl rfl)
theorem dX4_spells_16 : decode cX4_spells 16 = .ok (.invokevirtual 71, 3) := dk_182 0 71 (dk_at dksX4_spells_0 16 rfl rfl)
theorem dX4_spells_19 : decode cX4_spells 19 = .ok (.iinc 2 1, 3) := dk_132 2 1 (dk_at dksX4_spells_0 19 rfl rfl)
theorem dX4_spells_22 : decode cX4_spells 22 = .ok (.goto (-20), 3) := dk_167 255 236 (dk_at dksX4_spells_1 0 rfl rfl)
theorem dX4_spells_25 : decode cX4_spells 25 = .ok (.return_, 1) := dk_177 (dk_at dksX4_spells_1 3 rfl rfl)
abbrev cX4_figures : ByteArray := prog_21_method_11_code
def yX4_figures : MethodName := ⟨RX4, "figures", "()I"⟩
def dkwX4_figures_4 : List UInt8 := [167, 255, 196, 27, 172]
abbrev dktX4_figures_4 : List UInt8 := dkwX4_figures_4 ++ []
def dkwX4_figures_3 : List UInt8 := [104, 42, 182, 0, 58, 96, 16, 48, 100, 60, 42, 89, 180, 0, 48, 4, 96, 181, 0, 48, 132, 2, 1]
abbrev dktX4_figures_3 : List UInt8 := dkwX4_figures_3 ++ dktX4_figures_4
def dkwX4_figures_2 : List UInt8 := [182, 0, 58, 16, 48, 16, 57, 184, 0, 42, 153, 0, 40, 28, 153, 0, 7, 27, 158, 0, 32, 16, 10, 27]
abbrev dktX4_figures_2 : List UInt8 := dkwX4_figures_2 ++ dktX4_figures_3
def dkwX4_figures_1 : List UInt8 := [167, 0, 4, 3, 181, 0, 54, 3, 60, 3, 61, 28, 6, 162, 0, 61, 42, 180, 0, 54, 154, 0, 54, 42]
abbrev dktX4_figures_1 : List UInt8 := dkwX4_figures_1 ++ dktX4_figures_2
def dkwX4_figures_0 : List UInt8 := [42, 42, 180, 0, 54, 154, 0, 17, 42, 182, 0, 58, 16, 48, 16, 57, 184, 0, 42, 154, 0, 7, 4]
abbrev dktX4_figures_0 : List UInt8 := dkwX4_figures_0 ++ dktX4_figures_1
theorem dksX4_figures_0 : cX4_figures.data.toList.drop 0 = dktX4_figures_0 := by decide +kernel
theorem dksX4_figures_1 : cX4_figures.data.toList.drop 23 = dktX4_figures_1 := dk_seg dksX4_figures_0 23 rfl rfl
theorem dksX4_figures_2 : cX4_figures.data.toList.drop 47 = dktX4_figures_2 := dk_seg dksX4_figures_1 24 rfl rfl
theorem dksX4_figures_3 : cX4_figures.data.toList.drop 71 = dktX4_figures_3 := dk_seg dksX4_figures_2 24 rfl rfl
theorem dksX4_figures_4 : cX4_figures.data.toList.drop 94 = dktX4_figures_4 := dk_seg dksX4_figures_3 23 rfl rfl
theorem dX4_figures_0 : decode cX4_figures 0 = .ok (.aload_n 0, 1) := dk_42 (dk_at dksX4_figures_0 0 rfl rfl)
theorem dX4_figures_1 : decode cX4_figures 1 = .ok (.aload_n 0, 1) := dk_42 (dk_at dksX4_figures_0 1 rfl rfl)
theorem dX4_figures_2 : decode cX4_figures 2 = .ok (.getfield 54, 3) := dk_180 0 54 (dk_at dksX4_figures_0 2 rfl rfl)
theorem dX4_figures_5 : decode cX4_figures 5 = .ok (.ifCond .ne 17, 3) := dk_154 0 17 (dk_at dksX4_figures_0 5 rfl rfl)
theorem dX4_figures_8 : decode cX4_figures 8 = .ok (.aload_n 0, 1) := dk_42 (dk_at dksX4_figures_0 8 rfl rfl)
theorem dX4_figures_9 : decode cX4_figures 9 = .ok (.invokevirtual 58, 3) := dk_182 0 58 (dk_at dksX4_figures_0 9 rfl rfl)
theorem dX4_figures_12 : decode cX4_figures 12 = .ok (.bipush 48, 2) := dk_16 48 (dk_at dksX4_figures_0 12 rfl rfl)
theorem dX4_figures_14 : decode cX4_figures 14 = .ok (.bipush 57, 2) := dk_16 57 (dk_at dksX4_figures_0 14 rfl rfl)
theorem dX4_figures_16 : decode cX4_figures 16 = .ok (.invokestatic 42, 3) := dk_184 0 42 (dk_at dksX4_figures_0 16 rfl rfl)
theorem dX4_figures_19 : decode cX4_figures 19 = .ok (.ifCond .ne 7, 3) := dk_154 0 7 (dk_at dksX4_figures_0 19 rfl rfl)
theorem dX4_figures_22 : decode cX4_figures 22 = .ok (.iconst 1, 1) := dk_4 (dk_at dksX4_figures_0 22 rfl rfl)
theorem dX4_figures_23 : decode cX4_figures 23 = .ok (.goto 4, 3) := dk_167 0 4 (dk_at dksX4_figures_1 0 rfl rfl)
theorem dX4_figures_26 : decode cX4_figures 26 = .ok (.iconst 0, 1) := dk_3 (dk_at dksX4_figures_1 3 rfl rfl)
theorem dX4_figures_27 : decode cX4_figures 27 = .ok (.putfield 54, 3) := dk_181 0 54 (dk_at dksX4_figures_1 4 rfl rfl)
theorem dX4_figures_30 : decode cX4_figures 30 = .ok (.iconst 0, 1) := dk_3 (dk_at dksX4_figures_1 7 rfl rfl)
theorem dX4_figures_31 : decode cX4_figures 31 = .ok (.istore_n 1, 1) := dk_60 (dk_at dksX4_figures_1 8 rfl rfl)
theorem dX4_figures_32 : decode cX4_figures 32 = .ok (.iconst 0, 1) := dk_3 (dk_at dksX4_figures_1 9 rfl rfl)
theorem dX4_figures_33 : decode cX4_figures 33 = .ok (.istore_n 2, 1) := dk_61 (dk_at dksX4_figures_1 10 rfl rfl)
theorem dX4_figures_34 : decode cX4_figures 34 = .ok (.iload_n 2, 1) := dk_28 (dk_at dksX4_figures_1 11 rfl rfl)
theorem dX4_figures_35 : decode cX4_figures 35 = .ok (.iconst 3, 1) := dk_6 (dk_at dksX4_figures_1 12 rfl rfl)
theorem dX4_figures_36 : decode cX4_figures 36 = .ok (.if_icmp .ge 61, 3) := dk_162 0 61 (dk_at dksX4_figures_1 13 rfl rfl)
theorem dX4_figures_39 : decode cX4_figures 39 = .ok (.aload_n 0, 1) := dk_42 (dk_at dksX4_figures_1 16 rfl rfl)
theorem dX4_figures_40 : decode cX4_figures 40 = .ok (.getfield 54, 3) := dk_180 0 54 (dk_at dksX4_figures_1 17 rfl rfl)
theorem dX4_figures_43 : decode cX4_figures 43 = .ok (.ifCond .ne 54, 3) := dk_154 0 54 (dk_at dksX4_figures_1 20 rfl rfl)
theorem dX4_figures_46 : decode cX4_figures 46 = .ok (.aload_n 0, 1) := dk_42 (dk_at dksX4_figures_1 23 rfl rfl)
theorem dX4_figures_47 : decode cX4_figures 47 = .ok (.invokevirtual 58, 3) := dk_182 0 58 (dk_at dksX4_figures_2 0 rfl rfl)
theorem dX4_figures_50 : decode cX4_figures 50 = .ok (.bipush 48, 2) := dk_16 48 (dk_at dksX4_figures_2 3 rfl rfl)
theorem dX4_figures_52 : decode cX4_figures 52 = .ok (.bipush 57, 2) := dk_16 57 (dk_at dksX4_figures_2 5 rfl rfl)
theorem dX4_figures_54 : decode cX4_figures 54 = .ok (.invokestatic 42, 3) := dk_184 0 42 (dk_at dksX4_figures_2 7 rfl rfl)
theorem dX4_figures_57 : decode cX4_figures 57 = .ok (.ifCond .eq 40, 3) := dk_153 0 40 (dk_at dksX4_figures_2 10 rfl rfl)
theorem dX4_figures_60 : decode cX4_figures 60 = .ok (.iload_n 2, 1) := dk_28 (dk_at dksX4_figures_2 13 rfl rfl)
theorem dX4_figures_61 : decode cX4_figures 61 = .ok (.ifCond .eq 7, 3) := dk_153 0 7 (dk_at dksX4_figures_2 14 rfl rfl)
theorem dX4_figures_64 : decode cX4_figures 64 = .ok (.iload_n 1, 1) := dk_27 (dk_at dksX4_figures_2 17 rfl rfl)
theorem dX4_figures_65 : decode cX4_figures 65 = .ok (.ifCond .le 32, 3) := dk_158 0 32 (dk_at dksX4_figures_2 18 rfl rfl)
theorem dX4_figures_68 : decode cX4_figures 68 = .ok (.bipush 10, 2) := dk_16 10 (dk_at dksX4_figures_2 21 rfl rfl)
theorem dX4_figures_70 : decode cX4_figures 70 = .ok (.iload_n 1, 1) := dk_27 (dk_at dksX4_figures_2 23 rfl rfl)
theorem dX4_figures_71 : decode cX4_figures 71 = .ok (.imul, 1) := dk_104 (dk_at dksX4_figures_3 0 rfl rfl)
theorem dX4_figures_72 : decode cX4_figures 72 = .ok (.aload_n 0, 1) := dk_42 (dk_at dksX4_figures_3 1 rfl rfl)
theorem dX4_figures_73 : decode cX4_figures 73 = .ok (.invokevirtual 58, 3) := dk_182 0 58 (dk_at dksX4_figures_3 2 rfl rfl)
theorem dX4_figures_76 : decode cX4_figures 76 = .ok (.iadd, 1) := dk_96 (dk_at dksX4_figures_3 5 rfl rfl)
theorem dX4_figures_77 : decode cX4_figures 77 = .ok (.bipush 48, 2) := dk_16 48 (dk_at dksX4_figures_3 6 rfl rfl)
theorem dX4_figures_79 : decode cX4_figures 79 = .ok (.isub, 1) := dk_100 (dk_at dksX4_figures_3 8 rfl rfl)
theorem dX4_figures_80 : decode cX4_figures 80 = .ok (.istore_n 1, 1) := dk_60 (dk_at dksX4_figures_3 9 rfl rfl)
theorem dX4_figures_81 : decode cX4_figures 81 = .ok (.aload_n 0, 1) := dk_42 (dk_at dksX4_figures_3 10 rfl rfl)
theorem dX4_figures_82 : decode cX4_figures 82 = .ok (.dup, 1) := dk_89 (dk_at dksX4_figures_3 11 rfl rfl)
theorem dX4_figures_83 : decode cX4_figures 83 = .ok (.getfield 48, 3) := dk_180 0 48 (dk_at dksX4_figures_3 12 rfl rfl)
theorem dX4_figures_86 : decode cX4_figures 86 = .ok (.iconst 1, 1) := dk_4 (dk_at dksX4_figures_3 15 rfl rfl)
theorem dX4_figures_87 : decode cX4_figures 87 = .ok (.iadd, 1) := dk_96 (dk_at dksX4_figures_3 16 rfl rfl)
theorem dX4_figures_88 : decode cX4_figures 88 = .ok (.putfield 48, 3) := dk_181 0 48 (dk_at dksX4_figures_3 17 rfl rfl)
theorem dX4_figures_91 : decode cX4_figures 91 = .ok (.iinc 2 1, 3) := dk_132 2 1 (dk_at dksX4_figures_3 20 rfl rfl)
theorem dX4_figures_94 : decode cX4_figures 94 = .ok (.goto (-60), 3) := dk_167 255 196 (dk_at dksX4_figures_4 0 rfl rfl)
theorem dX4_figures_97 : decode cX4_figures 97 = .ok (.iload_n 1, 1) := dk_27 (dk_at dksX4_figures_4 3 rfl rfl)
theorem dX4_figures_98 : decode cX4_figures 98 = .ok (.ireturn, 1) := dk_172 (dk_at dksX4_figures_4 4 rfl rfl)
abbrev cX4_some : ByteArray := prog_21_method_15_code
def yX4_some : MethodName := ⟨RX4, "some", "()V"⟩
def dkwX4_some_1 : List UInt8 := [180, 0, 48, 4, 96, 181, 0, 48, 42, 182, 0, 93, 42, 16, 253, 182, 0, 84, 167, 255, 220, 177]
abbrev dktX4_some_1 : List UInt8 := dkwX4_some_1 ++ []
def dkwX4_some_0 : List UInt8 := [42, 182, 0, 93, 42, 180, 0, 54, 154, 0, 35, 42, 182, 0, 58, 16, 124, 160, 0, 26, 42, 89]
abbrev dktX4_some_0 : List UInt8 := dkwX4_some_0 ++ dktX4_some_1
theorem dksX4_some_0 : cX4_some.data.toList.drop 0 = dktX4_some_0 := by decide +kernel
theorem dksX4_some_1 : cX4_some.data.toList.drop 22 = dktX4_some_1 := dk_seg dksX4_some_0 22 rfl rfl
theorem dX4_some_0 : decode cX4_some 0 = .ok (.aload_n 0, 1) := dk_42 (dk_at dksX4_some_0 0 rfl rfl)
theorem dX4_some_1 : decode cX4_some 1 = .ok (.invokevirtual 93, 3) := dk_182 0 93 (dk_at dksX4_some_0 1 rfl rfl)
theorem dX4_some_4 : decode cX4_some 4 = .ok (.aload_n 0, 1) := dk_42 (dk_at dksX4_some_0 4 rfl rfl)
theorem dX4_some_5 : decode cX4_some 5 = .ok (.getfield 54, 3) := dk_180 0 54 (dk_at dksX4_some_0 5 rfl rfl)
theorem dX4_some_8 : decode cX4_some 8 = .ok (.ifCond .ne 35, 3) := dk_154 0 35 (dk_at dksX4_some_0 8 rfl rfl)
theorem dX4_some_11 : decode cX4_some 11 = .ok (.aload_n 0, 1) := dk_42 (dk_at dksX4_some_0 11 rfl rfl)
theorem dX4_some_12 : decode cX4_some 12 = .ok (.invokevirtual 58, 3) := dk_182 0 58 (dk_at dksX4_some_0 12 rfl rfl)
theorem dX4_some_15 : decode cX4_some 15 = .ok (.bipush 124, 2) := dk_16 124 (dk_at dksX4_some_0 15 rfl rfl)
theorem dX4_some_17 : decode cX4_some 17 = .ok (.if_icmp .ne 26, 3) := dk_160 0 26 (dk_at dksX4_some_0 17 rfl rfl)
theorem dX4_some_20 : decode cX4_some 20 = .ok (.aload_n 0, 1) := dk_42 (dk_at dksX4_some_0 20 rfl rfl)
theorem dX4_some_21 : decode cX4_some 21 = .ok (.dup, 1) := dk_89 (dk_at dksX4_some_0 21 rfl rfl)
theorem dX4_some_22 : decode cX4_some 22 = .ok (.getfield 48, 3) := dk_180 0 48 (dk_at dksX4_some_1 0 rfl rfl)
theorem dX4_some_25 : decode cX4_some 25 = .ok (.iconst 1, 1) := dk_4 (dk_at dksX4_some_1 3 rfl rfl)
theorem dX4_some_26 : decode cX4_some 26 = .ok (.iadd, 1) := dk_96 (dk_at dksX4_some_1 4 rfl rfl)
theorem dX4_some_27 : decode cX4_some 27 = .ok (.putfield 48, 3) := dk_181 0 48 (dk_at dksX4_some_1 5 rfl rfl)
theorem dX4_some_30 : decode cX4_some 30 = .ok (.aload_n 0, 1) := dk_42 (dk_at dksX4_some_1 8 rfl rfl)
theorem dX4_some_31 : decode cX4_some 31 = .ok (.invokevirtual 93, 3) := dk_182 0 93 (dk_at dksX4_some_1 9 rfl rfl)
theorem dX4_some_34 : decode cX4_some 34 = .ok (.aload_n 0, 1) := dk_42 (dk_at dksX4_some_1 12 rfl rfl)
theorem dX4_some_35 : decode cX4_some 35 = .ok (.bipush (-3), 2) := dk_16 253 (dk_at dksX4_some_1 13 rfl rfl)
theorem dX4_some_37 : decode cX4_some 37 = .ok (.invokevirtual 84, 3) := dk_182 0 84 (dk_at dksX4_some_1 15 rfl rfl)
theorem dX4_some_40 : decode cX4_some 40 = .ok (.goto (-36), 3) := dk_167 255 220 (dk_at dksX4_some_1 18 rfl rfl)
theorem dX4_some_43 : decode cX4_some 43 = .ok (.return_, 1) := dk_177 (dk_at dksX4_some_1 21 rfl rfl)
abbrev cX4_every : ByteArray := prog_21_method_14_code
def yX4_every : MethodName := ⟨RX4, "every", "()V"⟩
def dkwX4_every_1 : List UInt8 := [180, 0, 48, 4, 96, 181, 0, 48, 42, 182, 0, 81, 42, 16, 254, 182, 0, 84, 167, 255, 220, 177]
abbrev dktX4_every_1 : List UInt8 := dkwX4_every_1 ++ []
def dkwX4_every_0 : List UInt8 := [42, 182, 0, 81, 42, 180, 0, 54, 154, 0, 35, 42, 182, 0, 58, 16, 38, 160, 0, 26, 42, 89]
abbrev dktX4_every_0 : List UInt8 := dkwX4_every_0 ++ dktX4_every_1
theorem dksX4_every_0 : cX4_every.data.toList.drop 0 = dktX4_every_0 := by decide +kernel
theorem dksX4_every_1 : cX4_every.data.toList.drop 22 = dktX4_every_1 := dk_seg dksX4_every_0 22 rfl rfl
theorem dX4_every_0 : decode cX4_every 0 = .ok (.aload_n 0, 1) := dk_42 (dk_at dksX4_every_0 0 rfl rfl)
theorem dX4_every_1 : decode cX4_every 1 = .ok (.invokevirtual 81, 3) := dk_182 0 81 (dk_at dksX4_every_0 1 rfl rfl)
theorem dX4_every_4 : decode cX4_every 4 = .ok (.aload_n 0, 1) := dk_42 (dk_at dksX4_every_0 4 rfl rfl)
theorem dX4_every_5 : decode cX4_every 5 = .ok (.getfield 54, 3) := dk_180 0 54 (dk_at dksX4_every_0 5 rfl rfl)
theorem dX4_every_8 : decode cX4_every 8 = .ok (.ifCond .ne 35, 3) := dk_154 0 35 (dk_at dksX4_every_0 8 rfl rfl)
theorem dX4_every_11 : decode cX4_every 11 = .ok (.aload_n 0, 1) := dk_42 (dk_at dksX4_every_0 11 rfl rfl)
theorem dX4_every_12 : decode cX4_every 12 = .ok (.invokevirtual 58, 3) := dk_182 0 58 (dk_at dksX4_every_0 12 rfl rfl)
theorem dX4_every_15 : decode cX4_every 15 = .ok (.bipush 38, 2) := dk_16 38 (dk_at dksX4_every_0 15 rfl rfl)
theorem dX4_every_17 : decode cX4_every 17 = .ok (.if_icmp .ne 26, 3) := dk_160 0 26 (dk_at dksX4_every_0 17 rfl rfl)
theorem dX4_every_20 : decode cX4_every 20 = .ok (.aload_n 0, 1) := dk_42 (dk_at dksX4_every_0 20 rfl rfl)
theorem dX4_every_21 : decode cX4_every 21 = .ok (.dup, 1) := dk_89 (dk_at dksX4_every_0 21 rfl rfl)
theorem dX4_every_22 : decode cX4_every 22 = .ok (.getfield 48, 3) := dk_180 0 48 (dk_at dksX4_every_1 0 rfl rfl)
theorem dX4_every_25 : decode cX4_every 25 = .ok (.iconst 1, 1) := dk_4 (dk_at dksX4_every_1 3 rfl rfl)
theorem dX4_every_26 : decode cX4_every 26 = .ok (.iadd, 1) := dk_96 (dk_at dksX4_every_1 4 rfl rfl)
theorem dX4_every_27 : decode cX4_every 27 = .ok (.putfield 48, 3) := dk_181 0 48 (dk_at dksX4_every_1 5 rfl rfl)
theorem dX4_every_30 : decode cX4_every 30 = .ok (.aload_n 0, 1) := dk_42 (dk_at dksX4_every_1 8 rfl rfl)
theorem dX4_every_31 : decode cX4_every 31 = .ok (.invokevirtual 81, 3) := dk_182 0 81 (dk_at dksX4_every_1 9 rfl rfl)
theorem dX4_every_34 : decode cX4_every 34 = .ok (.aload_n 0, 1) := dk_42 (dk_at dksX4_every_1 12 rfl rfl)
theorem dX4_every_35 : decode cX4_every 35 = .ok (.bipush (-2), 2) := dk_16 254 (dk_at dksX4_every_1 13 rfl rfl)
theorem dX4_every_37 : decode cX4_every 37 = .ok (.invokevirtual 84, 3) := dk_182 0 84 (dk_at dksX4_every_1 15 rfl rfl)
theorem dX4_every_40 : decode cX4_every 40 = .ok (.goto (-36), 3) := dk_167 255 220 (dk_at dksX4_every_1 18 rfl rfl)
theorem dX4_every_43 : decode cX4_every 43 = .ok (.return_, 1) := dk_177 (dk_at dksX4_every_1 21 rfl rfl)
abbrev cX4_factor : ByteArray := prog_21_method_13_code
def yX4_factor : MethodName := ⟨RX4, "factor", "()V"⟩
def dkwX4_factor_11 : List UInt8 := [16, 61, 160, 0, 7, 4, 167, 0, 4, 5, 104, 96, 16, 16, 29, 104, 96, 182, 0, 84, 177]
abbrev dktX4_factor_11 : List UInt8 := dkwX4_factor_11 ++ []
def dkwX4_factor_10 : List UInt8 := [27, 16, 104, 160, 0, 7, 4, 167, 0, 4, 5, 7, 28, 16, 60, 160, 0, 7, 3, 167, 0, 14, 28]
abbrev dktX4_factor_10 : List UInt8 := dkwX4_factor_10 ++ dktX4_factor_11
def dkwX4_factor_9 : List UInt8 := [167, 0, 4, 4, 96, 181, 0, 48, 42, 182, 0, 90, 62, 42, 27, 16, 100, 160, 0, 7, 3, 167, 0, 14]
abbrev dktX4_factor_9 : List UInt8 := dkwX4_factor_9 ++ dktX4_factor_10
def dkwX4_factor_8 : List UInt8 := [159, 0, 7, 4, 167, 0, 4, 3, 181, 0, 54, 42, 89, 180, 0, 48, 42, 180, 0, 54, 153, 0, 7, 3]
abbrev dktX4_factor_8 : List UInt8 := dkwX4_factor_8 ++ dktX4_factor_9
def dkwX4_factor_7 : List UInt8 := [61, 42, 42, 180, 0, 54, 154, 0, 21, 28, 16, 60, 159, 0, 19, 28, 16, 61, 159, 0, 13, 28, 16, 62]
abbrev dktX4_factor_7 : List UInt8 := dkwX4_factor_7 ++ dktX4_factor_8
def dkwX4_factor_6 : List UInt8 := [89, 180, 0, 48, 42, 180, 0, 54, 153, 0, 7, 3, 167, 0, 4, 4, 96, 181, 0, 48, 42, 182, 0, 58]
abbrev dktX4_factor_6 : List UInt8 := dkwX4_factor_6 ++ dktX4_factor_7
def dkwX4_factor_5 : List UInt8 := [159, 0, 19, 27, 16, 104, 159, 0, 13, 27, 16, 112, 159, 0, 7, 4, 167, 0, 4, 3, 181, 0, 54, 42]
abbrev dktX4_factor_5 : List UInt8 := dkwX4_factor_5 ++ dktX4_factor_6
def dkwX4_factor_4 : List UInt8 := [182, 0, 87, 42, 16, 41, 182, 0, 71, 42, 89, 180, 0, 78, 4, 100, 181, 0, 78, 177, 42, 27, 16, 100]
abbrev dktX4_factor_4 : List UInt8 := dkwX4_factor_4 ++ dktX4_factor_5
def dkwX4_factor_3 : List UInt8 := [4, 96, 181, 0, 48, 27, 16, 33, 160, 0, 15, 42, 182, 0, 81, 42, 2, 182, 0, 84, 167, 0, 13, 42]
abbrev dktX4_factor_3 : List UInt8 := dkwX4_factor_3 ++ dktX4_factor_4
def dkwX4_factor_2 : List UInt8 := [180, 0, 78, 4, 96, 181, 0, 78, 42, 89, 180, 0, 48, 42, 180, 0, 54, 153, 0, 7, 3, 167, 0, 4]
abbrev dktX4_factor_2 : List UInt8 := dkwX4_factor_2 ++ dktX4_factor_3
def dkwX4_factor_1 : List UInt8 := [160, 0, 90, 42, 42, 180, 0, 78, 8, 160, 0, 7, 4, 167, 0, 4, 3, 181, 0, 54, 42, 89]
abbrev dktX4_factor_1 : List UInt8 := dkwX4_factor_1 ++ dktX4_factor_2
def dkwX4_factor_0 : List UInt8 := [42, 180, 0, 54, 153, 0, 4, 177, 42, 182, 0, 58, 60, 27, 16, 33, 159, 0, 9, 27, 16, 40]
abbrev dktX4_factor_0 : List UInt8 := dkwX4_factor_0 ++ dktX4_factor_1
theorem dksX4_factor_0 : cX4_factor.data.toList.drop 0 = dktX4_factor_0 := by decide +kernel
theorem dksX4_factor_1 : cX4_factor.data.toList.drop 22 = dktX4_factor_1 := dk_seg dksX4_factor_0 22 rfl rfl
theorem dksX4_factor_2 : cX4_factor.data.toList.drop 44 = dktX4_factor_2 := dk_seg dksX4_factor_1 22 rfl rfl
theorem dksX4_factor_3 : cX4_factor.data.toList.drop 68 = dktX4_factor_3 := dk_seg dksX4_factor_2 24 rfl rfl
theorem dksX4_factor_4 : cX4_factor.data.toList.drop 92 = dktX4_factor_4 := dk_seg dksX4_factor_3 24 rfl rfl
theorem dksX4_factor_5 : cX4_factor.data.toList.drop 116 = dktX4_factor_5 := dk_seg dksX4_factor_4 24 rfl rfl
theorem dksX4_factor_6 : cX4_factor.data.toList.drop 140 = dktX4_factor_6 := dk_seg dksX4_factor_5 24 rfl rfl
theorem dksX4_factor_7 : cX4_factor.data.toList.drop 164 = dktX4_factor_7 := dk_seg dksX4_factor_6 24 rfl rfl
theorem dksX4_factor_8 : cX4_factor.data.toList.drop 188 = dktX4_factor_8 := dk_seg dksX4_factor_7 24 rfl rfl
theorem dksX4_factor_9 : cX4_factor.data.toList.drop 212 = dktX4_factor_9 := dk_seg dksX4_factor_8 24 rfl rfl
theorem dksX4_factor_10 : cX4_factor.data.toList.drop 236 = dktX4_factor_10 := dk_seg dksX4_factor_9 24 rfl rfl
theorem dksX4_factor_11 : cX4_factor.data.toList.drop 259 = dktX4_factor_11 := dk_seg dksX4_factor_10 23 rfl rfl
theorem dX4_factor_0 : decode cX4_factor 0 = .ok (.aload_n 0, 1) := dk_42 (dk_at dksX4_factor_0 0 rfl rfl)
theorem dX4_factor_1 : decode cX4_factor 1 = .ok (.getfield 54, 3) := dk_180 0 54 (dk_at dksX4_factor_0 1 rfl rfl)
theorem dX4_factor_4 : decode cX4_factor 4 = .ok (.ifCond .eq 4, 3) := dk_153 0 4 (dk_at dksX4_factor_0 4 rfl rfl)
theorem dX4_factor_7 : decode cX4_factor 7 = .ok (.return_, 1) := dk_177 (dk_at dksX4_factor_0 7 rfl rfl)
theorem dX4_factor_8 : decode cX4_factor 8 = .ok (.aload_n 0, 1) := dk_42 (dk_at dksX4_factor_0 8 rfl rfl)
theorem dX4_factor_9 : decode cX4_factor 9 = .ok (.invokevirtual 58, 3) := dk_182 0 58 (dk_at dksX4_factor_0 9 rfl rfl)
theorem dX4_factor_12 : decode cX4_factor 12 = .ok (.istore_n 1, 1) := dk_60 (dk_at dksX4_factor_0 12 rfl rfl)
theorem dX4_factor_13 : decode cX4_factor 13 = .ok (.iload_n 1, 1) := dk_27 (dk_at dksX4_factor_0 13 rfl rfl)
theorem dX4_factor_14 : decode cX4_factor 14 = .ok (.bipush 33, 2) := dk_16 33 (dk_at dksX4_factor_0 14 rfl rfl)
theorem dX4_factor_16 : decode cX4_factor 16 = .ok (.if_icmp .eq 9, 3) := dk_159 0 9 (dk_at dksX4_factor_0 16 rfl rfl)
theorem dX4_factor_19 : decode cX4_factor 19 = .ok (.iload_n 1, 1) := dk_27 (dk_at dksX4_factor_0 19 rfl rfl)
theorem dX4_factor_20 : decode cX4_factor 20 = .ok (.bipush 40, 2) := dk_16 40 (dk_at dksX4_factor_0 20 rfl rfl)
theorem dX4_factor_22 : decode cX4_factor 22 = .ok (.if_icmp .ne 90, 3) := dk_160 0 90 (dk_at dksX4_factor_1 0 rfl rfl)
theorem dX4_factor_25 : decode cX4_factor 25 = .ok (.aload_n 0, 1) := dk_42 (dk_at dksX4_factor_1 3 rfl rfl)
theorem dX4_factor_26 : decode cX4_factor 26 = .ok (.aload_n 0, 1) := dk_42 (dk_at dksX4_factor_1 4 rfl rfl)
theorem dX4_factor_27 : decode cX4_factor 27 = .ok (.getfield 78, 3) := dk_180 0 78 (dk_at dksX4_factor_1 5 rfl rfl)
theorem dX4_factor_30 : decode cX4_factor 30 = .ok (.iconst 5, 1) := dk_8 (dk_at dksX4_factor_1 8 rfl rfl)
theorem dX4_factor_31 : decode cX4_factor 31 = .ok (.if_icmp .ne 7, 3) := dk_160 0 7 (dk_at dksX4_factor_1 9 rfl rfl)
theorem dX4_factor_34 : decode cX4_factor 34 = .ok (.iconst 1, 1) := dk_4 (dk_at dksX4_factor_1 12 rfl rfl)
theorem dX4_factor_35 : decode cX4_factor 35 = .ok (.goto 4, 3) := dk_167 0 4 (dk_at dksX4_factor_1 13 rfl rfl)
theorem dX4_factor_38 : decode cX4_factor 38 = .ok (.iconst 0, 1) := dk_3 (dk_at dksX4_factor_1 16 rfl rfl)
theorem dX4_factor_39 : decode cX4_factor 39 = .ok (.putfield 54, 3) := dk_181 0 54 (dk_at dksX4_factor_1 17 rfl rfl)
theorem dX4_factor_42 : decode cX4_factor 42 = .ok (.aload_n 0, 1) := dk_42 (dk_at dksX4_factor_1 20 rfl rfl)
theorem dX4_factor_43 : decode cX4_factor 43 = .ok (.dup, 1) := dk_89 (dk_at dksX4_factor_1 21 rfl rfl)
theorem dX4_factor_44 : decode cX4_factor 44 = .ok (.getfield 78, 3) := dk_180 0 78 (dk_at dksX4_factor_2 0 rfl rfl)
theorem dX4_factor_47 : decode cX4_factor 47 = .ok (.iconst 1, 1) := dk_4 (dk_at dksX4_factor_2 3 rfl rfl)
theorem dX4_factor_48 : decode cX4_factor 48 = .ok (.iadd, 1) := dk_96 (dk_at dksX4_factor_2 4 rfl rfl)
theorem dX4_factor_49 : decode cX4_factor 49 = .ok (.putfield 78, 3) := dk_181 0 78 (dk_at dksX4_factor_2 5 rfl rfl)
theorem dX4_factor_52 : decode cX4_factor 52 = .ok (.aload_n 0, 1) := dk_42 (dk_at dksX4_factor_2 8 rfl rfl)
theorem dX4_factor_53 : decode cX4_factor 53 = .ok (.dup, 1) := dk_89 (dk_at dksX4_factor_2 9 rfl rfl)
theorem dX4_factor_54 : decode cX4_factor 54 = .ok (.getfield 48, 3) := dk_180 0 48 (dk_at dksX4_factor_2 10 rfl rfl)
theorem dX4_factor_57 : decode cX4_factor 57 = .ok (.aload_n 0, 1) := dk_42 (dk_at dksX4_factor_2 13 rfl rfl)
theorem dX4_factor_58 : decode cX4_factor 58 = .ok (.getfield 54, 3) := dk_180 0 54 (dk_at dksX4_factor_2 14 rfl rfl)
theorem dX4_factor_61 : decode cX4_factor 61 = .ok (.ifCond .eq 7, 3) := dk_153 0 7 (dk_at dksX4_factor_2 17 rfl rfl)
theorem dX4_factor_64 : decode cX4_factor 64 = .ok (.iconst 0, 1) := dk_3 (dk_at dksX4_factor_2 20 rfl rfl)
theorem dX4_factor_65 : decode cX4_factor 65 = .ok (.goto 4, 3) := dk_167 0 4 (dk_at dksX4_factor_2 21 rfl rfl)
theorem dX4_factor_68 : decode cX4_factor 68 = .ok (.iconst 1, 1) := dk_4 (dk_at dksX4_factor_3 0 rfl rfl)
theorem dX4_factor_69 : decode cX4_factor 69 = .ok (.iadd, 1) := dk_96 (dk_at dksX4_factor_3 1 rfl rfl)
theorem dX4_factor_70 : decode cX4_factor 70 = .ok (.putfield 48, 3) := dk_181 0 48 (dk_at dksX4_factor_3 2 rfl rfl)
theorem dX4_factor_73 : decode cX4_factor 73 = .ok (.iload_n 1, 1) := dk_27 (dk_at dksX4_factor_3 5 rfl rfl)
theorem dX4_factor_74 : decode cX4_factor 74 = .ok (.bipush 33, 2) := dk_16 33 (dk_at dksX4_factor_3 6 rfl rfl)
theorem dX4_factor_76 : decode cX4_factor 76 = .ok (.if_icmp .ne 15, 3) := dk_160 0 15 (dk_at dksX4_factor_3 8 rfl rfl)
theorem dX4_factor_79 : decode cX4_factor 79 = .ok (.aload_n 0, 1) := dk_42 (dk_at dksX4_factor_3 11 rfl rfl)
theorem dX4_factor_80 : decode cX4_factor 80 = .ok (.invokevirtual 81, 3) := dk_182 0 81 (dk_at dksX4_factor_3 12 rfl rfl)
theorem dX4_factor_83 : decode cX4_factor 83 = .ok (.aload_n 0, 1) := dk_42 (dk_at dksX4_factor_3 15 rfl rfl)
theorem dX4_factor_84 : decode cX4_factor 84 = .ok (.iconst (-1), 1) := dk_2 (dk_at dksX4_factor_3 16 rfl rfl)
theorem dX4_factor_85 : decode cX4_factor 85 = .ok (.invokevirtual 84, 3) := dk_182 0 84 (dk_at dksX4_factor_3 17 rfl rfl)
theorem dX4_factor_88 : decode cX4_factor 88 = .ok (.goto 13, 3) := dk_167 0 13 (dk_at dksX4_factor_3 20 rfl rfl)
theorem dX4_factor_91 : decode cX4_factor 91 = .ok (.aload_n 0, 1) := dk_42 (dk_at dksX4_factor_3 23 rfl rfl)
theorem dX4_factor_92 : decode cX4_factor 92 = .ok (.invokevirtual 87, 3) := dk_182 0 87 (dk_at dksX4_factor_4 0 rfl rfl)
theorem dX4_factor_95 : decode cX4_factor 95 = .ok (.aload_n 0, 1) := dk_42 (dk_at dksX4_factor_4 3 rfl rfl)
theorem dX4_factor_96 : decode cX4_factor 96 = .ok (.bipush 41, 2) := dk_16 41 (dk_at dksX4_factor_4 4 rfl rfl)
theorem dX4_factor_98 : decode cX4_factor 98 = .ok (.invokevirtual 71, 3) := dk_182 0 71 (dk_at dksX4_factor_4 6 rfl rfl)
theorem dX4_factor_101 : decode cX4_factor 101 = .ok (.aload_n 0, 1) := dk_42 (dk_at dksX4_factor_4 9 rfl rfl)
theorem dX4_factor_102 : decode cX4_factor 102 = .ok (.dup, 1) := dk_89 (dk_at dksX4_factor_4 10 rfl rfl)
theorem dX4_factor_103 : decode cX4_factor 103 = .ok (.getfield 78, 3) := dk_180 0 78 (dk_at dksX4_factor_4 11 rfl rfl)
theorem dX4_factor_106 : decode cX4_factor 106 = .ok (.iconst 1, 1) := dk_4 (dk_at dksX4_factor_4 14 rfl rfl)
theorem dX4_factor_107 : decode cX4_factor 107 = .ok (.isub, 1) := dk_100 (dk_at dksX4_factor_4 15 rfl rfl)
theorem dX4_factor_108 : decode cX4_factor 108 = .ok (.putfield 78, 3) := dk_181 0 78 (dk_at dksX4_factor_4 16 rfl rfl)
theorem dX4_factor_111 : decode cX4_factor 111 = .ok (.return_, 1) := dk_177 (dk_at dksX4_factor_4 19 rfl rfl)
theorem dX4_factor_112 : decode cX4_factor 112 = .ok (.aload_n 0, 1) := dk_42 (dk_at dksX4_factor_4 20 rfl rfl)
theorem dX4_factor_113 : decode cX4_factor 113 = .ok (.iload_n 1, 1) := dk_27 (dk_at dksX4_factor_4 21 rfl rfl)
theorem dX4_factor_114 : decode cX4_factor 114 = .ok (.bipush 100, 2) := dk_16 100 (dk_at dksX4_factor_4 22 rfl rfl)
theorem dX4_factor_116 : decode cX4_factor 116 = .ok (.if_icmp .eq 19, 3) := dk_159 0 19 (dk_at dksX4_factor_5 0 rfl rfl)
theorem dX4_factor_119 : decode cX4_factor 119 = .ok (.iload_n 1, 1) := dk_27 (dk_at dksX4_factor_5 3 rfl rfl)
theorem dX4_factor_120 : decode cX4_factor 120 = .ok (.bipush 104, 2) := dk_16 104 (dk_at dksX4_factor_5 4 rfl rfl)
theorem dX4_factor_122 : decode cX4_factor 122 = .ok (.if_icmp .eq 13, 3) := dk_159 0 13 (dk_at dksX4_factor_5 6 rfl rfl)
theorem dX4_factor_125 : decode cX4_factor 125 = .ok (.iload_n 1, 1) := dk_27 (dk_at dksX4_factor_5 9 rfl rfl)
theorem dX4_factor_126 : decode cX4_factor 126 = .ok (.bipush 112, 2) := dk_16 112 (dk_at dksX4_factor_5 10 rfl rfl)
theorem dX4_factor_128 : decode cX4_factor 128 = .ok (.if_icmp .eq 7, 3) := dk_159 0 7 (dk_at dksX4_factor_5 12 rfl rfl)
theorem dX4_factor_131 : decode cX4_factor 131 = .ok (.iconst 1, 1) := dk_4 (dk_at dksX4_factor_5 15 rfl rfl)
theorem dX4_factor_132 : decode cX4_factor 132 = .ok (.goto 4, 3) := dk_167 0 4 (dk_at dksX4_factor_5 16 rfl rfl)
theorem dX4_factor_135 : decode cX4_factor 135 = .ok (.iconst 0, 1) := dk_3 (dk_at dksX4_factor_5 19 rfl rfl)
theorem dX4_factor_136 : decode cX4_factor 136 = .ok (.putfield 54, 3) := dk_181 0 54 (dk_at dksX4_factor_5 20 rfl rfl)
theorem dX4_factor_139 : decode cX4_factor 139 = .ok (.aload_n 0, 1) := dk_42 (dk_at dksX4_factor_5 23 rfl rfl)
theorem dX4_factor_140 : decode cX4_factor 140 = .ok (.dup, 1) := dk_89 (dk_at dksX4_factor_6 0 rfl rfl)
theorem dX4_factor_141 : decode cX4_factor 141 = .ok (.getfield 48, 3) := dk_180 0 48 (dk_at dksX4_factor_6 1 rfl rfl)
theorem dX4_factor_144 : decode cX4_factor 144 = .ok (.aload_n 0, 1) := dk_42 (dk_at dksX4_factor_6 4 rfl rfl)
theorem dX4_factor_145 : decode cX4_factor 145 = .ok (.getfield 54, 3) := dk_180 0 54 (dk_at dksX4_factor_6 5 rfl rfl)
theorem dX4_factor_148 : decode cX4_factor 148 = .ok (.ifCond .eq 7, 3) := dk_153 0 7 (dk_at dksX4_factor_6 8 rfl rfl)
theorem dX4_factor_151 : decode cX4_factor 151 = .ok (.iconst 0, 1) := dk_3 (dk_at dksX4_factor_6 11 rfl rfl)
theorem dX4_factor_152 : decode cX4_factor 152 = .ok (.goto 4, 3) := dk_167 0 4 (dk_at dksX4_factor_6 12 rfl rfl)
theorem dX4_factor_155 : decode cX4_factor 155 = .ok (.iconst 1, 1) := dk_4 (dk_at dksX4_factor_6 15 rfl rfl)
theorem dX4_factor_156 : decode cX4_factor 156 = .ok (.iadd, 1) := dk_96 (dk_at dksX4_factor_6 16 rfl rfl)
theorem dX4_factor_157 : decode cX4_factor 157 = .ok (.putfield 48, 3) := dk_181 0 48 (dk_at dksX4_factor_6 17 rfl rfl)
theorem dX4_factor_160 : decode cX4_factor 160 = .ok (.aload_n 0, 1) := dk_42 (dk_at dksX4_factor_6 20 rfl rfl)
theorem dX4_factor_161 : decode cX4_factor 161 = .ok (.invokevirtual 58, 3) := dk_182 0 58 (dk_at dksX4_factor_6 21 rfl rfl)
theorem dX4_factor_164 : decode cX4_factor 164 = .ok (.istore_n 2, 1) := dk_61 (dk_at dksX4_factor_7 0 rfl rfl)
theorem dX4_factor_165 : decode cX4_factor 165 = .ok (.aload_n 0, 1) := dk_42 (dk_at dksX4_factor_7 1 rfl rfl)
theorem dX4_factor_166 : decode cX4_factor 166 = .ok (.aload_n 0, 1) := dk_42 (dk_at dksX4_factor_7 2 rfl rfl)
theorem dX4_factor_167 : decode cX4_factor 167 = .ok (.getfield 54, 3) := dk_180 0 54 (dk_at dksX4_factor_7 3 rfl rfl)
theorem dX4_factor_170 : decode cX4_factor 170 = .ok (.ifCond .ne 21, 3) := dk_154 0 21 (dk_at dksX4_factor_7 6 rfl rfl)
theorem dX4_factor_173 : decode cX4_factor 173 = .ok (.iload_n 2, 1) := dk_28 (dk_at dksX4_factor_7 9 rfl rfl)
theorem dX4_factor_174 : decode cX4_factor 174 = .ok (.bipush 60, 2) := dk_16 60 (dk_at dksX4_factor_7 10 rfl rfl)
theorem dX4_factor_176 : decode cX4_factor 176 = .ok (.if_icmp .eq 19, 3) := dk_159 0 19 (dk_at dksX4_factor_7 12 rfl rfl)
theorem dX4_factor_179 : decode cX4_factor 179 = .ok (.iload_n 2, 1) := dk_28 (dk_at dksX4_factor_7 15 rfl rfl)
theorem dX4_factor_180 : decode cX4_factor 180 = .ok (.bipush 61, 2) := dk_16 61 (dk_at dksX4_factor_7 16 rfl rfl)
theorem dX4_factor_182 : decode cX4_factor 182 = .ok (.if_icmp .eq 13, 3) := dk_159 0 13 (dk_at dksX4_factor_7 18 rfl rfl)
theorem dX4_factor_185 : decode cX4_factor 185 = .ok (.iload_n 2, 1) := dk_28 (dk_at dksX4_factor_7 21 rfl rfl)
theorem dX4_factor_186 : decode cX4_factor 186 = .ok (.bipush 62, 2) := dk_16 62 (dk_at dksX4_factor_7 22 rfl rfl)
theorem dX4_factor_188 : decode cX4_factor 188 = .ok (.if_icmp .eq 7, 3) := dk_159 0 7 (dk_at dksX4_factor_8 0 rfl rfl)
theorem dX4_factor_191 : decode cX4_factor 191 = .ok (.iconst 1, 1) := dk_4 (dk_at dksX4_factor_8 3 rfl rfl)
theorem dX4_factor_192 : decode cX4_factor 192 = .ok (.goto 4, 3) := dk_167 0 4 (dk_at dksX4_factor_8 4 rfl rfl)
theorem dX4_factor_195 : decode cX4_factor 195 = .ok (.iconst 0, 1) := dk_3 (dk_at dksX4_factor_8 7 rfl rfl)
theorem dX4_factor_196 : decode cX4_factor 196 = .ok (.putfield 54, 3) := dk_181 0 54 (dk_at dksX4_factor_8 8 rfl rfl)
theorem dX4_factor_199 : decode cX4_factor 199 = .ok (.aload_n 0, 1) := dk_42 (dk_at dksX4_factor_8 11 rfl rfl)
theorem dX4_factor_200 : decode cX4_factor 200 = .ok (.dup, 1) := dk_89 (dk_at dksX4_factor_8 12 rfl rfl)
theorem dX4_factor_201 : decode cX4_factor 201 = .ok (.getfield 48, 3) := dk_180 0 48 (dk_at dksX4_factor_8 13 rfl rfl)
theorem dX4_factor_204 : decode cX4_factor 204 = .ok (.aload_n 0, 1) := dk_42 (dk_at dksX4_factor_8 16 rfl rfl)
theorem dX4_factor_205 : decode cX4_factor 205 = .ok (.getfield 54, 3) := dk_180 0 54 (dk_at dksX4_factor_8 17 rfl rfl)
theorem dX4_factor_208 : decode cX4_factor 208 = .ok (.ifCond .eq 7, 3) := dk_153 0 7 (dk_at dksX4_factor_8 20 rfl rfl)
theorem dX4_factor_211 : decode cX4_factor 211 = .ok (.iconst 0, 1) := dk_3 (dk_at dksX4_factor_8 23 rfl rfl)
theorem dX4_factor_212 : decode cX4_factor 212 = .ok (.goto 4, 3) := dk_167 0 4 (dk_at dksX4_factor_9 0 rfl rfl)
theorem dX4_factor_215 : decode cX4_factor 215 = .ok (.iconst 1, 1) := dk_4 (dk_at dksX4_factor_9 3 rfl rfl)
theorem dX4_factor_216 : decode cX4_factor 216 = .ok (.iadd, 1) := dk_96 (dk_at dksX4_factor_9 4 rfl rfl)
theorem dX4_factor_217 : decode cX4_factor 217 = .ok (.putfield 48, 3) := dk_181 0 48 (dk_at dksX4_factor_9 5 rfl rfl)
theorem dX4_factor_220 : decode cX4_factor 220 = .ok (.aload_n 0, 1) := dk_42 (dk_at dksX4_factor_9 8 rfl rfl)
theorem dX4_factor_221 : decode cX4_factor 221 = .ok (.invokevirtual 90, 3) := dk_182 0 90 (dk_at dksX4_factor_9 9 rfl rfl)
theorem dX4_factor_224 : decode cX4_factor 224 = .ok (.istore_n 3, 1) := dk_62 (dk_at dksX4_factor_9 12 rfl rfl)
theorem dX4_factor_225 : decode cX4_factor 225 = .ok (.aload_n 0, 1) := dk_42 (dk_at dksX4_factor_9 13 rfl rfl)
theorem dX4_factor_226 : decode cX4_factor 226 = .ok (.iload_n 1, 1) := dk_27 (dk_at dksX4_factor_9 14 rfl rfl)
theorem dX4_factor_227 : decode cX4_factor 227 = .ok (.bipush 100, 2) := dk_16 100 (dk_at dksX4_factor_9 15 rfl rfl)
theorem dX4_factor_229 : decode cX4_factor 229 = .ok (.if_icmp .ne 7, 3) := dk_160 0 7 (dk_at dksX4_factor_9 17 rfl rfl)
theorem dX4_factor_232 : decode cX4_factor 232 = .ok (.iconst 0, 1) := dk_3 (dk_at dksX4_factor_9 20 rfl rfl)
theorem dX4_factor_233 : decode cX4_factor 233 = .ok (.goto 14, 3) := dk_167 0 14 (dk_at dksX4_factor_9 21 rfl rfl)
theorem dX4_factor_236 : decode cX4_factor 236 = .ok (.iload_n 1, 1) := dk_27 (dk_at dksX4_factor_10 0 rfl rfl)
theorem dX4_factor_237 : decode cX4_factor 237 = .ok (.bipush 104, 2) := dk_16 104 (dk_at dksX4_factor_10 1 rfl rfl)
theorem dX4_factor_239 : decode cX4_factor 239 = .ok (.if_icmp .ne 7, 3) := dk_160 0 7 (dk_at dksX4_factor_10 3 rfl rfl)
theorem dX4_factor_242 : decode cX4_factor 242 = .ok (.iconst 1, 1) := dk_4 (dk_at dksX4_factor_10 6 rfl rfl)
theorem dX4_factor_243 : decode cX4_factor 243 = .ok (.goto 4, 3) := dk_167 0 4 (dk_at dksX4_factor_10 7 rfl rfl)
theorem dX4_factor_246 : decode cX4_factor 246 = .ok (.iconst 2, 1) := dk_5 (dk_at dksX4_factor_10 10 rfl rfl)
theorem dX4_factor_247 : decode cX4_factor 247 = .ok (.iconst 4, 1) := dk_7 (dk_at dksX4_factor_10 11 rfl rfl)
theorem dX4_factor_248 : decode cX4_factor 248 = .ok (.iload_n 2, 1) := dk_28 (dk_at dksX4_factor_10 12 rfl rfl)
theorem dX4_factor_249 : decode cX4_factor 249 = .ok (.bipush 60, 2) := dk_16 60 (dk_at dksX4_factor_10 13 rfl rfl)
theorem dX4_factor_251 : decode cX4_factor 251 = .ok (.if_icmp .ne 7, 3) := dk_160 0 7 (dk_at dksX4_factor_10 15 rfl rfl)
theorem dX4_factor_254 : decode cX4_factor 254 = .ok (.iconst 0, 1) := dk_3 (dk_at dksX4_factor_10 18 rfl rfl)
theorem dX4_factor_255 : decode cX4_factor 255 = .ok (.goto 14, 3) := dk_167 0 14 (dk_at dksX4_factor_10 19 rfl rfl)
theorem dX4_factor_258 : decode cX4_factor 258 = .ok (.iload_n 2, 1) := dk_28 (dk_at dksX4_factor_10 22 rfl rfl)
theorem dX4_factor_259 : decode cX4_factor 259 = .ok (.bipush 61, 2) := dk_16 61 (dk_at dksX4_factor_11 0 rfl rfl)
theorem dX4_factor_261 : decode cX4_factor 261 = .ok (.if_icmp .ne 7, 3) := dk_160 0 7 (dk_at dksX4_factor_11 2 rfl rfl)
theorem dX4_factor_264 : decode cX4_factor 264 = .ok (.iconst 1, 1) := dk_4 (dk_at dksX4_factor_11 5 rfl rfl)
theorem dX4_factor_265 : decode cX4_factor 265 = .ok (.goto 4, 3) := dk_167 0 4 (dk_at dksX4_factor_11 6 rfl rfl)
theorem dX4_factor_268 : decode cX4_factor 268 = .ok (.iconst 2, 1) := dk_5 (dk_at dksX4_factor_11 9 rfl rfl)
theorem dX4_factor_269 : decode cX4_factor 269 = .ok (.imul, 1) := dk_104 (dk_at dksX4_factor_11 10 rfl rfl)
theorem dX4_factor_270 : decode cX4_factor 270 = .ok (.iadd, 1) := dk_96 (dk_at dksX4_factor_11 11 rfl rfl)
theorem dX4_factor_271 : decode cX4_factor 271 = .ok (.bipush 16, 2) := dk_16 16 (dk_at dksX4_factor_11 12 rfl rfl)
theorem dX4_factor_273 : decode cX4_factor 273 = .ok (.iload_n 3, 1) := dk_29 (dk_at dksX4_factor_11 14 rfl rfl)
theorem dX4_factor_274 : decode cX4_factor 274 = .ok (.imul, 1) := dk_104 (dk_at dksX4_factor_11 15 rfl rfl)
theorem dX4_factor_275 : decode cX4_factor 275 = .ok (.iadd, 1) := dk_96 (dk_at dksX4_factor_11 16 rfl rfl)
theorem dX4_factor_276 : decode cX4_factor 276 = .ok (.invokevirtual 84, 3) := dk_182 0 84 (dk_at dksX4_factor_11 17 rfl rfl)
theorem dX4_factor_279 : decode cX4_factor 279 = .ok (.return_, 1) := dk_177 (dk_at dksX4_factor_11 20 rfl rfl)
abbrev cX4_emits : ByteArray := prog_21_method_12_code
def yX4_emits : MethodName := ⟨RX4, "emits", "(I)V"⟩
def dkwX4_emits_2 : List UInt8 := [180, 0, 75, 96, 92, 46, 4, 96, 79, 177]
abbrev dktX4_emits_2 : List UInt8 := dkwX4_emits_2 ++ []
def dkwX4_emits_1 : List UInt8 := [180, 0, 9, 17, 0, 180, 42, 180, 0, 75, 96, 46, 96, 27, 79, 42, 180, 0, 9, 17, 0, 180, 42]
abbrev dktX4_emits_1 : List UInt8 := dkwX4_emits_1 ++ dktX4_emits_2
def dkwX4_emits_0 : List UInt8 := [42, 180, 0, 54, 154, 0, 52, 42, 180, 0, 9, 17, 0, 190, 17, 0, 140, 42, 180, 0, 75, 104, 96, 42]
abbrev dktX4_emits_0 : List UInt8 := dkwX4_emits_0 ++ dktX4_emits_1
theorem dksX4_emits_0 : cX4_emits.data.toList.drop 0 = dktX4_emits_0 := by decide +kernel
theorem dksX4_emits_1 : cX4_emits.data.toList.drop 24 = dktX4_emits_1 := dk_seg dksX4_emits_0 24 rfl rfl
theorem dksX4_emits_2 : cX4_emits.data.toList.drop 47 = dktX4_emits_2 := dk_seg dksX4_emits_1 23 rfl rfl
theorem dX4_emits_0 : decode cX4_emits 0 = .ok (.aload_n 0, 1) := dk_42 (dk_at dksX4_emits_0 0 rfl rfl)
theorem dX4_emits_1 : decode cX4_emits 1 = .ok (.getfield 54, 3) := dk_180 0 54 (dk_at dksX4_emits_0 1 rfl rfl)
theorem dX4_emits_4 : decode cX4_emits 4 = .ok (.ifCond .ne 52, 3) := dk_154 0 52 (dk_at dksX4_emits_0 4 rfl rfl)
theorem dX4_emits_7 : decode cX4_emits 7 = .ok (.aload_n 0, 1) := dk_42 (dk_at dksX4_emits_0 7 rfl rfl)
theorem dX4_emits_8 : decode cX4_emits 8 = .ok (.getfield 9, 3) := dk_180 0 9 (dk_at dksX4_emits_0 8 rfl rfl)
theorem dX4_emits_11 : decode cX4_emits 11 = .ok (.sipush 190, 3) := dk_17 0 190 (dk_at dksX4_emits_0 11 rfl rfl)
theorem dX4_emits_14 : decode cX4_emits 14 = .ok (.sipush 140, 3) := dk_17 0 140 (dk_at dksX4_emits_0 14 rfl rfl)
theorem dX4_emits_17 : decode cX4_emits 17 = .ok (.aload_n 0, 1) := dk_42 (dk_at dksX4_emits_0 17 rfl rfl)
theorem dX4_emits_18 : decode cX4_emits 18 = .ok (.getfield 75, 3) := dk_180 0 75 (dk_at dksX4_emits_0 18 rfl rfl)
theorem dX4_emits_21 : decode cX4_emits 21 = .ok (.imul, 1) := dk_104 (dk_at dksX4_emits_0 21 rfl rfl)
theorem dX4_emits_22 : decode cX4_emits 22 = .ok (.iadd, 1) := dk_96 (dk_at dksX4_emits_0 22 rfl rfl)
theorem dX4_emits_23 : decode cX4_emits 23 = .ok (.aload_n 0, 1) := dk_42 (dk_at dksX4_emits_0 23 rfl rfl)
theorem dX4_emits_24 : decode cX4_emits 24 = .ok (.getfield 9, 3) := dk_180 0 9 (dk_at dksX4_emits_1 0 rfl rfl)
theorem dX4_emits_27 : decode cX4_emits 27 = .ok (.sipush 180, 3) := dk_17 0 180 (dk_at dksX4_emits_1 3 rfl rfl)
theorem dX4_emits_30 : decode cX4_emits 30 = .ok (.aload_n 0, 1) := dk_42 (dk_at dksX4_emits_1 6 rfl rfl)
theorem dX4_emits_31 : decode cX4_emits 31 = .ok (.getfield 75, 3) := dk_180 0 75 (dk_at dksX4_emits_1 7 rfl rfl)
theorem dX4_emits_34 : decode cX4_emits 34 = .ok (.iadd, 1) := dk_96 (dk_at dksX4_emits_1 10 rfl rfl)
theorem dX4_emits_35 : decode cX4_emits 35 = .ok (.iaload, 1) := dk_46 (dk_at dksX4_emits_1 11 rfl rfl)
theorem dX4_emits_36 : decode cX4_emits 36 = .ok (.iadd, 1) := dk_96 (dk_at dksX4_emits_1 12 rfl rfl)
theorem dX4_emits_37 : decode cX4_emits 37 = .ok (.iload_n 1, 1) := dk_27 (dk_at dksX4_emits_1 13 rfl rfl)
theorem dX4_emits_38 : decode cX4_emits 38 = .ok (.iastore, 1) := dk_79 (dk_at dksX4_emits_1 14 rfl rfl)
theorem dX4_emits_39 : decode cX4_emits 39 = .ok (.aload_n 0, 1) := dk_42 (dk_at dksX4_emits_1 15 rfl rfl)
theorem dX4_emits_40 : decode cX4_emits 40 = .ok (.getfield 9, 3) := dk_180 0 9 (dk_at dksX4_emits_1 16 rfl rfl)
theorem dX4_emits_43 : decode cX4_emits 43 = .ok (.sipush 180, 3) := dk_17 0 180 (dk_at dksX4_emits_1 19 rfl rfl)
theorem dX4_emits_46 : decode cX4_emits 46 = .ok (.aload_n 0, 1) := dk_42 (dk_at dksX4_emits_1 22 rfl rfl)
theorem dX4_emits_47 : decode cX4_emits 47 = .ok (.getfield 75, 3) := dk_180 0 75 (dk_at dksX4_emits_2 0 rfl rfl)
theorem dX4_emits_50 : decode cX4_emits 50 = .ok (.iadd, 1) := dk_96 (dk_at dksX4_emits_2 3 rfl rfl)
theorem dX4_emits_51 : decode cX4_emits 51 = .ok (.dup2, 1) := dk_92 (dk_at dksX4_emits_2 4 rfl rfl)
theorem dX4_emits_52 : decode cX4_emits 52 = .ok (.iaload, 1) := dk_46 (dk_at dksX4_emits_2 5 rfl rfl)
theorem dX4_emits_53 : decode cX4_emits 53 = .ok (.iconst 1, 1) := dk_4 (dk_at dksX4_emits_2 6 rfl rfl)
theorem dX4_emits_54 : decode cX4_emits 54 = .ok (.iadd, 1) := dk_96 (dk_at dksX4_emits_2 7 rfl rfl)
theorem dX4_emits_55 : decode cX4_emits 55 = .ok (.iastore, 1) := dk_79 (dk_at dksX4_emits_2 8 rfl rfl)
theorem dX4_emits_56 : decode cX4_emits 56 = .ok (.return_, 1) := dk_177 (dk_at dksX4_emits_2 9 rfl rfl)
abbrev cX4_tells : ByteArray := prog_21_method_16_code
def yX4_tells : MethodName := ⟨RX4, "tells", "(ILjava/lang/String;)V"⟩
def dkwX4_tells_1 : List UInt8 := [16, 10, 42, 180, 0, 75, 104, 96, 27, 96, 29, 79, 177]
abbrev dktX4_tells_1 : List UInt8 := dkwX4_tells_1 ++ []
def dkwX4_tells_0 : List UInt8 := [42, 44, 182, 0, 96, 42, 182, 0, 90, 62, 42, 180, 0, 54, 154, 0, 22, 42, 180, 0, 9, 17, 0, 130]
abbrev dktX4_tells_0 : List UInt8 := dkwX4_tells_0 ++ dktX4_tells_1
theorem dksX4_tells_0 : cX4_tells.data.toList.drop 0 = dktX4_tells_0 := by decide +kernel
theorem dksX4_tells_1 : cX4_tells.data.toList.drop 24 = dktX4_tells_1 := dk_seg dksX4_tells_0 24 rfl rfl
theorem dX4_tells_0 : decode cX4_tells 0 = .ok (.aload_n 0, 1) := dk_42 (dk_at dksX4_tells_0 0 rfl rfl)
theorem dX4_tells_1 : decode cX4_tells 1 = .ok (.aload_n 2, 1) := dk_44 (dk_at dksX4_tells_0 1 rfl rfl)
theorem dX4_tells_2 : decode cX4_tells 2 = .ok (.invokevirtual 96, 3) := dk_182 0 96 (dk_at dksX4_tells_0 2 rfl rfl)
theorem dX4_tells_5 : decode cX4_tells 5 = .ok (.aload_n 0, 1) := dk_42 (dk_at dksX4_tells_0 5 rfl rfl)
theorem dX4_tells_6 : decode cX4_tells 6 = .ok (.invokevirtual 90, 3) := dk_182 0 90 (dk_at dksX4_tells_0 6 rfl rfl)
theorem dX4_tells_9 : decode cX4_tells 9 = .ok (.istore_n 3, 1) := dk_62 (dk_at dksX4_tells_0 9 rfl rfl)
theorem dX4_tells_10 : decode cX4_tells 10 = .ok (.aload_n 0, 1) := dk_42 (dk_at dksX4_tells_0 10 rfl rfl)
theorem dX4_tells_11 : decode cX4_tells 11 = .ok (.getfield 54, 3) := dk_180 0 54 (dk_at dksX4_tells_0 11 rfl rfl)
theorem dX4_tells_14 : decode cX4_tells 14 = .ok (.ifCond .ne 22, 3) := dk_154 0 22 (dk_at dksX4_tells_0 14 rfl rfl)
theorem dX4_tells_17 : decode cX4_tells 17 = .ok (.aload_n 0, 1) := dk_42 (dk_at dksX4_tells_0 17 rfl rfl)
theorem dX4_tells_18 : decode cX4_tells 18 = .ok (.getfield 9, 3) := dk_180 0 9 (dk_at dksX4_tells_0 18 rfl rfl)
theorem dX4_tells_21 : decode cX4_tells 21 = .ok (.sipush 130, 3) := dk_17 0 130 (dk_at dksX4_tells_0 21 rfl rfl)
theorem dX4_tells_24 : decode cX4_tells 24 = .ok (.bipush 10, 2) := dk_16 10 (dk_at dksX4_tells_1 0 rfl rfl)
theorem dX4_tells_26 : decode cX4_tells 26 = .ok (.aload_n 0, 1) := dk_42 (dk_at dksX4_tells_1 2 rfl rfl)
theorem dX4_tells_27 : decode cX4_tells 27 = .ok (.getfield 75, 3) := dk_180 0 75 (dk_at dksX4_tells_1 3 rfl rfl)
theorem dX4_tells_30 : decode cX4_tells 30 = .ok (.imul, 1) := dk_104 (dk_at dksX4_tells_1 6 rfl rfl)
theorem dX4_tells_31 : decode cX4_tells 31 = .ok (.iadd, 1) := dk_96 (dk_at dksX4_tells_1 7 rfl rfl)
theorem dX4_tells_32 : decode cX4_tells 32 = .ok (.iload_n 1, 1) := dk_27 (dk_at dksX4_tells_1 8 rfl rfl)
theorem dX4_tells_33 : decode cX4_tells 33 = .ok (.iadd, 1) := dk_96 (dk_at dksX4_tells_1 9 rfl rfl)
theorem dX4_tells_34 : decode cX4_tells 34 = .ok (.iload_n 3, 1) := dk_29 (dk_at dksX4_tells_1 10 rfl rfl)
theorem dX4_tells_35 : decode cX4_tells 35 = .ok (.iastore, 1) := dk_79 (dk_at dksX4_tells_1 11 rfl rfl)
theorem dX4_tells_36 : decode cX4_tells 36 = .ok (.return_, 1) := dk_177 (dk_at dksX4_tells_1 12 rfl rfl)
abbrev cX4_haves : ByteArray := prog_21_method_17_code
def yX4_haves : MethodName := ⟨RX4, "haves", "()V"⟩
def dkwX4_haves_3 : List UInt8 := [167, 0, 4, 4, 96, 181, 0, 48, 42, 27, 18, 102, 182, 0, 104, 177]
abbrev dktX4_haves_3 : List UInt8 := dkwX4_haves_3 ++ []
def dkwX4_haves_2 : List UInt8 := [167, 0, 10, 42, 182, 0, 58, 16, 48, 100, 60, 42, 89, 180, 0, 48, 42, 180, 0, 54, 153, 0, 7, 3]
abbrev dktX4_haves_2 : List UInt8 := dkwX4_haves_2 ++ dktX4_haves_3
def dkwX4_haves_1 : List UInt8 := [184, 0, 42, 154, 0, 7, 4, 167, 0, 4, 3, 181, 0, 54, 42, 180, 0, 54, 153, 0, 7, 3]
abbrev dktX4_haves_1 : List UInt8 := dkwX4_haves_1 ++ dktX4_haves_2
def dkwX4_haves_0 : List UInt8 := [42, 18, 100, 182, 0, 96, 42, 42, 180, 0, 54, 154, 0, 17, 42, 182, 0, 58, 16, 48, 16, 51]
abbrev dktX4_haves_0 : List UInt8 := dkwX4_haves_0 ++ dktX4_haves_1
theorem dksX4_haves_0 : cX4_haves.data.toList.drop 0 = dktX4_haves_0 := by decide +kernel
theorem dksX4_haves_1 : cX4_haves.data.toList.drop 22 = dktX4_haves_1 := dk_seg dksX4_haves_0 22 rfl rfl
theorem dksX4_haves_2 : cX4_haves.data.toList.drop 44 = dktX4_haves_2 := dk_seg dksX4_haves_1 22 rfl rfl
theorem dksX4_haves_3 : cX4_haves.data.toList.drop 68 = dktX4_haves_3 := dk_seg dksX4_haves_2 24 rfl rfl
theorem dX4_haves_0 : decode cX4_haves 0 = .ok (.aload_n 0, 1) := dk_42 (dk_at dksX4_haves_0 0 rfl rfl)
theorem dX4_haves_1 : decode cX4_haves 1 = .ok (.ldc 100, 2) := dk_18 100 (dk_at dksX4_haves_0 1 rfl rfl)
theorem dX4_haves_3 : decode cX4_haves 3 = .ok (.invokevirtual 96, 3) := dk_182 0 96 (dk_at dksX4_haves_0 3 rfl rfl)
theorem dX4_haves_6 : decode cX4_haves 6 = .ok (.aload_n 0, 1) := dk_42 (dk_at dksX4_haves_0 6 rfl rfl)
theorem dX4_haves_7 : decode cX4_haves 7 = .ok (.aload_n 0, 1) := dk_42 (dk_at dksX4_haves_0 7 rfl rfl)
theorem dX4_haves_8 : decode cX4_haves 8 = .ok (.getfield 54, 3) := dk_180 0 54 (dk_at dksX4_haves_0 8 rfl rfl)
theorem dX4_haves_11 : decode cX4_haves 11 = .ok (.ifCond .ne 17, 3) := dk_154 0 17 (dk_at dksX4_haves_0 11 rfl rfl)
theorem dX4_haves_14 : decode cX4_haves 14 = .ok (.aload_n 0, 1) := dk_42 (dk_at dksX4_haves_0 14 rfl rfl)
theorem dX4_haves_15 : decode cX4_haves 15 = .ok (.invokevirtual 58, 3) := dk_182 0 58 (dk_at dksX4_haves_0 15 rfl rfl)
theorem dX4_haves_18 : decode cX4_haves 18 = .ok (.bipush 48, 2) := dk_16 48 (dk_at dksX4_haves_0 18 rfl rfl)
theorem dX4_haves_20 : decode cX4_haves 20 = .ok (.bipush 51, 2) := dk_16 51 (dk_at dksX4_haves_0 20 rfl rfl)
theorem dX4_haves_22 : decode cX4_haves 22 = .ok (.invokestatic 42, 3) := dk_184 0 42 (dk_at dksX4_haves_1 0 rfl rfl)
theorem dX4_haves_25 : decode cX4_haves 25 = .ok (.ifCond .ne 7, 3) := dk_154 0 7 (dk_at dksX4_haves_1 3 rfl rfl)
theorem dX4_haves_28 : decode cX4_haves 28 = .ok (.iconst 1, 1) := dk_4 (dk_at dksX4_haves_1 6 rfl rfl)
theorem dX4_haves_29 : decode cX4_haves 29 = .ok (.goto 4, 3) := dk_167 0 4 (dk_at dksX4_haves_1 7 rfl rfl)
theorem dX4_haves_32 : decode cX4_haves 32 = .ok (.iconst 0, 1) := dk_3 (dk_at dksX4_haves_1 10 rfl rfl)
theorem dX4_haves_33 : decode cX4_haves 33 = .ok (.putfield 54, 3) := dk_181 0 54 (dk_at dksX4_haves_1 11 rfl rfl)
theorem dX4_haves_36 : decode cX4_haves 36 = .ok (.aload_n 0, 1) := dk_42 (dk_at dksX4_haves_1 14 rfl rfl)
theorem dX4_haves_37 : decode cX4_haves 37 = .ok (.getfield 54, 3) := dk_180 0 54 (dk_at dksX4_haves_1 15 rfl rfl)
theorem dX4_haves_40 : decode cX4_haves 40 = .ok (.ifCond .eq 7, 3) := dk_153 0 7 (dk_at dksX4_haves_1 18 rfl rfl)
theorem dX4_haves_43 : decode cX4_haves 43 = .ok (.iconst 0, 1) := dk_3 (dk_at dksX4_haves_1 21 rfl rfl)
theorem dX4_haves_44 : decode cX4_haves 44 = .ok (.goto 10, 3) := dk_167 0 10 (dk_at dksX4_haves_2 0 rfl rfl)
theorem dX4_haves_47 : decode cX4_haves 47 = .ok (.aload_n 0, 1) := dk_42 (dk_at dksX4_haves_2 3 rfl rfl)
theorem dX4_haves_48 : decode cX4_haves 48 = .ok (.invokevirtual 58, 3) := dk_182 0 58 (dk_at dksX4_haves_2 4 rfl rfl)
theorem dX4_haves_51 : decode cX4_haves 51 = .ok (.bipush 48, 2) := dk_16 48 (dk_at dksX4_haves_2 7 rfl rfl)
theorem dX4_haves_53 : decode cX4_haves 53 = .ok (.isub, 1) := dk_100 (dk_at dksX4_haves_2 9 rfl rfl)
theorem dX4_haves_54 : decode cX4_haves 54 = .ok (.istore_n 1, 1) := dk_60 (dk_at dksX4_haves_2 10 rfl rfl)
theorem dX4_haves_55 : decode cX4_haves 55 = .ok (.aload_n 0, 1) := dk_42 (dk_at dksX4_haves_2 11 rfl rfl)
theorem dX4_haves_56 : decode cX4_haves 56 = .ok (.dup, 1) := dk_89 (dk_at dksX4_haves_2 12 rfl rfl)
theorem dX4_haves_57 : decode cX4_haves 57 = .ok (.getfield 48, 3) := dk_180 0 48 (dk_at dksX4_haves_2 13 rfl rfl)
theorem dX4_haves_60 : decode cX4_haves 60 = .ok (.aload_n 0, 1) := dk_42 (dk_at dksX4_haves_2 16 rfl rfl)
theorem dX4_haves_61 : decode cX4_haves 61 = .ok (.getfield 54, 3) := dk_180 0 54 (dk_at dksX4_haves_2 17 rfl rfl)
theorem dX4_haves_64 : decode cX4_haves 64 = .ok (.ifCond .eq 7, 3) := dk_153 0 7 (dk_at dksX4_haves_2 20 rfl rfl)
theorem dX4_haves_67 : decode cX4_haves 67 = .ok (.iconst 0, 1) := dk_3 (dk_at dksX4_haves_2 23 rfl rfl)
theorem dX4_haves_68 : decode cX4_haves 68 = .ok (.goto 4, 3) := dk_167 0 4 (dk_at dksX4_haves_3 0 rfl rfl)
theorem dX4_haves_71 : decode cX4_haves 71 = .ok (.iconst 1, 1) := dk_4 (dk_at dksX4_haves_3 3 rfl rfl)
theorem dX4_haves_72 : decode cX4_haves 72 = .ok (.iadd, 1) := dk_96 (dk_at dksX4_haves_3 4 rfl rfl)
theorem dX4_haves_73 : decode cX4_haves 73 = .ok (.putfield 48, 3) := dk_181 0 48 (dk_at dksX4_haves_3 5 rfl rfl)
theorem dX4_haves_76 : decode cX4_haves 76 = .ok (.aload_n 0, 1) := dk_42 (dk_at dksX4_haves_3 8 rfl rfl)
theorem dX4_haves_77 : decode cX4_haves 77 = .ok (.iload_n 1, 1) := dk_27 (dk_at dksX4_haves_3 9 rfl rfl)
theorem dX4_haves_78 : decode cX4_haves 78 = .ok (.ldc 102, 2) := dk_18 102 (dk_at dksX4_haves_3 10 rfl rfl)
theorem dX4_haves_80 : decode cX4_haves 80 = .ok (.invokevirtual 104, 3) := dk_182 0 104 (dk_at dksX4_haves_3 12 rfl rfl)
theorem dX4_haves_83 : decode cX4_haves 83 = .ok (.return_, 1) := dk_177 (dk_at dksX4_haves_3 15 rfl rfl)
abbrev cX4_told : ByteArray := prog_21_method_22_code
def yX4_told : MethodName := ⟨RX4, "told", "(II)I"⟩
def dkwX4_told_1 : List UInt8 := [17, 0, 130, 16, 10, 27, 104, 96, 28, 96, 46, 167, 0, 4, 2, 172]
abbrev dktX4_told_1 : List UInt8 := dkwX4_told_1 ++ []
def dkwX4_told_0 : List UInt8 := [42, 27, 182, 0, 134, 153, 0, 31, 28, 3, 16, 9, 184, 0, 42, 153, 0, 21, 42, 180, 0, 9]
abbrev dktX4_told_0 : List UInt8 := dkwX4_told_0 ++ dktX4_told_1
theorem dksX4_told_0 : cX4_told.data.toList.drop 0 = dktX4_told_0 := by decide +kernel
theorem dksX4_told_1 : cX4_told.data.toList.drop 22 = dktX4_told_1 := dk_seg dksX4_told_0 22 rfl rfl
theorem dX4_told_0 : decode cX4_told 0 = .ok (.aload_n 0, 1) := dk_42 (dk_at dksX4_told_0 0 rfl rfl)
theorem dX4_told_1 : decode cX4_told 1 = .ok (.iload_n 1, 1) := dk_27 (dk_at dksX4_told_0 1 rfl rfl)
theorem dX4_told_2 : decode cX4_told 2 = .ok (.invokevirtual 134, 3) := dk_182 0 134 (dk_at dksX4_told_0 2 rfl rfl)
theorem dX4_told_5 : decode cX4_told 5 = .ok (.ifCond .eq 31, 3) := dk_153 0 31 (dk_at dksX4_told_0 5 rfl rfl)
theorem dX4_told_8 : decode cX4_told 8 = .ok (.iload_n 2, 1) := dk_28 (dk_at dksX4_told_0 8 rfl rfl)
theorem dX4_told_9 : decode cX4_told 9 = .ok (.iconst 0, 1) := dk_3 (dk_at dksX4_told_0 9 rfl rfl)
theorem dX4_told_10 : decode cX4_told 10 = .ok (.bipush 9, 2) := dk_16 9 (dk_at dksX4_told_0 10 rfl rfl)
theorem dX4_told_12 : decode cX4_told 12 = .ok (.invokestatic 42, 3) := dk_184 0 42 (dk_at dksX4_told_0 12 rfl rfl)
theorem dX4_told_15 : decode cX4_told 15 = .ok (.ifCond .eq 21, 3) := dk_153 0 21 (dk_at dksX4_told_0 15 rfl rfl)
theorem dX4_told_18 : decode cX4_told 18 = .ok (.aload_n 0, 1) := dk_42 (dk_at dksX4_told_0 18 rfl rfl)
theorem dX4_told_19 : decode cX4_told 19 = .ok (.getfield 9, 3) := dk_180 0 9 (dk_at dksX4_told_0 19 rfl rfl)
theorem dX4_told_22 : decode cX4_told 22 = .ok (.sipush 130, 3) := dk_17 0 130 (dk_at dksX4_told_1 0 rfl rfl)
theorem dX4_told_25 : decode cX4_told 25 = .ok (.bipush 10, 2) := dk_16 10 (dk_at dksX4_told_1 3 rfl rfl)
theorem dX4_told_27 : decode cX4_told 27 = .ok (.iload_n 1, 1) := dk_27 (dk_at dksX4_told_1 5 rfl rfl)
theorem dX4_told_28 : decode cX4_told 28 = .ok (.imul, 1) := dk_104 (dk_at dksX4_told_1 6 rfl rfl)
theorem dX4_told_29 : decode cX4_told 29 = .ok (.iadd, 1) := dk_96 (dk_at dksX4_told_1 7 rfl rfl)
theorem dX4_told_30 : decode cX4_told 30 = .ok (.iload_n 2, 1) := dk_28 (dk_at dksX4_told_1 8 rfl rfl)
theorem dX4_told_31 : decode cX4_told 31 = .ok (.iadd, 1) := dk_96 (dk_at dksX4_told_1 9 rfl rfl)
theorem dX4_told_32 : decode cX4_told 32 = .ok (.iaload, 1) := dk_46 (dk_at dksX4_told_1 10 rfl rfl)
theorem dX4_told_33 : decode cX4_told 33 = .ok (.goto 4, 3) := dk_167 0 4 (dk_at dksX4_told_1 11 rfl rfl)
theorem dX4_told_36 : decode cX4_told 36 = .ok (.iconst (-1), 1) := dk_2 (dk_at dksX4_told_1 14 rfl rfl)
theorem dX4_told_37 : decode cX4_told 37 = .ok (.ireturn, 1) := dk_172 (dk_at dksX4_told_1 15 rfl rfl)
abbrev cX4_isPort : ByteArray := prog_21_method_4_code
def yX4_isPort : MethodName := ⟨RX4, "isPort", "(I)Z"⟩
def dkwX4_isPort_0 : List UInt8 := [27, 3, 42, 180, 0, 9, 3, 46, 4, 100, 184, 0, 42, 172]
abbrev dktX4_isPort_0 : List UInt8 := dkwX4_isPort_0 ++ []
theorem dksX4_isPort_0 : cX4_isPort.data.toList.drop 0 = dktX4_isPort_0 := by decide +kernel
theorem dX4_isPort_0 : decode cX4_isPort 0 = .ok (.iload_n 1, 1) := dk_27 (dk_at dksX4_isPort_0 0 rfl rfl)
theorem dX4_isPort_1 : decode cX4_isPort 1 = .ok (.iconst 0, 1) := dk_3 (dk_at dksX4_isPort_0 1 rfl rfl)
theorem dX4_isPort_2 : decode cX4_isPort 2 = .ok (.aload_n 0, 1) := dk_42 (dk_at dksX4_isPort_0 2 rfl rfl)
theorem dX4_isPort_3 : decode cX4_isPort 3 = .ok (.getfield 9, 3) := dk_180 0 9 (dk_at dksX4_isPort_0 3 rfl rfl)
theorem dX4_isPort_6 : decode cX4_isPort 6 = .ok (.iconst 0, 1) := dk_3 (dk_at dksX4_isPort_0 6 rfl rfl)
theorem dX4_isPort_7 : decode cX4_isPort 7 = .ok (.iaload, 1) := dk_46 (dk_at dksX4_isPort_0 7 rfl rfl)
theorem dX4_isPort_8 : decode cX4_isPort 8 = .ok (.iconst 1, 1) := dk_4 (dk_at dksX4_isPort_0 8 rfl rfl)
theorem dX4_isPort_9 : decode cX4_isPort 9 = .ok (.isub, 1) := dk_100 (dk_at dksX4_isPort_0 9 rfl rfl)
theorem dX4_isPort_10 : decode cX4_isPort 10 = .ok (.invokestatic 42, 3) := dk_184 0 42 (dk_at dksX4_isPort_0 10 rfl rfl)
theorem dX4_isPort_13 : decode cX4_isPort 13 = .ok (.ireturn, 1) := dk_172 (dk_at dksX4_isPort_0 13 rfl rfl)
abbrev cX4_holds : ByteArray := prog_21_method_24_code
def yX4_holds : MethodName := ⟨RX4, "holds", "(IIII)I"⟩
def dkwX4_holds_2 : List UInt8 := [182, 0, 138, 167, 0, 5, 16, 254, 172]
abbrev dktX4_holds_2 : List UInt8 := dkwX4_holds_2 ++ []
def dkwX4_holds_1 : List UInt8 := [184, 0, 42, 153, 0, 25, 21, 4, 3, 6, 184, 0, 42, 153, 0, 15, 42, 27, 28, 29, 21, 4]
abbrev dktX4_holds_1 : List UInt8 := dkwX4_holds_1 ++ dktX4_holds_2
def dkwX4_holds_0 : List UInt8 := [42, 27, 182, 0, 134, 154, 0, 5, 2, 172, 28, 3, 16, 99, 184, 0, 42, 153, 0, 35, 29, 4, 16, 20]
abbrev dktX4_holds_0 : List UInt8 := dkwX4_holds_0 ++ dktX4_holds_1
theorem dksX4_holds_0 : cX4_holds.data.toList.drop 0 = dktX4_holds_0 := by decide +kernel
theorem dksX4_holds_1 : cX4_holds.data.toList.drop 24 = dktX4_holds_1 := dk_seg dksX4_holds_0 24 rfl rfl
theorem dksX4_holds_2 : cX4_holds.data.toList.drop 46 = dktX4_holds_2 := dk_seg dksX4_holds_1 22 rfl rfl
theorem dX4_holds_0 : decode cX4_holds 0 = .ok (.aload_n 0, 1) := dk_42 (dk_at dksX4_holds_0 0 rfl rfl)
theorem dX4_holds_1 : decode cX4_holds 1 = .ok (.iload_n 1, 1) := dk_27 (dk_at dksX4_holds_0 1 rfl rfl)
theorem dX4_holds_2 : decode cX4_holds 2 = .ok (.invokevirtual 134, 3) := dk_182 0 134 (dk_at dksX4_holds_0 2 rfl rfl)
theorem dX4_holds_5 : decode cX4_holds 5 = .ok (.ifCond .ne 5, 3) := dk_154 0 5 (dk_at dksX4_holds_0 5 rfl rfl)
theorem dX4_holds_8 : decode cX4_holds 8 = .ok (.iconst (-1), 1) := dk_2 (dk_at dksX4_holds_0 8 rfl rfl)
theorem dX4_holds_9 : decode cX4_holds 9 = .ok (.ireturn, 1) := dk_172 (dk_at dksX4_holds_0 9 rfl rfl)
theorem dX4_holds_10 : decode cX4_holds 10 = .ok (.iload_n 2, 1) := dk_28 (dk_at dksX4_holds_0 10 rfl rfl)
theorem dX4_holds_11 : decode cX4_holds 11 = .ok (.iconst 0, 1) := dk_3 (dk_at dksX4_holds_0 11 rfl rfl)
theorem dX4_holds_12 : decode cX4_holds 12 = .ok (.bipush 99, 2) := dk_16 99 (dk_at dksX4_holds_0 12 rfl rfl)
theorem dX4_holds_14 : decode cX4_holds 14 = .ok (.invokestatic 42, 3) := dk_184 0 42 (dk_at dksX4_holds_0 14 rfl rfl)
theorem dX4_holds_17 : decode cX4_holds 17 = .ok (.ifCond .eq 35, 3) := dk_153 0 35 (dk_at dksX4_holds_0 17 rfl rfl)
theorem dX4_holds_20 : decode cX4_holds 20 = .ok (.iload_n 3, 1) := dk_29 (dk_at dksX4_holds_0 20 rfl rfl)
theorem dX4_holds_21 : decode cX4_holds 21 = .ok (.iconst 1, 1) := dk_4 (dk_at dksX4_holds_0 21 rfl rfl)
theorem dX4_holds_22 : decode cX4_holds 22 = .ok (.bipush 20, 2) := dk_16 20 (dk_at dksX4_holds_0 22 rfl rfl)
theorem dX4_holds_24 : decode cX4_holds 24 = .ok (.invokestatic 42, 3) := dk_184 0 42 (dk_at dksX4_holds_1 0 rfl rfl)
theorem dX4_holds_27 : decode cX4_holds 27 = .ok (.ifCond .eq 25, 3) := dk_153 0 25 (dk_at dksX4_holds_1 3 rfl rfl)
theorem dX4_holds_30 : decode cX4_holds 30 = .ok (.iload 4, 2) := dk_21 4 (dk_at dksX4_holds_1 6 rfl rfl)
theorem dX4_holds_32 : decode cX4_holds 32 = .ok (.iconst 0, 1) := dk_3 (dk_at dksX4_holds_1 8 rfl rfl)
theorem dX4_holds_33 : decode cX4_holds 33 = .ok (.iconst 3, 1) := dk_6 (dk_at dksX4_holds_1 9 rfl rfl)
theorem dX4_holds_34 : decode cX4_holds 34 = .ok (.invokestatic 42, 3) := dk_184 0 42 (dk_at dksX4_holds_1 10 rfl rfl)
theorem dX4_holds_37 : decode cX4_holds 37 = .ok (.ifCond .eq 15, 3) := dk_153 0 15 (dk_at dksX4_holds_1 13 rfl rfl)
theorem dX4_holds_40 : decode cX4_holds 40 = .ok (.aload_n 0, 1) := dk_42 (dk_at dksX4_holds_1 16 rfl rfl)
theorem dX4_holds_41 : decode cX4_holds 41 = .ok (.iload_n 1, 1) := dk_27 (dk_at dksX4_holds_1 17 rfl rfl)
theorem dX4_holds_42 : decode cX4_holds 42 = .ok (.iload_n 2, 1) := dk_28 (dk_at dksX4_holds_1 18 rfl rfl)
theorem dX4_holds_43 : decode cX4_holds 43 = .ok (.iload_n 3, 1) := dk_29 (dk_at dksX4_holds_1 19 rfl rfl)
theorem dX4_holds_44 : decode cX4_holds 44 = .ok (.iload 4, 2) := dk_21 4 (dk_at dksX4_holds_1 20 rfl rfl)
theorem dX4_holds_46 : decode cX4_holds 46 = .ok (.invokevirtual 138, 3) := dk_182 0 138 (dk_at dksX4_holds_2 0 rfl rfl)
theorem dX4_holds_49 : decode cX4_holds 49 = .ok (.goto 5, 3) := dk_167 0 5 (dk_at dksX4_holds_2 3 rfl rfl)
theorem dX4_holds_52 : decode cX4_holds 52 = .ok (.bipush (-2), 2) := dk_16 254 (dk_at dksX4_holds_2 6 rfl rfl)
theorem dX4_holds_54 : decode cX4_holds 54 = .ok (.ireturn, 1) := dk_172 (dk_at dksX4_holds_2 8 rfl rfl)
abbrev cX4_holdOf : ByteArray := prog_21_method_23_code
def yX4_holdOf : MethodName := ⟨RX4, "holdOf", "(IIII)I"⟩
def dkwX4_holdOf_13 : List UInt8 := [54, 6, 132, 8, 1, 167, 254, 222, 21, 6, 172]
abbrev dktX4_holdOf_13 : List UInt8 := dkwX4_holdOf_13 ++ []
def dkwX4_holdOf_12 : List UInt8 := [3, 54, 5, 21, 6, 42, 180, 0, 18, 3, 51, 153, 0, 11, 16, 246, 21, 9, 100, 167, 0, 4, 3, 96]
abbrev dktX4_holdOf_12 : List UInt8 := dkwX4_holdOf_12 ++ dktX4_holdOf_13
def dkwX4_holdOf_11 : List UInt8 := [100, 51, 154, 0, 13, 42, 180, 0, 18, 21, 5, 51, 153, 0, 7, 4, 167, 0, 4, 3, 84, 167, 0, 29]
abbrev dktX4_holdOf_11 : List UInt8 := dkwX4_holdOf_11 ++ dktX4_holdOf_12
def dkwX4_holdOf_10 : List UInt8 := [180, 0, 18, 21, 5, 51, 153, 0, 7, 4, 167, 0, 34, 3, 167, 0, 30, 42, 180, 0, 18, 21, 5, 4]
abbrev dktX4_holdOf_10 : List UInt8 := dkwX4_holdOf_10 ++ dktX4_holdOf_11
def dkwX4_holdOf_9 : List UInt8 := [21, 5, 4, 100, 21, 9, 16, 254, 160, 0, 33, 42, 180, 0, 18, 21, 5, 4, 100, 51, 153, 0, 17, 42]
abbrev dktX4_holdOf_9 : List UInt8 := dkwX4_holdOf_9 ++ dktX4_holdOf_10
def dkwX4_holdOf_8 : List UInt8 := [4, 167, 0, 4, 3, 84, 167, 0, 115, 21, 9, 16, 246, 164, 0, 82, 132, 5, 255, 42, 180, 0, 18]
abbrev dktX4_holdOf_8 : List UInt8 := dkwX4_holdOf_8 ++ dktX4_holdOf_9
def dkwX4_holdOf_7 : List UInt8 := [2, 160, 0, 32, 42, 180, 0, 18, 21, 5, 4, 100, 42, 180, 0, 18, 21, 5, 4, 100, 51, 154, 0, 7]
abbrev dktX4_holdOf_7 : List UInt8 := dkwX4_holdOf_7 ++ dktX4_holdOf_8
def dkwX4_holdOf_6 : List UInt8 := [167, 0, 15, 21, 10, 21, 12, 164, 0, 7, 4, 167, 0, 4, 3, 84, 132, 5, 1, 167, 0, 150, 21, 9]
abbrev dktX4_holdOf_6 : List UInt8 := dkwX4_holdOf_6 ++ dktX4_holdOf_7
def dkwX4_holdOf_5 : List UInt8 := [3, 167, 0, 36, 21, 11, 4, 160, 0, 18, 21, 10, 21, 12, 160, 0, 7, 4, 167, 0, 19, 3]
abbrev dktX4_holdOf_5 : List UInt8 := dkwX4_holdOf_5 ++ dktX4_holdOf_6
def dkwX4_holdOf_4 : List UInt8 := [54, 12, 42, 180, 0, 18, 21, 5, 21, 11, 154, 0, 18, 21, 10, 21, 12, 162, 0, 7, 4, 167, 0, 40]
abbrev dktX4_holdOf_4 : List UInt8 := dkwX4_holdOf_4 ++ dktX4_holdOf_5
def dkwX4_holdOf_3 : List UInt8 := [160, 0, 7, 29, 167, 0, 5, 21, 4, 54, 10, 21, 9, 7, 108, 7, 112, 54, 11, 21, 9, 16, 16, 108]
abbrev dktX4_holdOf_3 : List UInt8 := dkwX4_holdOf_3 ++ dktX4_holdOf_4
def dkwX4_holdOf_2 : List UInt8 := [54, 9, 21, 9, 155, 0, 111, 21, 9, 7, 112, 154, 0, 7, 28, 167, 0, 17, 21, 9, 7, 112, 4]
abbrev dktX4_holdOf_2 : List UInt8 := dkwX4_holdOf_2 ++ dktX4_holdOf_3
def dkwX4_holdOf_1 : List UInt8 := [21, 7, 42, 180, 0, 9, 17, 0, 180, 27, 96, 46, 96, 162, 1, 22, 42, 180, 0, 9, 21, 8, 46]
abbrev dktX4_holdOf_1 : List UInt8 := dkwX4_holdOf_1 ++ dktX4_holdOf_2
def dkwX4_holdOf_0 : List UInt8 := [3, 54, 5, 3, 54, 6, 17, 0, 190, 17, 0, 140, 27, 104, 96, 54, 7, 21, 7, 54, 8, 21, 8]
abbrev dktX4_holdOf_0 : List UInt8 := dkwX4_holdOf_0 ++ dktX4_holdOf_1
theorem dksX4_holdOf_0 : cX4_holdOf.data.toList.drop 0 = dktX4_holdOf_0 := by decide +kernel
theorem dksX4_holdOf_1 : cX4_holdOf.data.toList.drop 23 = dktX4_holdOf_1 := dk_seg dksX4_holdOf_0 23 rfl rfl
theorem dksX4_holdOf_2 : cX4_holdOf.data.toList.drop 46 = dktX4_holdOf_2 := dk_seg dksX4_holdOf_1 23 rfl rfl
theorem dksX4_holdOf_3 : cX4_holdOf.data.toList.drop 69 = dktX4_holdOf_3 := dk_seg dksX4_holdOf_2 23 rfl rfl
theorem dksX4_holdOf_4 : cX4_holdOf.data.toList.drop 93 = dktX4_holdOf_4 := dk_seg dksX4_holdOf_3 24 rfl rfl
theorem dksX4_holdOf_5 : cX4_holdOf.data.toList.drop 117 = dktX4_holdOf_5 := dk_seg dksX4_holdOf_4 24 rfl rfl
theorem dksX4_holdOf_6 : cX4_holdOf.data.toList.drop 139 = dktX4_holdOf_6 := dk_seg dksX4_holdOf_5 22 rfl rfl
theorem dksX4_holdOf_7 : cX4_holdOf.data.toList.drop 163 = dktX4_holdOf_7 := dk_seg dksX4_holdOf_6 24 rfl rfl
theorem dksX4_holdOf_8 : cX4_holdOf.data.toList.drop 187 = dktX4_holdOf_8 := dk_seg dksX4_holdOf_7 24 rfl rfl
theorem dksX4_holdOf_9 : cX4_holdOf.data.toList.drop 210 = dktX4_holdOf_9 := dk_seg dksX4_holdOf_8 23 rfl rfl
theorem dksX4_holdOf_10 : cX4_holdOf.data.toList.drop 234 = dktX4_holdOf_10 := dk_seg dksX4_holdOf_9 24 rfl rfl
theorem dksX4_holdOf_11 : cX4_holdOf.data.toList.drop 258 = dktX4_holdOf_11 := dk_seg dksX4_holdOf_10 24 rfl rfl
theorem dksX4_holdOf_12 : cX4_holdOf.data.toList.drop 282 = dktX4_holdOf_12 := dk_seg dksX4_holdOf_11 24 rfl rfl
theorem dksX4_holdOf_13 : cX4_holdOf.data.toList.drop 306 = dktX4_holdOf_13 := dk_seg dksX4_holdOf_12 24 rfl rfl
theorem dX4_holdOf_0 : decode cX4_holdOf 0 = .ok (.iconst 0, 1) := dk_3 (dk_at dksX4_holdOf_0 0 rfl rfl)
theorem dX4_holdOf_1 : decode cX4_holdOf 1 = .ok (.istore 5, 2) := dk_54 5 (dk_at dksX4_holdOf_0 1 rfl rfl)
theorem dX4_holdOf_3 : decode cX4_holdOf 3 = .ok (.iconst 0, 1) := dk_3 (dk_at dksX4_holdOf_0 3 rfl rfl)
theorem dX4_holdOf_4 : decode cX4_holdOf 4 = .ok (.istore 6, 2) := dk_54 6 (dk_at dksX4_holdOf_0 4 rfl rfl)
theorem dX4_holdOf_6 : decode cX4_holdOf 6 = .ok (.sipush 190, 3) := dk_17 0 190 (dk_at dksX4_holdOf_0 6 rfl rfl)
theorem dX4_holdOf_9 : decode cX4_holdOf 9 = .ok (.sipush 140, 3) := dk_17 0 140 (dk_at dksX4_holdOf_0 9 rfl rfl)
theorem dX4_holdOf_12 : decode cX4_holdOf 12 = .ok (.iload_n 1, 1) := dk_27 (dk_at dksX4_holdOf_0 12 rfl rfl)
theorem dX4_holdOf_13 : decode cX4_holdOf 13 = .ok (.imul, 1) := dk_104 (dk_at dksX4_holdOf_0 13 rfl rfl)
theorem dX4_holdOf_14 : decode cX4_holdOf 14 = .ok (.iadd, 1) := dk_96 (dk_at dksX4_holdOf_0 14 rfl rfl)
theorem dX4_holdOf_15 : decode cX4_holdOf 15 = .ok (.istore 7, 2) := dk_54 7 (dk_at dksX4_holdOf_0 15 rfl rfl)
theorem dX4_holdOf_17 : decode cX4_holdOf 17 = .ok (.iload 7, 2) := dk_21 7 (dk_at dksX4_holdOf_0 17 rfl rfl)
theorem dX4_holdOf_19 : decode cX4_holdOf 19 = .ok (.istore 8, 2) := dk_54 8 (dk_at dksX4_holdOf_0 19 rfl rfl)
theorem dX4_holdOf_21 : decode cX4_holdOf 21 = .ok (.iload 8, 2) := dk_21 8 (dk_at dksX4_holdOf_0 21 rfl rfl)
theorem dX4_holdOf_23 : decode cX4_holdOf 23 = .ok (.iload 7, 2) := dk_21 7 (dk_at dksX4_holdOf_1 0 rfl rfl)
theorem dX4_holdOf_25 : decode cX4_holdOf 25 = .ok (.aload_n 0, 1) := dk_42 (dk_at dksX4_holdOf_1 2 rfl rfl)
theorem dX4_holdOf_26 : decode cX4_holdOf 26 = .ok (.getfield 9, 3) := dk_180 0 9 (dk_at dksX4_holdOf_1 3 rfl rfl)
theorem dX4_holdOf_29 : decode cX4_holdOf 29 = .ok (.sipush 180, 3) := dk_17 0 180 (dk_at dksX4_holdOf_1 6 rfl rfl)
theorem dX4_holdOf_32 : decode cX4_holdOf 32 = .ok (.iload_n 1, 1) := dk_27 (dk_at dksX4_holdOf_1 9 rfl rfl)
theorem dX4_holdOf_33 : decode cX4_holdOf 33 = .ok (.iadd, 1) := dk_96 (dk_at dksX4_holdOf_1 10 rfl rfl)
theorem dX4_holdOf_34 : decode cX4_holdOf 34 = .ok (.iaload, 1) := dk_46 (dk_at dksX4_holdOf_1 11 rfl rfl)
theorem dX4_holdOf_35 : decode cX4_holdOf 35 = .ok (.iadd, 1) := dk_96 (dk_at dksX4_holdOf_1 12 rfl rfl)
theorem dX4_holdOf_36 : decode cX4_holdOf 36 = .ok (.if_icmp .ge 278, 3) := dk_162 1 22 (dk_at dksX4_holdOf_1 13 rfl rfl)
theorem dX4_holdOf_39 : decode cX4_holdOf 39 = .ok (.aload_n 0, 1) := dk_42 (dk_at dksX4_holdOf_1 16 rfl rfl)
theorem dX4_holdOf_40 : decode cX4_holdOf 40 = .ok (.getfield 9, 3) := dk_180 0 9 (dk_at dksX4_holdOf_1 17 rfl rfl)
theorem dX4_holdOf_43 : decode cX4_holdOf 43 = .ok (.iload 8, 2) := dk_21 8 (dk_at dksX4_holdOf_1 20 rfl rfl)
theorem dX4_holdOf_45 : decode cX4_holdOf 45 = .ok (.iaload, 1) := dk_46 (dk_at dksX4_holdOf_1 22 rfl rfl)
theorem dX4_holdOf_46 : decode cX4_holdOf 46 = .ok (.istore 9, 2) := dk_54 9 (dk_at dksX4_holdOf_2 0 rfl rfl)
theorem dX4_holdOf_48 : decode cX4_holdOf 48 = .ok (.iload 9, 2) := dk_21 9 (dk_at dksX4_holdOf_2 2 rfl rfl)
theorem dX4_holdOf_50 : decode cX4_holdOf 50 = .ok (.ifCond .lt 111, 3) := dk_155 0 111 (dk_at dksX4_holdOf_2 4 rfl rfl)
theorem dX4_holdOf_53 : decode cX4_holdOf 53 = .ok (.iload 9, 2) := dk_21 9 (dk_at dksX4_holdOf_2 7 rfl rfl)
theorem dX4_holdOf_55 : decode cX4_holdOf 55 = .ok (.iconst 4, 1) := dk_7 (dk_at dksX4_holdOf_2 9 rfl rfl)
theorem dX4_holdOf_56 : decode cX4_holdOf 56 = .ok (.irem, 1) := dk_112 (dk_at dksX4_holdOf_2 10 rfl rfl)
theorem dX4_holdOf_57 : decode cX4_holdOf 57 = .ok (.ifCond .ne 7, 3) := dk_154 0 7 (dk_at dksX4_holdOf_2 11 rfl rfl)
theorem dX4_holdOf_60 : decode cX4_holdOf 60 = .ok (.iload_n 2, 1) := dk_28 (dk_at dksX4_holdOf_2 14 rfl rfl)
theorem dX4_holdOf_61 : decode cX4_holdOf 61 = .ok (.goto 17, 3) := dk_167 0 17 (dk_at dksX4_holdOf_2 15 rfl rfl)
theorem dX4_holdOf_64 : decode cX4_holdOf 64 = .ok (.iload 9, 2) := dk_21 9 (dk_at dksX4_holdOf_2 18 rfl rfl)
theorem dX4_holdOf_66 : decode cX4_holdOf 66 = .ok (.iconst 4, 1) := dk_7 (dk_at dksX4_holdOf_2 20 rfl rfl)
theorem dX4_holdOf_67 : decode cX4_holdOf 67 = .ok (.irem, 1) := dk_112 (dk_at dksX4_holdOf_2 21 rfl rfl)
theorem dX4_holdOf_68 : decode cX4_holdOf 68 = .ok (.iconst 1, 1) := dk_4 (dk_at dksX4_holdOf_2 22 rfl rfl)
theorem dX4_holdOf_69 : decode cX4_holdOf 69 = .ok (.if_icmp .ne 7, 3) := dk_160 0 7 (dk_at dksX4_holdOf_3 0 rfl rfl)
theorem dX4_holdOf_72 : decode cX4_holdOf 72 = .ok (.iload_n 3, 1) := dk_29 (dk_at dksX4_holdOf_3 3 rfl rfl)
theorem dX4_holdOf_73 : decode cX4_holdOf 73 = .ok (.goto 5, 3) := dk_167 0 5 (dk_at dksX4_holdOf_3 4 rfl rfl)
theorem dX4_holdOf_76 : decode cX4_holdOf 76 = .ok (.iload 4, 2) := dk_21 4 (dk_at dksX4_holdOf_3 7 rfl rfl)
theorem dX4_holdOf_78 : decode cX4_holdOf 78 = .ok (.istore 10, 2) := dk_54 10 (dk_at dksX4_holdOf_3 9 rfl rfl)
theorem dX4_holdOf_80 : decode cX4_holdOf 80 = .ok (.iload 9, 2) := dk_21 9 (dk_at dksX4_holdOf_3 11 rfl rfl)
theorem dX4_holdOf_82 : decode cX4_holdOf 82 = .ok (.iconst 4, 1) := dk_7 (dk_at dksX4_holdOf_3 13 rfl rfl)
theorem dX4_holdOf_83 : decode cX4_holdOf 83 = .ok (.idiv, 1) := dk_108 (dk_at dksX4_holdOf_3 14 rfl rfl)
theorem dX4_holdOf_84 : decode cX4_holdOf 84 = .ok (.iconst 4, 1) := dk_7 (dk_at dksX4_holdOf_3 15 rfl rfl)
theorem dX4_holdOf_85 : decode cX4_holdOf 85 = .ok (.irem, 1) := dk_112 (dk_at dksX4_holdOf_3 16 rfl rfl)
theorem dX4_holdOf_86 : decode cX4_holdOf 86 = .ok (.istore 11, 2) := dk_54 11 (dk_at dksX4_holdOf_3 17 rfl rfl)
theorem dX4_holdOf_88 : decode cX4_holdOf 88 = .ok (.iload 9, 2) := dk_21 9 (dk_at dksX4_holdOf_3 19 rfl rfl)
theorem dX4_holdOf_90 : decode cX4_holdOf 90 = .ok (.bipush 16, 2) := dk_16 16 (dk_at dksX4_holdOf_3 21 rfl rfl)
theorem dX4_holdOf_92 : decode cX4_holdOf 92 = .ok (.idiv, 1) := dk_108 (dk_at dksX4_holdOf_3 23 rfl rfl)
theorem dX4_holdOf_93 : decode cX4_holdOf 93 = .ok (.istore 12, 2) := dk_54 12 (dk_at dksX4_holdOf_4 0 rfl rfl)
theorem dX4_holdOf_95 : decode cX4_holdOf 95 = .ok (.aload_n 0, 1) := dk_42 (dk_at dksX4_holdOf_4 2 rfl rfl)
theorem dX4_holdOf_96 : decode cX4_holdOf 96 = .ok (.getfield 18, 3) := dk_180 0 18 (dk_at dksX4_holdOf_4 3 rfl rfl)
theorem dX4_holdOf_99 : decode cX4_holdOf 99 = .ok (.iload 5, 2) := dk_21 5 (dk_at dksX4_holdOf_4 6 rfl rfl)
theorem dX4_holdOf_101 : decode cX4_holdOf 101 = .ok (.iload 11, 2) := dk_21 11 (dk_at dksX4_holdOf_4 8 rfl rfl)
theorem dX4_holdOf_103 : decode cX4_holdOf 103 = .ok (.ifCond .ne 18, 3) := dk_154 0 18 (dk_at dksX4_holdOf_4 10 rfl rfl)
theorem dX4_holdOf_106 : decode cX4_holdOf 106 = .ok (.iload 10, 2) := dk_21 10 (dk_at dksX4_holdOf_4 13 rfl rfl)
theorem dX4_holdOf_108 : decode cX4_holdOf 108 = .ok (.iload 12, 2) := dk_21 12 (dk_at dksX4_holdOf_4 15 rfl rfl)
theorem dX4_holdOf_110 : decode cX4_holdOf 110 = .ok (.if_icmp .ge 7, 3) := dk_162 0 7 (dk_at dksX4_holdOf_4 17 rfl rfl)
theorem dX4_holdOf_113 : decode cX4_holdOf 113 = .ok (.iconst 1, 1) := dk_4 (dk_at dksX4_holdOf_4 20 rfl rfl)
theorem dX4_holdOf_114 : decode cX4_holdOf 114 = .ok (.goto 40, 3) := dk_167 0 40 (dk_at dksX4_holdOf_4 21 rfl rfl)
theorem dX4_holdOf_117 : decode cX4_holdOf 117 = .ok (.iconst 0, 1) := dk_3 (dk_at dksX4_holdOf_5 0 rfl rfl)
theorem dX4_holdOf_118 : decode cX4_holdOf 118 = .ok (.goto 36, 3) := dk_167 0 36 (dk_at dksX4_holdOf_5 1 rfl rfl)
theorem dX4_holdOf_121 : decode cX4_holdOf 121 = .ok (.iload 11, 2) := dk_21 11 (dk_at dksX4_holdOf_5 4 rfl rfl)
theorem dX4_holdOf_123 : decode cX4_holdOf 123 = .ok (.iconst 1, 1) := dk_4 (dk_at dksX4_holdOf_5 6 rfl rfl)
theorem dX4_holdOf_124 : decode cX4_holdOf 124 = .ok (.if_icmp .ne 18, 3) := dk_160 0 18 (dk_at dksX4_holdOf_5 7 rfl rfl)
theorem dX4_holdOf_127 : decode cX4_holdOf 127 = .ok (.iload 10, 2) := dk_21 10 (dk_at dksX4_holdOf_5 10 rfl rfl)
theorem dX4_holdOf_129 : decode cX4_holdOf 129 = .ok (.iload 12, 2) := dk_21 12 (dk_at dksX4_holdOf_5 12 rfl rfl)
theorem dX4_holdOf_131 : decode cX4_holdOf 131 = .ok (.if_icmp .ne 7, 3) := dk_160 0 7 (dk_at dksX4_holdOf_5 14 rfl rfl)
theorem dX4_holdOf_134 : decode cX4_holdOf 134 = .ok (.iconst 1, 1) := dk_4 (dk_at dksX4_holdOf_5 17 rfl rfl)
theorem dX4_holdOf_135 : decode cX4_holdOf 135 = .ok (.goto 19, 3) := dk_167 0 19 (dk_at dksX4_holdOf_5 18 rfl rfl)
theorem dX4_holdOf_138 : decode cX4_holdOf 138 = .ok (.iconst 0, 1) := dk_3 (dk_at dksX4_holdOf_5 21 rfl rfl)
theorem dX4_holdOf_139 : decode cX4_holdOf 139 = .ok (.goto 15, 3) := dk_167 0 15 (dk_at dksX4_holdOf_6 0 rfl rfl)
theorem dX4_holdOf_142 : decode cX4_holdOf 142 = .ok (.iload 10, 2) := dk_21 10 (dk_at dksX4_holdOf_6 3 rfl rfl)
theorem dX4_holdOf_144 : decode cX4_holdOf 144 = .ok (.iload 12, 2) := dk_21 12 (dk_at dksX4_holdOf_6 5 rfl rfl)
theorem dX4_holdOf_146 : decode cX4_holdOf 146 = .ok (.if_icmp .le 7, 3) := dk_164 0 7 (dk_at dksX4_holdOf_6 7 rfl rfl)
theorem dX4_holdOf_149 : decode cX4_holdOf 149 = .ok (.iconst 1, 1) := dk_4 (dk_at dksX4_holdOf_6 10 rfl rfl)
theorem dX4_holdOf_150 : decode cX4_holdOf 150 = .ok (.goto 4, 3) := dk_167 0 4 (dk_at dksX4_holdOf_6 11 rfl rfl)
theorem dX4_holdOf_153 : decode cX4_holdOf 153 = .ok (.iconst 0, 1) := dk_3 (dk_at dksX4_holdOf_6 14 rfl rfl)
theorem dX4_holdOf_154 : decode cX4_holdOf 154 = .ok (.bastore, 1) := dk_84 (dk_at dksX4_holdOf_6 15 rfl rfl)
theorem dX4_holdOf_155 : decode cX4_holdOf 155 = .ok (.iinc 5 1, 3) := dk_132 5 1 (dk_at dksX4_holdOf_6 16 rfl rfl)
theorem dX4_holdOf_158 : decode cX4_holdOf 158 = .ok (.goto 150, 3) := dk_167 0 150 (dk_at dksX4_holdOf_6 19 rfl rfl)
theorem dX4_holdOf_161 : decode cX4_holdOf 161 = .ok (.iload 9, 2) := dk_21 9 (dk_at dksX4_holdOf_6 22 rfl rfl)
theorem dX4_holdOf_163 : decode cX4_holdOf 163 = .ok (.iconst (-1), 1) := dk_2 (dk_at dksX4_holdOf_7 0 rfl rfl)
theorem dX4_holdOf_164 : decode cX4_holdOf 164 = .ok (.if_icmp .ne 32, 3) := dk_160 0 32 (dk_at dksX4_holdOf_7 1 rfl rfl)
theorem dX4_holdOf_167 : decode cX4_holdOf 167 = .ok (.aload_n 0, 1) := dk_42 (dk_at dksX4_holdOf_7 4 rfl rfl)
theorem dX4_holdOf_168 : decode cX4_holdOf 168 = .ok (.getfield 18, 3) := dk_180 0 18 (dk_at dksX4_holdOf_7 5 rfl rfl)
theorem dX4_holdOf_171 : decode cX4_holdOf 171 = .ok (.iload 5, 2) := dk_21 5 (dk_at dksX4_holdOf_7 8 rfl rfl)
theorem dX4_holdOf_173 : decode cX4_holdOf 173 = .ok (.iconst 1, 1) := dk_4 (dk_at dksX4_holdOf_7 10 rfl rfl)
theorem dX4_holdOf_174 : decode cX4_holdOf 174 = .ok (.isub, 1) := dk_100 (dk_at dksX4_holdOf_7 11 rfl rfl)
theorem dX4_holdOf_175 : decode cX4_holdOf 175 = .ok (.aload_n 0, 1) := dk_42 (dk_at dksX4_holdOf_7 12 rfl rfl)
theorem dX4_holdOf_176 : decode cX4_holdOf 176 = .ok (.getfield 18, 3) := dk_180 0 18 (dk_at dksX4_holdOf_7 13 rfl rfl)
theorem dX4_holdOf_179 : decode cX4_holdOf 179 = .ok (.iload 5, 2) := dk_21 5 (dk_at dksX4_holdOf_7 16 rfl rfl)
theorem dX4_holdOf_181 : decode cX4_holdOf 181 = .ok (.iconst 1, 1) := dk_4 (dk_at dksX4_holdOf_7 18 rfl rfl)
theorem dX4_holdOf_182 : decode cX4_holdOf 182 = .ok (.isub, 1) := dk_100 (dk_at dksX4_holdOf_7 19 rfl rfl)
theorem dX4_holdOf_183 : decode cX4_holdOf 183 = .ok (.baload, 1) := dk_51 (dk_at dksX4_holdOf_7 20 rfl rfl)
theorem dX4_holdOf_184 : decode cX4_holdOf 184 = .ok (.ifCond .ne 7, 3) := dk_154 0 7 (dk_at dksX4_holdOf_7 21 rfl rfl)
theorem dX4_holdOf_187 : decode cX4_holdOf 187 = .ok (.iconst 1, 1) := dk_4 (dk_at dksX4_holdOf_8 0 rfl rfl)
theorem dX4_holdOf_188 : decode cX4_holdOf 188 = .ok (.goto 4, 3) := dk_167 0 4 (dk_at dksX4_holdOf_8 1 rfl rfl)
theorem dX4_holdOf_191 : decode cX4_holdOf 191 = .ok (.iconst 0, 1) := dk_3 (dk_at dksX4_holdOf_8 4 rfl rfl)
theorem dX4_holdOf_192 : decode cX4_holdOf 192 = .ok (.bastore, 1) := dk_84 (dk_at dksX4_holdOf_8 5 rfl rfl)
theorem dX4_holdOf_193 : decode cX4_holdOf 193 = .ok (.goto 115, 3) := dk_167 0 115 (dk_at dksX4_holdOf_8 6 rfl rfl)
theorem dX4_holdOf_196 : decode cX4_holdOf 196 = .ok (.iload 9, 2) := dk_21 9 (dk_at dksX4_holdOf_8 9 rfl rfl)
theorem dX4_holdOf_198 : decode cX4_holdOf 198 = .ok (.bipush (-10), 2) := dk_16 246 (dk_at dksX4_holdOf_8 11 rfl rfl)
theorem dX4_holdOf_200 : decode cX4_holdOf 200 = .ok (.if_icmp .le 82, 3) := dk_164 0 82 (dk_at dksX4_holdOf_8 13 rfl rfl)
theorem dX4_holdOf_203 : decode cX4_holdOf 203 = .ok (.iinc 5 (-1), 3) := dk_132 5 255 (dk_at dksX4_holdOf_8 16 rfl rfl)
theorem dX4_holdOf_206 : decode cX4_holdOf 206 = .ok (.aload_n 0, 1) := dk_42 (dk_at dksX4_holdOf_8 19 rfl rfl)
theorem dX4_holdOf_207 : decode cX4_holdOf 207 = .ok (.getfield 18, 3) := dk_180 0 18 (dk_at dksX4_holdOf_8 20 rfl rfl)
theorem dX4_holdOf_210 : decode cX4_holdOf 210 = .ok (.iload 5, 2) := dk_21 5 (dk_at dksX4_holdOf_9 0 rfl rfl)
theorem dX4_holdOf_212 : decode cX4_holdOf 212 = .ok (.iconst 1, 1) := dk_4 (dk_at dksX4_holdOf_9 2 rfl rfl)
theorem dX4_holdOf_213 : decode cX4_holdOf 213 = .ok (.isub, 1) := dk_100 (dk_at dksX4_holdOf_9 3 rfl rfl)
theorem dX4_holdOf_214 : decode cX4_holdOf 214 = .ok (.iload 9, 2) := dk_21 9 (dk_at dksX4_holdOf_9 4 rfl rfl)
theorem dX4_holdOf_216 : decode cX4_holdOf 216 = .ok (.bipush (-2), 2) := dk_16 254 (dk_at dksX4_holdOf_9 6 rfl rfl)
theorem dX4_holdOf_218 : decode cX4_holdOf 218 = .ok (.if_icmp .ne 33, 3) := dk_160 0 33 (dk_at dksX4_holdOf_9 8 rfl rfl)
theorem dX4_holdOf_221 : decode cX4_holdOf 221 = .ok (.aload_n 0, 1) := dk_42 (dk_at dksX4_holdOf_9 11 rfl rfl)
theorem dX4_holdOf_222 : decode cX4_holdOf 222 = .ok (.getfield 18, 3) := dk_180 0 18 (dk_at dksX4_holdOf_9 12 rfl rfl)
theorem dX4_holdOf_225 : decode cX4_holdOf 225 = .ok (.iload 5, 2) := dk_21 5 (dk_at dksX4_holdOf_9 15 rfl rfl)
theorem dX4_holdOf_227 : decode cX4_holdOf 227 = .ok (.iconst 1, 1) := dk_4 (dk_at dksX4_holdOf_9 17 rfl rfl)
theorem dX4_holdOf_228 : decode cX4_holdOf 228 = .ok (.isub, 1) := dk_100 (dk_at dksX4_holdOf_9 18 rfl rfl)
theorem dX4_holdOf_229 : decode cX4_holdOf 229 = .ok (.baload, 1) := dk_51 (dk_at dksX4_holdOf_9 19 rfl rfl)
theorem dX4_holdOf_230 : decode cX4_holdOf 230 = .ok (.ifCond .eq 17, 3) := dk_153 0 17 (dk_at dksX4_holdOf_9 20 rfl rfl)
theorem dX4_holdOf_233 : decode cX4_holdOf 233 = .ok (.aload_n 0, 1) := dk_42 (dk_at dksX4_holdOf_9 23 rfl rfl)
theorem dX4_holdOf_234 : decode cX4_holdOf 234 = .ok (.getfield 18, 3) := dk_180 0 18 (dk_at dksX4_holdOf_10 0 rfl rfl)
theorem dX4_holdOf_237 : decode cX4_holdOf 237 = .ok (.iload 5, 2) := dk_21 5 (dk_at dksX4_holdOf_10 3 rfl rfl)
theorem dX4_holdOf_239 : decode cX4_holdOf 239 = .ok (.baload, 1) := dk_51 (dk_at dksX4_holdOf_10 5 rfl rfl)
theorem dX4_holdOf_240 : decode cX4_holdOf 240 = .ok (.ifCond .eq 7, 3) := dk_153 0 7 (dk_at dksX4_holdOf_10 6 rfl rfl)
theorem dX4_holdOf_243 : decode cX4_holdOf 243 = .ok (.iconst 1, 1) := dk_4 (dk_at dksX4_holdOf_10 9 rfl rfl)
theorem dX4_holdOf_244 : decode cX4_holdOf 244 = .ok (.goto 34, 3) := dk_167 0 34 (dk_at dksX4_holdOf_10 10 rfl rfl)
theorem dX4_holdOf_247 : decode cX4_holdOf 247 = .ok (.iconst 0, 1) := dk_3 (dk_at dksX4_holdOf_10 13 rfl rfl)
theorem dX4_holdOf_248 : decode cX4_holdOf 248 = .ok (.goto 30, 3) := dk_167 0 30 (dk_at dksX4_holdOf_10 14 rfl rfl)
theorem dX4_holdOf_251 : decode cX4_holdOf 251 = .ok (.aload_n 0, 1) := dk_42 (dk_at dksX4_holdOf_10 17 rfl rfl)
theorem dX4_holdOf_252 : decode cX4_holdOf 252 = .ok (.getfield 18, 3) := dk_180 0 18 (dk_at dksX4_holdOf_10 18 rfl rfl)
theorem dX4_holdOf_255 : decode cX4_holdOf 255 = .ok (.iload 5, 2) := dk_21 5 (dk_at dksX4_holdOf_10 21 rfl rfl)
theorem dX4_holdOf_257 : decode cX4_holdOf 257 = .ok (.iconst 1, 1) := dk_4 (dk_at dksX4_holdOf_10 23 rfl rfl)
theorem dX4_holdOf_258 : decode cX4_holdOf 258 = .ok (.isub, 1) := dk_100 (dk_at dksX4_holdOf_11 0 rfl rfl)
theorem dX4_holdOf_259 : decode cX4_holdOf 259 = .ok (.baload, 1) := dk_51 (dk_at dksX4_holdOf_11 1 rfl rfl)
theorem dX4_holdOf_260 : decode cX4_holdOf 260 = .ok (.ifCond .ne 13, 3) := dk_154 0 13 (dk_at dksX4_holdOf_11 2 rfl rfl)
theorem dX4_holdOf_263 : decode cX4_holdOf 263 = .ok (.aload_n 0, 1) := dk_42 (dk_at dksX4_holdOf_11 5 rfl rfl)
theorem dX4_holdOf_264 : decode cX4_holdOf 264 = .ok (.getfield 18, 3) := dk_180 0 18 (dk_at dksX4_holdOf_11 6 rfl rfl)
theorem dX4_holdOf_267 : decode cX4_holdOf 267 = .ok (.iload 5, 2) := dk_21 5 (dk_at dksX4_holdOf_11 9 rfl rfl)
theorem dX4_holdOf_269 : decode cX4_holdOf 269 = .ok (.baload, 1) := dk_51 (dk_at dksX4_holdOf_11 11 rfl rfl)
theorem dX4_holdOf_270 : decode cX4_holdOf 270 = .ok (.ifCond .eq 7, 3) := dk_153 0 7 (dk_at dksX4_holdOf_11 12 rfl rfl)
theorem dX4_holdOf_273 : decode cX4_holdOf 273 = .ok (.iconst 1, 1) := dk_4 (dk_at dksX4_holdOf_11 15 rfl rfl)
theorem dX4_holdOf_274 : decode cX4_holdOf 274 = .ok (.goto 4, 3) := dk_167 0 4 (dk_at dksX4_holdOf_11 16 rfl rfl)
theorem dX4_holdOf_277 : decode cX4_holdOf 277 = .ok (.iconst 0, 1) := dk_3 (dk_at dksX4_holdOf_11 19 rfl rfl)
theorem dX4_holdOf_278 : decode cX4_holdOf 278 = .ok (.bastore, 1) := dk_84 (dk_at dksX4_holdOf_11 20 rfl rfl)
theorem dX4_holdOf_279 : decode cX4_holdOf 279 = .ok (.goto 29, 3) := dk_167 0 29 (dk_at dksX4_holdOf_11 21 rfl rfl)
theorem dX4_holdOf_282 : decode cX4_holdOf 282 = .ok (.iconst 0, 1) := dk_3 (dk_at dksX4_holdOf_12 0 rfl rfl)
theorem dX4_holdOf_283 : decode cX4_holdOf 283 = .ok (.istore 5, 2) := dk_54 5 (dk_at dksX4_holdOf_12 1 rfl rfl)
theorem dX4_holdOf_285 : decode cX4_holdOf 285 = .ok (.iload 6, 2) := dk_21 6 (dk_at dksX4_holdOf_12 3 rfl rfl)
theorem dX4_holdOf_287 : decode cX4_holdOf 287 = .ok (.aload_n 0, 1) := dk_42 (dk_at dksX4_holdOf_12 5 rfl rfl)
theorem dX4_holdOf_288 : decode cX4_holdOf 288 = .ok (.getfield 18, 3) := dk_180 0 18 (dk_at dksX4_holdOf_12 6 rfl rfl)
theorem dX4_holdOf_291 : decode cX4_holdOf 291 = .ok (.iconst 0, 1) := dk_3 (dk_at dksX4_holdOf_12 9 rfl rfl)
theorem dX4_holdOf_292 : decode cX4_holdOf 292 = .ok (.baload, 1) := dk_51 (dk_at dksX4_holdOf_12 10 rfl rfl)
theorem dX4_holdOf_293 : decode cX4_holdOf 293 = .ok (.ifCond .eq 11, 3) := dk_153 0 11 (dk_at dksX4_holdOf_12 11 rfl rfl)
theorem dX4_holdOf_296 : decode cX4_holdOf 296 = .ok (.bipush (-10), 2) := dk_16 246 (dk_at dksX4_holdOf_12 14 rfl rfl)
theorem dX4_holdOf_298 : decode cX4_holdOf 298 = .ok (.iload 9, 2) := dk_21 9 (dk_at dksX4_holdOf_12 16 rfl rfl)
theorem dX4_holdOf_300 : decode cX4_holdOf 300 = .ok (.isub, 1) := dk_100 (dk_at dksX4_holdOf_12 18 rfl rfl)
theorem dX4_holdOf_301 : decode cX4_holdOf 301 = .ok (.goto 4, 3) := dk_167 0 4 (dk_at dksX4_holdOf_12 19 rfl rfl)
theorem dX4_holdOf_304 : decode cX4_holdOf 304 = .ok (.iconst 0, 1) := dk_3 (dk_at dksX4_holdOf_12 22 rfl rfl)
theorem dX4_holdOf_305 : decode cX4_holdOf 305 = .ok (.iadd, 1) := dk_96 (dk_at dksX4_holdOf_12 23 rfl rfl)
theorem dX4_holdOf_306 : decode cX4_holdOf 306 = .ok (.istore 6, 2) := dk_54 6 (dk_at dksX4_holdOf_13 0 rfl rfl)
theorem dX4_holdOf_308 : decode cX4_holdOf 308 = .ok (.iinc 8 1, 3) := dk_132 8 1 (dk_at dksX4_holdOf_13 2 rfl rfl)
theorem dX4_holdOf_311 : decode cX4_holdOf 311 = .ok (.goto (-290), 3) := dk_167 254 222 (dk_at dksX4_holdOf_13 5 rfl rfl)
theorem dX4_holdOf_314 : decode cX4_holdOf 314 = .ok (.iload 6, 2) := dk_21 6 (dk_at dksX4_holdOf_13 8 rfl rfl)
theorem dX4_holdOf_316 : decode cX4_holdOf 316 = .ok (.ireturn, 1) := dk_172 (dk_at dksX4_holdOf_13 10 rfl rfl)
abbrev cX4_ship : ByteArray := prog_21_method_37_code
def yX4_ship : MethodName := ⟨RX4, "ship", "(III)I"⟩
def dkwX4_ship_5 : List UInt8 := [182, 0, 187, 21, 4, 172]
abbrev dktX4_ship_5 : List UInt8 := dkwX4_ship_5 ++ []
def dkwX4_ship_4 : List UInt8 := [17, 3, 158, 21, 4, 96, 29, 79, 42, 180, 0, 9, 4, 92, 46, 4, 96, 79, 42, 21, 4, 3]
abbrev dktX4_ship_4 : List UInt8 := dkwX4_ship_4 ++ dktX4_ship_5
def dkwX4_ship_3 : List UInt8 := [17, 3, 134, 21, 4, 96, 28, 79, 42, 180, 0, 9, 17, 3, 146, 21, 4, 96, 28, 79, 42, 180, 0, 9]
abbrev dktX4_ship_3 : List UInt8 := dkwX4_ship_3 ++ dktX4_ship_4
def dkwX4_ship_2 : List UInt8 := [180, 0, 9, 4, 46, 54, 4, 42, 180, 0, 9, 17, 3, 122, 21, 4, 96, 27, 79, 42, 180, 0, 9]
abbrev dktX4_ship_2 : List UInt8 := dkwX4_ship_2 ++ dktX4_ship_3
def dkwX4_ship_1 : List UInt8 := [184, 0, 42, 154, 0, 6, 16, 254, 172, 42, 180, 0, 9, 4, 46, 16, 12, 160, 0, 6, 16, 252, 172, 42]
abbrev dktX4_ship_1 : List UInt8 := dkwX4_ship_1 ++ dktX4_ship_2
def dkwX4_ship_0 : List UInt8 := [42, 27, 182, 0, 134, 153, 0, 12, 28, 3, 6, 184, 0, 42, 154, 0, 5, 2, 172, 29, 4, 16, 20]
abbrev dktX4_ship_0 : List UInt8 := dkwX4_ship_0 ++ dktX4_ship_1
theorem dksX4_ship_0 : cX4_ship.data.toList.drop 0 = dktX4_ship_0 := by decide +kernel
theorem dksX4_ship_1 : cX4_ship.data.toList.drop 23 = dktX4_ship_1 := dk_seg dksX4_ship_0 23 rfl rfl
theorem dksX4_ship_2 : cX4_ship.data.toList.drop 47 = dktX4_ship_2 := dk_seg dksX4_ship_1 24 rfl rfl
theorem dksX4_ship_3 : cX4_ship.data.toList.drop 70 = dktX4_ship_3 := dk_seg dksX4_ship_2 23 rfl rfl
theorem dksX4_ship_4 : cX4_ship.data.toList.drop 94 = dktX4_ship_4 := dk_seg dksX4_ship_3 24 rfl rfl
theorem dksX4_ship_5 : cX4_ship.data.toList.drop 116 = dktX4_ship_5 := dk_seg dksX4_ship_4 22 rfl rfl
theorem dX4_ship_0 : decode cX4_ship 0 = .ok (.aload_n 0, 1) := dk_42 (dk_at dksX4_ship_0 0 rfl rfl)
theorem dX4_ship_1 : decode cX4_ship 1 = .ok (.iload_n 1, 1) := dk_27 (dk_at dksX4_ship_0 1 rfl rfl)
theorem dX4_ship_2 : decode cX4_ship 2 = .ok (.invokevirtual 134, 3) := dk_182 0 134 (dk_at dksX4_ship_0 2 rfl rfl)
theorem dX4_ship_5 : decode cX4_ship 5 = .ok (.ifCond .eq 12, 3) := dk_153 0 12 (dk_at dksX4_ship_0 5 rfl rfl)
theorem dX4_ship_8 : decode cX4_ship 8 = .ok (.iload_n 2, 1) := dk_28 (dk_at dksX4_ship_0 8 rfl rfl)
theorem dX4_ship_9 : decode cX4_ship 9 = .ok (.iconst 0, 1) := dk_3 (dk_at dksX4_ship_0 9 rfl rfl)
theorem dX4_ship_10 : decode cX4_ship 10 = .ok (.iconst 3, 1) := dk_6 (dk_at dksX4_ship_0 10 rfl rfl)
theorem dX4_ship_11 : decode cX4_ship 11 = .ok (.invokestatic 42, 3) := dk_184 0 42 (dk_at dksX4_ship_0 11 rfl rfl)
theorem dX4_ship_14 : decode cX4_ship 14 = .ok (.ifCond .ne 5, 3) := dk_154 0 5 (dk_at dksX4_ship_0 14 rfl rfl)
theorem dX4_ship_17 : decode cX4_ship 17 = .ok (.iconst (-1), 1) := dk_2 (dk_at dksX4_ship_0 17 rfl rfl)
theorem dX4_ship_18 : decode cX4_ship 18 = .ok (.ireturn, 1) := dk_172 (dk_at dksX4_ship_0 18 rfl rfl)
theorem dX4_ship_19 : decode cX4_ship 19 = .ok (.iload_n 3, 1) := dk_29 (dk_at dksX4_ship_0 19 rfl rfl)
theorem dX4_ship_20 : decode cX4_ship 20 = .ok (.iconst 1, 1) := dk_4 (dk_at dksX4_ship_0 20 rfl rfl)
theorem dX4_ship_21 : decode cX4_ship 21 = .ok (.bipush 20, 2) := dk_16 20 (dk_at dksX4_ship_0 21 rfl rfl)
theorem dX4_ship_23 : decode cX4_ship 23 = .ok (.invokestatic 42, 3) := dk_184 0 42 (dk_at dksX4_ship_1 0 rfl rfl)
theorem dX4_ship_26 : decode cX4_ship 26 = .ok (.ifCond .ne 6, 3) := dk_154 0 6 (dk_at dksX4_ship_1 3 rfl rfl)
theorem dX4_ship_29 : decode cX4_ship 29 = .ok (.bipush (-2), 2) := dk_16 254 (dk_at dksX4_ship_1 6 rfl rfl)
theorem dX4_ship_31 : decode cX4_ship 31 = .ok (.ireturn, 1) := dk_172 (dk_at dksX4_ship_1 8 rfl rfl)
theorem dX4_ship_32 : decode cX4_ship 32 = .ok (.aload_n 0, 1) := dk_42 (dk_at dksX4_ship_1 9 rfl rfl)
theorem dX4_ship_33 : decode cX4_ship 33 = .ok (.getfield 9, 3) := dk_180 0 9 (dk_at dksX4_ship_1 10 rfl rfl)
theorem dX4_ship_36 : decode cX4_ship 36 = .ok (.iconst 1, 1) := dk_4 (dk_at dksX4_ship_1 13 rfl rfl)
theorem dX4_ship_37 : decode cX4_ship 37 = .ok (.iaload, 1) := dk_46 (dk_at dksX4_ship_1 14 rfl rfl)
theorem dX4_ship_38 : decode cX4_ship 38 = .ok (.bipush 12, 2) := dk_16 12 (dk_at dksX4_ship_1 15 rfl rfl)
theorem dX4_ship_40 : decode cX4_ship 40 = .ok (.if_icmp .ne 6, 3) := dk_160 0 6 (dk_at dksX4_ship_1 17 rfl rfl)
theorem dX4_ship_43 : decode cX4_ship 43 = .ok (.bipush (-4), 2) := dk_16 252 (dk_at dksX4_ship_1 20 rfl rfl)
theorem dX4_ship_45 : decode cX4_ship 45 = .ok (.ireturn, 1) := dk_172 (dk_at dksX4_ship_1 22 rfl rfl)
theorem dX4_ship_46 : decode cX4_ship 46 = .ok (.aload_n 0, 1) := dk_42 (dk_at dksX4_ship_1 23 rfl rfl)
theorem dX4_ship_47 : decode cX4_ship 47 = .ok (.getfield 9, 3) := dk_180 0 9 (dk_at dksX4_ship_2 0 rfl rfl)
theorem dX4_ship_50 : decode cX4_ship 50 = .ok (.iconst 1, 1) := dk_4 (dk_at dksX4_ship_2 3 rfl rfl)
theorem dX4_ship_51 : decode cX4_ship 51 = .ok (.iaload, 1) := dk_46 (dk_at dksX4_ship_2 4 rfl rfl)
theorem dX4_ship_52 : decode cX4_ship 52 = .ok (.istore 4, 2) := dk_54 4 (dk_at dksX4_ship_2 5 rfl rfl)
theorem dX4_ship_54 : decode cX4_ship 54 = .ok (.aload_n 0, 1) := dk_42 (dk_at dksX4_ship_2 7 rfl rfl)
theorem dX4_ship_55 : decode cX4_ship 55 = .ok (.getfield 9, 3) := dk_180 0 9 (dk_at dksX4_ship_2 8 rfl rfl)
theorem dX4_ship_58 : decode cX4_ship 58 = .ok (.sipush 890, 3) := dk_17 3 122 (dk_at dksX4_ship_2 11 rfl rfl)
theorem dX4_ship_61 : decode cX4_ship 61 = .ok (.iload 4, 2) := dk_21 4 (dk_at dksX4_ship_2 14 rfl rfl)
theorem dX4_ship_63 : decode cX4_ship 63 = .ok (.iadd, 1) := dk_96 (dk_at dksX4_ship_2 16 rfl rfl)
theorem dX4_ship_64 : decode cX4_ship 64 = .ok (.iload_n 1, 1) := dk_27 (dk_at dksX4_ship_2 17 rfl rfl)
theorem dX4_ship_65 : decode cX4_ship 65 = .ok (.iastore, 1) := dk_79 (dk_at dksX4_ship_2 18 rfl rfl)
theorem dX4_ship_66 : decode cX4_ship 66 = .ok (.aload_n 0, 1) := dk_42 (dk_at dksX4_ship_2 19 rfl rfl)
theorem dX4_ship_67 : decode cX4_ship 67 = .ok (.getfield 9, 3) := dk_180 0 9 (dk_at dksX4_ship_2 20 rfl rfl)
theorem dX4_ship_70 : decode cX4_ship 70 = .ok (.sipush 902, 3) := dk_17 3 134 (dk_at dksX4_ship_3 0 rfl rfl)
theorem dX4_ship_73 : decode cX4_ship 73 = .ok (.iload 4, 2) := dk_21 4 (dk_at dksX4_ship_3 3 rfl rfl)
theorem dX4_ship_75 : decode cX4_ship 75 = .ok (.iadd, 1) := dk_96 (dk_at dksX4_ship_3 5 rfl rfl)
theorem dX4_ship_76 : decode cX4_ship 76 = .ok (.iload_n 2, 1) := dk_28 (dk_at dksX4_ship_3 6 rfl rfl)
theorem dX4_ship_77 : decode cX4_ship 77 = .ok (.iastore, 1) := dk_79 (dk_at dksX4_ship_3 7 rfl rfl)
theorem dX4_ship_78 : decode cX4_ship 78 = .ok (.aload_n 0, 1) := dk_42 (dk_at dksX4_ship_3 8 rfl rfl)
theorem dX4_ship_79 : decode cX4_ship 79 = .ok (.getfield 9, 3) := dk_180 0 9 (dk_at dksX4_ship_3 9 rfl rfl)
theorem dX4_ship_82 : decode cX4_ship 82 = .ok (.sipush 914, 3) := dk_17 3 146 (dk_at dksX4_ship_3 12 rfl rfl)
theorem dX4_ship_85 : decode cX4_ship 85 = .ok (.iload 4, 2) := dk_21 4 (dk_at dksX4_ship_3 15 rfl rfl)
theorem dX4_ship_87 : decode cX4_ship 87 = .ok (.iadd, 1) := dk_96 (dk_at dksX4_ship_3 17 rfl rfl)
theorem dX4_ship_88 : decode cX4_ship 88 = .ok (.iload_n 2, 1) := dk_28 (dk_at dksX4_ship_3 18 rfl rfl)
theorem dX4_ship_89 : decode cX4_ship 89 = .ok (.iastore, 1) := dk_79 (dk_at dksX4_ship_3 19 rfl rfl)
theorem dX4_ship_90 : decode cX4_ship 90 = .ok (.aload_n 0, 1) := dk_42 (dk_at dksX4_ship_3 20 rfl rfl)
theorem dX4_ship_91 : decode cX4_ship 91 = .ok (.getfield 9, 3) := dk_180 0 9 (dk_at dksX4_ship_3 21 rfl rfl)
theorem dX4_ship_94 : decode cX4_ship 94 = .ok (.sipush 926, 3) := dk_17 3 158 (dk_at dksX4_ship_4 0 rfl rfl)
theorem dX4_ship_97 : decode cX4_ship 97 = .ok (.iload 4, 2) := dk_21 4 (dk_at dksX4_ship_4 3 rfl rfl)
theorem dX4_ship_99 : decode cX4_ship 99 = .ok (.iadd, 1) := dk_96 (dk_at dksX4_ship_4 5 rfl rfl)
theorem dX4_ship_100 : decode cX4_ship 100 = .ok (.iload_n 3, 1) := dk_29 (dk_at dksX4_ship_4 6 rfl rfl)
theorem dX4_ship_101 : decode cX4_ship 101 = .ok (.iastore, 1) := dk_79 (dk_at dksX4_ship_4 7 rfl rfl)
theorem dX4_ship_102 : decode cX4_ship 102 = .ok (.aload_n 0, 1) := dk_42 (dk_at dksX4_ship_4 8 rfl rfl)
theorem dX4_ship_103 : decode cX4_ship 103 = .ok (.getfield 9, 3) := dk_180 0 9 (dk_at dksX4_ship_4 9 rfl rfl)
theorem dX4_ship_106 : decode cX4_ship 106 = .ok (.iconst 1, 1) := dk_4 (dk_at dksX4_ship_4 12 rfl rfl)
theorem dX4_ship_107 : decode cX4_ship 107 = .ok (.dup2, 1) := dk_92 (dk_at dksX4_ship_4 13 rfl rfl)
theorem dX4_ship_108 : decode cX4_ship 108 = .ok (.iaload, 1) := dk_46 (dk_at dksX4_ship_4 14 rfl rfl)
theorem dX4_ship_109 : decode cX4_ship 109 = .ok (.iconst 1, 1) := dk_4 (dk_at dksX4_ship_4 15 rfl rfl)
theorem dX4_ship_110 : decode cX4_ship 110 = .ok (.iadd, 1) := dk_96 (dk_at dksX4_ship_4 16 rfl rfl)
theorem dX4_ship_111 : decode cX4_ship 111 = .ok (.iastore, 1) := dk_79 (dk_at dksX4_ship_4 17 rfl rfl)
theorem dX4_ship_112 : decode cX4_ship 112 = .ok (.aload_n 0, 1) := dk_42 (dk_at dksX4_ship_4 18 rfl rfl)
theorem dX4_ship_113 : decode cX4_ship 113 = .ok (.iload 4, 2) := dk_21 4 (dk_at dksX4_ship_4 19 rfl rfl)
theorem dX4_ship_115 : decode cX4_ship 115 = .ok (.iconst 0, 1) := dk_3 (dk_at dksX4_ship_4 21 rfl rfl)
theorem dX4_ship_116 : decode cX4_ship 116 = .ok (.invokevirtual 187, 3) := dk_182 0 187 (dk_at dksX4_ship_5 0 rfl rfl)
theorem dX4_ship_119 : decode cX4_ship 119 = .ok (.iload 4, 2) := dk_21 4 (dk_at dksX4_ship_5 3 rfl rfl)
theorem dX4_ship_121 : decode cX4_ship 121 = .ok (.ireturn, 1) := dk_172 (dk_at dksX4_ship_5 5 rfl rfl)
abbrev cX4_thinksAnew : ByteArray := prog_21_method_36_code
def yX4_thinksAnew : MethodName := ⟨RX4, "thinksAnew", "(II)V"⟩
def dkwX4_thinksAnew_1 : List UInt8 := [17, 3, 170, 27, 96, 3, 79, 177]
abbrev dktX4_thinksAnew_1 : List UInt8 := dkwX4_thinksAnew_1 ++ []
def dkwX4_thinksAnew_0 : List UInt8 := [42, 27, 182, 0, 178, 42, 3, 42, 180, 0, 175, 28, 182, 0, 181, 42, 27, 182, 0, 184, 42, 180, 0, 9]
abbrev dktX4_thinksAnew_0 : List UInt8 := dkwX4_thinksAnew_0 ++ dktX4_thinksAnew_1
theorem dksX4_thinksAnew_0 : cX4_thinksAnew.data.toList.drop 0 = dktX4_thinksAnew_0 := by decide +kernel
theorem dksX4_thinksAnew_1 : cX4_thinksAnew.data.toList.drop 24 = dktX4_thinksAnew_1 := dk_seg dksX4_thinksAnew_0 24 rfl rfl
theorem dX4_thinksAnew_0 : decode cX4_thinksAnew 0 = .ok (.aload_n 0, 1) := dk_42 (dk_at dksX4_thinksAnew_0 0 rfl rfl)
theorem dX4_thinksAnew_1 : decode cX4_thinksAnew 1 = .ok (.iload_n 1, 1) := dk_27 (dk_at dksX4_thinksAnew_0 1 rfl rfl)
theorem dX4_thinksAnew_2 : decode cX4_thinksAnew 2 = .ok (.invokevirtual 178, 3) := dk_182 0 178 (dk_at dksX4_thinksAnew_0 2 rfl rfl)
theorem dX4_thinksAnew_5 : decode cX4_thinksAnew 5 = .ok (.aload_n 0, 1) := dk_42 (dk_at dksX4_thinksAnew_0 5 rfl rfl)
theorem dX4_thinksAnew_6 : decode cX4_thinksAnew 6 = .ok (.iconst 0, 1) := dk_3 (dk_at dksX4_thinksAnew_0 6 rfl rfl)
theorem dX4_thinksAnew_7 : decode cX4_thinksAnew 7 = .ok (.aload_n 0, 1) := dk_42 (dk_at dksX4_thinksAnew_0 7 rfl rfl)
theorem dX4_thinksAnew_8 : decode cX4_thinksAnew 8 = .ok (.getfield 175, 3) := dk_180 0 175 (dk_at dksX4_thinksAnew_0 8 rfl rfl)
theorem dX4_thinksAnew_11 : decode cX4_thinksAnew 11 = .ok (.iload_n 2, 1) := dk_28 (dk_at dksX4_thinksAnew_0 11 rfl rfl)
theorem dX4_thinksAnew_12 : decode cX4_thinksAnew 12 = .ok (.invokevirtual 181, 3) := dk_182 0 181 (dk_at dksX4_thinksAnew_0 12 rfl rfl)
theorem dX4_thinksAnew_15 : decode cX4_thinksAnew 15 = .ok (.aload_n 0, 1) := dk_42 (dk_at dksX4_thinksAnew_0 15 rfl rfl)
theorem dX4_thinksAnew_16 : decode cX4_thinksAnew 16 = .ok (.iload_n 1, 1) := dk_27 (dk_at dksX4_thinksAnew_0 16 rfl rfl)
theorem dX4_thinksAnew_17 : decode cX4_thinksAnew 17 = .ok (.invokevirtual 184, 3) := dk_182 0 184 (dk_at dksX4_thinksAnew_0 17 rfl rfl)
theorem dX4_thinksAnew_20 : decode cX4_thinksAnew 20 = .ok (.aload_n 0, 1) := dk_42 (dk_at dksX4_thinksAnew_0 20 rfl rfl)
theorem dX4_thinksAnew_21 : decode cX4_thinksAnew 21 = .ok (.getfield 9, 3) := dk_180 0 9 (dk_at dksX4_thinksAnew_0 21 rfl rfl)
theorem dX4_thinksAnew_24 : decode cX4_thinksAnew 24 = .ok (.sipush 938, 3) := dk_17 3 170 (dk_at dksX4_thinksAnew_1 0 rfl rfl)
theorem dX4_thinksAnew_27 : decode cX4_thinksAnew 27 = .ok (.iload_n 1, 1) := dk_27 (dk_at dksX4_thinksAnew_1 3 rfl rfl)
theorem dX4_thinksAnew_28 : decode cX4_thinksAnew 28 = .ok (.iadd, 1) := dk_96 (dk_at dksX4_thinksAnew_1 4 rfl rfl)
theorem dX4_thinksAnew_29 : decode cX4_thinksAnew 29 = .ok (.iconst 0, 1) := dk_3 (dk_at dksX4_thinksAnew_1 5 rfl rfl)
theorem dX4_thinksAnew_30 : decode cX4_thinksAnew 30 = .ok (.iastore, 1) := dk_79 (dk_at dksX4_thinksAnew_1 6 rfl rfl)
theorem dX4_thinksAnew_31 : decode cX4_thinksAnew 31 = .ok (.return_, 1) := dk_177 (dk_at dksX4_thinksAnew_1 7 rfl rfl)
abbrev cX4_takes : ByteArray := prog_21_method_34_code
def yX4_takes : MethodName := ⟨RX4, "takes", "(I)V"⟩
def dkwX4_takes_3 : List UInt8 := [46, 79, 132, 2, 1, 167, 255, 228, 177]
abbrev dktX4_takes_3 : List UInt8 := dkwX4_takes_3 ++ []
def dkwX4_takes_2 : List UInt8 := [61, 28, 7, 162, 0, 29, 42, 180, 0, 22, 28, 42, 180, 0, 9, 17, 3, 182, 7, 27, 104, 96, 28, 96]
abbrev dktX4_takes_2 : List UInt8 := dkwX4_takes_2 ++ dktX4_takes_3
def dkwX4_takes_1 : List UInt8 := [46, 181, 0, 155, 42, 42, 180, 0, 9, 17, 3, 146, 27, 96, 46, 181, 0, 175, 42, 3, 181, 0, 145, 3]
abbrev dktX4_takes_1 : List UInt8 := dkwX4_takes_1 ++ dktX4_takes_2
def dkwX4_takes_0 : List UInt8 := [42, 42, 180, 0, 9, 17, 3, 122, 27, 96, 46, 181, 0, 142, 42, 42, 180, 0, 9, 17, 3, 158, 27, 96]
abbrev dktX4_takes_0 : List UInt8 := dkwX4_takes_0 ++ dktX4_takes_1
theorem dksX4_takes_0 : cX4_takes.data.toList.drop 0 = dktX4_takes_0 := by decide +kernel
theorem dksX4_takes_1 : cX4_takes.data.toList.drop 24 = dktX4_takes_1 := dk_seg dksX4_takes_0 24 rfl rfl
theorem dksX4_takes_2 : cX4_takes.data.toList.drop 48 = dktX4_takes_2 := dk_seg dksX4_takes_1 24 rfl rfl
theorem dksX4_takes_3 : cX4_takes.data.toList.drop 72 = dktX4_takes_3 := dk_seg dksX4_takes_2 24 rfl rfl
theorem dX4_takes_0 : decode cX4_takes 0 = .ok (.aload_n 0, 1) := dk_42 (dk_at dksX4_takes_0 0 rfl rfl)
theorem dX4_takes_1 : decode cX4_takes 1 = .ok (.aload_n 0, 1) := dk_42 (dk_at dksX4_takes_0 1 rfl rfl)
theorem dX4_takes_2 : decode cX4_takes 2 = .ok (.getfield 9, 3) := dk_180 0 9 (dk_at dksX4_takes_0 2 rfl rfl)
theorem dX4_takes_5 : decode cX4_takes 5 = .ok (.sipush 890, 3) := dk_17 3 122 (dk_at dksX4_takes_0 5 rfl rfl)
theorem dX4_takes_8 : decode cX4_takes 8 = .ok (.iload_n 1, 1) := dk_27 (dk_at dksX4_takes_0 8 rfl rfl)
theorem dX4_takes_9 : decode cX4_takes 9 = .ok (.iadd, 1) := dk_96 (dk_at dksX4_takes_0 9 rfl rfl)
theorem dX4_takes_10 : decode cX4_takes 10 = .ok (.iaload, 1) := dk_46 (dk_at dksX4_takes_0 10 rfl rfl)
theorem dX4_takes_11 : decode cX4_takes 11 = .ok (.putfield 142, 3) := dk_181 0 142 (dk_at dksX4_takes_0 11 rfl rfl)
theorem dX4_takes_14 : decode cX4_takes 14 = .ok (.aload_n 0, 1) := dk_42 (dk_at dksX4_takes_0 14 rfl rfl)
theorem dX4_takes_15 : decode cX4_takes 15 = .ok (.aload_n 0, 1) := dk_42 (dk_at dksX4_takes_0 15 rfl rfl)
theorem dX4_takes_16 : decode cX4_takes 16 = .ok (.getfield 9, 3) := dk_180 0 9 (dk_at dksX4_takes_0 16 rfl rfl)
theorem dX4_takes_19 : decode cX4_takes 19 = .ok (.sipush 926, 3) := dk_17 3 158 (dk_at dksX4_takes_0 19 rfl rfl)
theorem dX4_takes_22 : decode cX4_takes 22 = .ok (.iload_n 1, 1) := dk_27 (dk_at dksX4_takes_0 22 rfl rfl)
theorem dX4_takes_23 : decode cX4_takes 23 = .ok (.iadd, 1) := dk_96 (dk_at dksX4_takes_0 23 rfl rfl)
theorem dX4_takes_24 : decode cX4_takes 24 = .ok (.iaload, 1) := dk_46 (dk_at dksX4_takes_1 0 rfl rfl)
theorem dX4_takes_25 : decode cX4_takes 25 = .ok (.putfield 155, 3) := dk_181 0 155 (dk_at dksX4_takes_1 1 rfl rfl)
theorem dX4_takes_28 : decode cX4_takes 28 = .ok (.aload_n 0, 1) := dk_42 (dk_at dksX4_takes_1 4 rfl rfl)
theorem dX4_takes_29 : decode cX4_takes 29 = .ok (.aload_n 0, 1) := dk_42 (dk_at dksX4_takes_1 5 rfl rfl)
theorem dX4_takes_30 : decode cX4_takes 30 = .ok (.getfield 9, 3) := dk_180 0 9 (dk_at dksX4_takes_1 6 rfl rfl)
theorem dX4_takes_33 : decode cX4_takes 33 = .ok (.sipush 914, 3) := dk_17 3 146 (dk_at dksX4_takes_1 9 rfl rfl)
theorem dX4_takes_36 : decode cX4_takes 36 = .ok (.iload_n 1, 1) := dk_27 (dk_at dksX4_takes_1 12 rfl rfl)
theorem dX4_takes_37 : decode cX4_takes 37 = .ok (.iadd, 1) := dk_96 (dk_at dksX4_takes_1 13 rfl rfl)
theorem dX4_takes_38 : decode cX4_takes 38 = .ok (.iaload, 1) := dk_46 (dk_at dksX4_takes_1 14 rfl rfl)
theorem dX4_takes_39 : decode cX4_takes 39 = .ok (.putfield 175, 3) := dk_181 0 175 (dk_at dksX4_takes_1 15 rfl rfl)
theorem dX4_takes_42 : decode cX4_takes 42 = .ok (.aload_n 0, 1) := dk_42 (dk_at dksX4_takes_1 18 rfl rfl)
theorem dX4_takes_43 : decode cX4_takes 43 = .ok (.iconst 0, 1) := dk_3 (dk_at dksX4_takes_1 19 rfl rfl)
theorem dX4_takes_44 : decode cX4_takes 44 = .ok (.putfield 145, 3) := dk_181 0 145 (dk_at dksX4_takes_1 20 rfl rfl)
theorem dX4_takes_47 : decode cX4_takes 47 = .ok (.iconst 0, 1) := dk_3 (dk_at dksX4_takes_1 23 rfl rfl)
theorem dX4_takes_48 : decode cX4_takes 48 = .ok (.istore_n 2, 1) := dk_61 (dk_at dksX4_takes_2 0 rfl rfl)
theorem dX4_takes_49 : decode cX4_takes 49 = .ok (.iload_n 2, 1) := dk_28 (dk_at dksX4_takes_2 1 rfl rfl)
theorem dX4_takes_50 : decode cX4_takes 50 = .ok (.iconst 4, 1) := dk_7 (dk_at dksX4_takes_2 2 rfl rfl)
theorem dX4_takes_51 : decode cX4_takes 51 = .ok (.if_icmp .ge 29, 3) := dk_162 0 29 (dk_at dksX4_takes_2 3 rfl rfl)
theorem dX4_takes_54 : decode cX4_takes 54 = .ok (.aload_n 0, 1) := dk_42 (dk_at dksX4_takes_2 6 rfl rfl)
theorem dX4_takes_55 : decode cX4_takes 55 = .ok (.getfield 22, 3) := dk_180 0 22 (dk_at dksX4_takes_2 7 rfl rfl)
theorem dX4_takes_58 : decode cX4_takes 58 = .ok (.iload_n 2, 1) := dk_28 (dk_at dksX4_takes_2 10 rfl rfl)
theorem dX4_takes_59 : decode cX4_takes 59 = .ok (.aload_n 0, 1) := dk_42 (dk_at dksX4_takes_2 11 rfl rfl)
theorem dX4_takes_60 : decode cX4_takes 60 = .ok (.getfield 9, 3) := dk_180 0 9 (dk_at dksX4_takes_2 12 rfl rfl)
theorem dX4_takes_63 : decode cX4_takes 63 = .ok (.sipush 950, 3) := dk_17 3 182 (dk_at dksX4_takes_2 15 rfl rfl)
theorem dX4_takes_66 : decode cX4_takes 66 = .ok (.iconst 4, 1) := dk_7 (dk_at dksX4_takes_2 18 rfl rfl)
theorem dX4_takes_67 : decode cX4_takes 67 = .ok (.iload_n 1, 1) := dk_27 (dk_at dksX4_takes_2 19 rfl rfl)
theorem dX4_takes_68 : decode cX4_takes 68 = .ok (.imul, 1) := dk_104 (dk_at dksX4_takes_2 20 rfl rfl)
theorem dX4_takes_69 : decode cX4_takes 69 = .ok (.iadd, 1) := dk_96 (dk_at dksX4_takes_2 21 rfl rfl)
theorem dX4_takes_70 : decode cX4_takes 70 = .ok (.iload_n 2, 1) := dk_28 (dk_at dksX4_takes_2 22 rfl rfl)
theorem dX4_takes_71 : decode cX4_takes 71 = .ok (.iadd, 1) := dk_96 (dk_at dksX4_takes_2 23 rfl rfl)
theorem dX4_takes_72 : decode cX4_takes 72 = .ok (.iaload, 1) := dk_46 (dk_at dksX4_takes_3 0 rfl rfl)
theorem dX4_takes_73 : decode cX4_takes 73 = .ok (.iastore, 1) := dk_79 (dk_at dksX4_takes_3 1 rfl rfl)
theorem dX4_takes_74 : decode cX4_takes 74 = .ok (.iinc 2 1, 3) := dk_132 2 1 (dk_at dksX4_takes_3 2 rfl rfl)
theorem dX4_takes_77 : decode cX4_takes 77 = .ok (.goto (-28), 3) := dk_167 255 228 (dk_at dksX4_takes_3 5 rfl rfl)
theorem dX4_takes_80 : decode cX4_takes 80 = .ok (.return_, 1) := dk_177 (dk_at dksX4_takes_3 8 rfl rfl)
abbrev cX4_anew : ByteArray := prog_21_method_28_code
def yX4_anew : MethodName := ⟨RX4, "anew", "(III)V"⟩
def dkwX4_anew_4 : List UInt8 := [182, 0, 158, 132, 6, 255, 167, 255, 232, 132, 5, 1, 167, 255, 209, 177]
abbrev dktX4_anew_4 : List UInt8 := dkwX4_anew_4 ++ []
def dkwX4_anew_3 : List UInt8 := [158, 0, 39, 5, 54, 6, 21, 6, 155, 0, 25, 42, 27, 21, 6, 96, 27, 21, 6, 96, 4, 96, 21, 4]
abbrev dktX4_anew_3 : List UInt8 := dkwX4_anew_3 ++ dktX4_anew_4
def dkwX4_anew_2 : List UInt8 := [3, 79, 132, 5, 1, 167, 255, 237, 3, 54, 5, 21, 5, 42, 180, 0, 155, 162, 0, 44, 21, 4]
abbrev dktX4_anew_2 : List UInt8 := dkwX4_anew_2 ++ dktX4_anew_3
def dkwX4_anew_1 : List UInt8 := [180, 0, 22, 27, 18, 154, 79, 4, 54, 5, 21, 5, 7, 162, 0, 19, 42, 180, 0, 22, 27, 21, 5, 96]
abbrev dktX4_anew_1 : List UInt8 := dkwX4_anew_1 ++ dktX4_anew_2
def dkwX4_anew_0 : List UInt8 := [42, 180, 0, 9, 17, 0, 130, 16, 10, 42, 180, 0, 142, 104, 96, 28, 96, 46, 29, 100, 54, 4, 42]
abbrev dktX4_anew_0 : List UInt8 := dkwX4_anew_0 ++ dktX4_anew_1
theorem dksX4_anew_0 : cX4_anew.data.toList.drop 0 = dktX4_anew_0 := by decide +kernel
theorem dksX4_anew_1 : cX4_anew.data.toList.drop 23 = dktX4_anew_1 := dk_seg dksX4_anew_0 23 rfl rfl
theorem dksX4_anew_2 : cX4_anew.data.toList.drop 47 = dktX4_anew_2 := dk_seg dksX4_anew_1 24 rfl rfl
theorem dksX4_anew_3 : cX4_anew.data.toList.drop 69 = dktX4_anew_3 := dk_seg dksX4_anew_2 22 rfl rfl
theorem dksX4_anew_4 : cX4_anew.data.toList.drop 93 = dktX4_anew_4 := dk_seg dksX4_anew_3 24 rfl rfl
theorem dX4_anew_0 : decode cX4_anew 0 = .ok (.aload_n 0, 1) := dk_42 (dk_at dksX4_anew_0 0 rfl rfl)
theorem dX4_anew_1 : decode cX4_anew 1 = .ok (.getfield 9, 3) := dk_180 0 9 (dk_at dksX4_anew_0 1 rfl rfl)
theorem dX4_anew_4 : decode cX4_anew 4 = .ok (.sipush 130, 3) := dk_17 0 130 (dk_at dksX4_anew_0 4 rfl rfl)
theorem dX4_anew_7 : decode cX4_anew 7 = .ok (.bipush 10, 2) := dk_16 10 (dk_at dksX4_anew_0 7 rfl rfl)
theorem dX4_anew_9 : decode cX4_anew 9 = .ok (.aload_n 0, 1) := dk_42 (dk_at dksX4_anew_0 9 rfl rfl)
theorem dX4_anew_10 : decode cX4_anew 10 = .ok (.getfield 142, 3) := dk_180 0 142 (dk_at dksX4_anew_0 10 rfl rfl)
theorem dX4_anew_13 : decode cX4_anew 13 = .ok (.imul, 1) := dk_104 (dk_at dksX4_anew_0 13 rfl rfl)
theorem dX4_anew_14 : decode cX4_anew 14 = .ok (.iadd, 1) := dk_96 (dk_at dksX4_anew_0 14 rfl rfl)
theorem dX4_anew_15 : decode cX4_anew 15 = .ok (.iload_n 2, 1) := dk_28 (dk_at dksX4_anew_0 15 rfl rfl)
theorem dX4_anew_16 : decode cX4_anew 16 = .ok (.iadd, 1) := dk_96 (dk_at dksX4_anew_0 16 rfl rfl)
theorem dX4_anew_17 : decode cX4_anew 17 = .ok (.iaload, 1) := dk_46 (dk_at dksX4_anew_0 17 rfl rfl)
theorem dX4_anew_18 : decode cX4_anew 18 = .ok (.iload_n 3, 1) := dk_29 (dk_at dksX4_anew_0 18 rfl rfl)
theorem dX4_anew_19 : decode cX4_anew 19 = .ok (.isub, 1) := dk_100 (dk_at dksX4_anew_0 19 rfl rfl)
theorem dX4_anew_20 : decode cX4_anew 20 = .ok (.istore 4, 2) := dk_54 4 (dk_at dksX4_anew_0 20 rfl rfl)
theorem dX4_anew_22 : decode cX4_anew 22 = .ok (.aload_n 0, 1) := dk_42 (dk_at dksX4_anew_0 22 rfl rfl)
theorem dX4_anew_23 : decode cX4_anew 23 = .ok (.getfield 22, 3) := dk_180 0 22 (dk_at dksX4_anew_1 0 rfl rfl)
theorem dX4_anew_26 : decode cX4_anew 26 = .ok (.iload_n 1, 1) := dk_27 (dk_at dksX4_anew_1 3 rfl rfl)
theorem dX4_anew_27 : decode cX4_anew 27 = .ok (.ldc 154, 2) := dk_18 154 (dk_at dksX4_anew_1 4 rfl rfl)
theorem dX4_anew_29 : decode cX4_anew 29 = .ok (.iastore, 1) := dk_79 (dk_at dksX4_anew_1 6 rfl rfl)
theorem dX4_anew_30 : decode cX4_anew 30 = .ok (.iconst 1, 1) := dk_4 (dk_at dksX4_anew_1 7 rfl rfl)
theorem dX4_anew_31 : decode cX4_anew 31 = .ok (.istore 5, 2) := dk_54 5 (dk_at dksX4_anew_1 8 rfl rfl)
theorem dX4_anew_33 : decode cX4_anew 33 = .ok (.iload 5, 2) := dk_21 5 (dk_at dksX4_anew_1 10 rfl rfl)
theorem dX4_anew_35 : decode cX4_anew 35 = .ok (.iconst 4, 1) := dk_7 (dk_at dksX4_anew_1 12 rfl rfl)
theorem dX4_anew_36 : decode cX4_anew 36 = .ok (.if_icmp .ge 19, 3) := dk_162 0 19 (dk_at dksX4_anew_1 13 rfl rfl)
theorem dX4_anew_39 : decode cX4_anew 39 = .ok (.aload_n 0, 1) := dk_42 (dk_at dksX4_anew_1 16 rfl rfl)
theorem dX4_anew_40 : decode cX4_anew 40 = .ok (.getfield 22, 3) := dk_180 0 22 (dk_at dksX4_anew_1 17 rfl rfl)
theorem dX4_anew_43 : decode cX4_anew 43 = .ok (.iload_n 1, 1) := dk_27 (dk_at dksX4_anew_1 20 rfl rfl)
theorem dX4_anew_44 : decode cX4_anew 44 = .ok (.iload 5, 2) := dk_21 5 (dk_at dksX4_anew_1 21 rfl rfl)
theorem dX4_anew_46 : decode cX4_anew 46 = .ok (.iadd, 1) := dk_96 (dk_at dksX4_anew_1 23 rfl rfl)
theorem dX4_anew_47 : decode cX4_anew 47 = .ok (.iconst 0, 1) := dk_3 (dk_at dksX4_anew_2 0 rfl rfl)
theorem dX4_anew_48 : decode cX4_anew 48 = .ok (.iastore, 1) := dk_79 (dk_at dksX4_anew_2 1 rfl rfl)
theorem dX4_anew_49 : decode cX4_anew 49 = .ok (.iinc 5 1, 3) := dk_132 5 1 (dk_at dksX4_anew_2 2 rfl rfl)
theorem dX4_anew_52 : decode cX4_anew 52 = .ok (.goto (-19), 3) := dk_167 255 237 (dk_at dksX4_anew_2 5 rfl rfl)
theorem dX4_anew_55 : decode cX4_anew 55 = .ok (.iconst 0, 1) := dk_3 (dk_at dksX4_anew_2 8 rfl rfl)
theorem dX4_anew_56 : decode cX4_anew 56 = .ok (.istore 5, 2) := dk_54 5 (dk_at dksX4_anew_2 9 rfl rfl)
theorem dX4_anew_58 : decode cX4_anew 58 = .ok (.iload 5, 2) := dk_21 5 (dk_at dksX4_anew_2 11 rfl rfl)
theorem dX4_anew_60 : decode cX4_anew 60 = .ok (.aload_n 0, 1) := dk_42 (dk_at dksX4_anew_2 13 rfl rfl)
theorem dX4_anew_61 : decode cX4_anew 61 = .ok (.getfield 155, 3) := dk_180 0 155 (dk_at dksX4_anew_2 14 rfl rfl)
theorem dX4_anew_64 : decode cX4_anew 64 = .ok (.if_icmp .ge 44, 3) := dk_162 0 44 (dk_at dksX4_anew_2 17 rfl rfl)
theorem dX4_anew_67 : decode cX4_anew 67 = .ok (.iload 4, 2) := dk_21 4 (dk_at dksX4_anew_2 20 rfl rfl)
theorem dX4_anew_69 : decode cX4_anew 69 = .ok (.ifCond .le 39, 3) := dk_158 0 39 (dk_at dksX4_anew_3 0 rfl rfl)
theorem dX4_anew_72 : decode cX4_anew 72 = .ok (.iconst 2, 1) := dk_5 (dk_at dksX4_anew_3 3 rfl rfl)
theorem dX4_anew_73 : decode cX4_anew 73 = .ok (.istore 6, 2) := dk_54 6 (dk_at dksX4_anew_3 4 rfl rfl)
theorem dX4_anew_75 : decode cX4_anew 75 = .ok (.iload 6, 2) := dk_21 6 (dk_at dksX4_anew_3 6 rfl rfl)
theorem dX4_anew_77 : decode cX4_anew 77 = .ok (.ifCond .lt 25, 3) := dk_155 0 25 (dk_at dksX4_anew_3 8 rfl rfl)
theorem dX4_anew_80 : decode cX4_anew 80 = .ok (.aload_n 0, 1) := dk_42 (dk_at dksX4_anew_3 11 rfl rfl)
theorem dX4_anew_81 : decode cX4_anew 81 = .ok (.iload_n 1, 1) := dk_27 (dk_at dksX4_anew_3 12 rfl rfl)
theorem dX4_anew_82 : decode cX4_anew 82 = .ok (.iload 6, 2) := dk_21 6 (dk_at dksX4_anew_3 13 rfl rfl)
theorem dX4_anew_84 : decode cX4_anew 84 = .ok (.iadd, 1) := dk_96 (dk_at dksX4_anew_3 15 rfl rfl)
theorem dX4_anew_85 : decode cX4_anew 85 = .ok (.iload_n 1, 1) := dk_27 (dk_at dksX4_anew_3 16 rfl rfl)
theorem dX4_anew_86 : decode cX4_anew 86 = .ok (.iload 6, 2) := dk_21 6 (dk_at dksX4_anew_3 17 rfl rfl)
theorem dX4_anew_88 : decode cX4_anew 88 = .ok (.iadd, 1) := dk_96 (dk_at dksX4_anew_3 19 rfl rfl)
theorem dX4_anew_89 : decode cX4_anew 89 = .ok (.iconst 1, 1) := dk_4 (dk_at dksX4_anew_3 20 rfl rfl)
theorem dX4_anew_90 : decode cX4_anew 90 = .ok (.iadd, 1) := dk_96 (dk_at dksX4_anew_3 21 rfl rfl)
theorem dX4_anew_91 : decode cX4_anew 91 = .ok (.iload 4, 2) := dk_21 4 (dk_at dksX4_anew_3 22 rfl rfl)
theorem dX4_anew_93 : decode cX4_anew 93 = .ok (.invokevirtual 158, 3) := dk_182 0 158 (dk_at dksX4_anew_4 0 rfl rfl)
theorem dX4_anew_96 : decode cX4_anew 96 = .ok (.iinc 6 (-1), 3) := dk_132 6 255 (dk_at dksX4_anew_4 3 rfl rfl)
theorem dX4_anew_99 : decode cX4_anew 99 = .ok (.goto (-24), 3) := dk_167 255 232 (dk_at dksX4_anew_4 6 rfl rfl)
theorem dX4_anew_102 : decode cX4_anew 102 = .ok (.iinc 5 1, 3) := dk_132 5 1 (dk_at dksX4_anew_4 9 rfl rfl)
theorem dX4_anew_105 : decode cX4_anew 105 = .ok (.goto (-47), 3) := dk_167 255 209 (dk_at dksX4_anew_4 12 rfl rfl)
theorem dX4_anew_108 : decode cX4_anew 108 = .ok (.return_, 1) := dk_177 (dk_at dksX4_anew_4 15 rfl rfl)
abbrev cX4_moves : ByteArray := prog_21_method_27_code
def yX4_moves : MethodName := ⟨RX4, "moves", "(III)V"⟩
def dkwX4_moves_1 : List UInt8 := [42, 180, 0, 22, 28, 92, 46, 21, 4, 96, 79, 177]
abbrev dktX4_moves_1 : List UInt8 := dkwX4_moves_1 ++ []
def dkwX4_moves_0 : List UInt8 := [42, 180, 0, 22, 27, 46, 29, 184, 0, 150, 136, 54, 4, 42, 180, 0, 22, 27, 92, 46, 21, 4, 100, 79]
abbrev dktX4_moves_0 : List UInt8 := dkwX4_moves_0 ++ dktX4_moves_1
theorem dksX4_moves_0 : cX4_moves.data.toList.drop 0 = dktX4_moves_0 := by decide +kernel
theorem dksX4_moves_1 : cX4_moves.data.toList.drop 24 = dktX4_moves_1 := dk_seg dksX4_moves_0 24 rfl rfl
theorem dX4_moves_0 : decode cX4_moves 0 = .ok (.aload_n 0, 1) := dk_42 (dk_at dksX4_moves_0 0 rfl rfl)
theorem dX4_moves_1 : decode cX4_moves 1 = .ok (.getfield 22, 3) := dk_180 0 22 (dk_at dksX4_moves_0 1 rfl rfl)
theorem dX4_moves_4 : decode cX4_moves 4 = .ok (.iload_n 1, 1) := dk_27 (dk_at dksX4_moves_0 4 rfl rfl)
theorem dX4_moves_5 : decode cX4_moves 5 = .ok (.iaload, 1) := dk_46 (dk_at dksX4_moves_0 5 rfl rfl)
theorem dX4_moves_6 : decode cX4_moves 6 = .ok (.iload_n 3, 1) := dk_29 (dk_at dksX4_moves_0 6 rfl rfl)
theorem dX4_moves_7 : decode cX4_moves 7 = .ok (.invokestatic 150, 3) := dk_184 0 150 (dk_at dksX4_moves_0 7 rfl rfl)
theorem dX4_moves_10 : decode cX4_moves 10 = .ok (.l2i, 1) := dk_136 (dk_at dksX4_moves_0 10 rfl rfl)
theorem dX4_moves_11 : decode cX4_moves 11 = .ok (.istore 4, 2) := dk_54 4 (dk_at dksX4_moves_0 11 rfl rfl)
theorem dX4_moves_13 : decode cX4_moves 13 = .ok (.aload_n 0, 1) := dk_42 (dk_at dksX4_moves_0 13 rfl rfl)
theorem dX4_moves_14 : decode cX4_moves 14 = .ok (.getfield 22, 3) := dk_180 0 22 (dk_at dksX4_moves_0 14 rfl rfl)
theorem dX4_moves_17 : decode cX4_moves 17 = .ok (.iload_n 1, 1) := dk_27 (dk_at dksX4_moves_0 17 rfl rfl)
theorem dX4_moves_18 : decode cX4_moves 18 = .ok (.dup2, 1) := dk_92 (dk_at dksX4_moves_0 18 rfl rfl)
theorem dX4_moves_19 : decode cX4_moves 19 = .ok (.iaload, 1) := dk_46 (dk_at dksX4_moves_0 19 rfl rfl)
theorem dX4_moves_20 : decode cX4_moves 20 = .ok (.iload 4, 2) := dk_21 4 (dk_at dksX4_moves_0 20 rfl rfl)
theorem dX4_moves_22 : decode cX4_moves 22 = .ok (.isub, 1) := dk_100 (dk_at dksX4_moves_0 22 rfl rfl)
theorem dX4_moves_23 : decode cX4_moves 23 = .ok (.iastore, 1) := dk_79 (dk_at dksX4_moves_0 23 rfl rfl)
theorem dX4_moves_24 : decode cX4_moves 24 = .ok (.aload_n 0, 1) := dk_42 (dk_at dksX4_moves_1 0 rfl rfl)
theorem dX4_moves_25 : decode cX4_moves 25 = .ok (.getfield 22, 3) := dk_180 0 22 (dk_at dksX4_moves_1 1 rfl rfl)
theorem dX4_moves_28 : decode cX4_moves 28 = .ok (.iload_n 2, 1) := dk_28 (dk_at dksX4_moves_1 4 rfl rfl)
theorem dX4_moves_29 : decode cX4_moves 29 = .ok (.dup2, 1) := dk_92 (dk_at dksX4_moves_1 5 rfl rfl)
theorem dX4_moves_30 : decode cX4_moves 30 = .ok (.iaload, 1) := dk_46 (dk_at dksX4_moves_1 6 rfl rfl)
theorem dX4_moves_31 : decode cX4_moves 31 = .ok (.iload 4, 2) := dk_21 4 (dk_at dksX4_moves_1 7 rfl rfl)
theorem dX4_moves_33 : decode cX4_moves 33 = .ok (.iadd, 1) := dk_96 (dk_at dksX4_moves_1 9 rfl rfl)
theorem dX4_moves_34 : decode cX4_moves 34 = .ok (.iastore, 1) := dk_79 (dk_at dksX4_moves_1 10 rfl rfl)
theorem dX4_moves_35 : decode cX4_moves 35 = .ok (.return_, 1) := dk_177 (dk_at dksX4_moves_1 11 rfl rfl)
abbrev cX4_part : ByteArray := prog_21_method_26_code
def yX4_part : MethodName := ⟨RX4, "part", "(II)J"⟩
def dkwX4_part_0 : List UInt8 := [26, 133, 27, 17, 3, 232, 164, 0, 9, 17, 3, 232, 167, 0, 4, 27, 133, 105, 20, 0, 148, 109, 173]
abbrev dktX4_part_0 : List UInt8 := dkwX4_part_0 ++ []
theorem dksX4_part_0 : cX4_part.data.toList.drop 0 = dktX4_part_0 := by decide +kernel
theorem dX4_part_0 : decode cX4_part 0 = .ok (.iload_n 0, 1) := dk_26 (dk_at dksX4_part_0 0 rfl rfl)
theorem dX4_part_1 : decode cX4_part 1 = .ok (.i2l, 1) := dk_133 (dk_at dksX4_part_0 1 rfl rfl)
theorem dX4_part_2 : decode cX4_part 2 = .ok (.iload_n 1, 1) := dk_27 (dk_at dksX4_part_0 2 rfl rfl)
theorem dX4_part_3 : decode cX4_part 3 = .ok (.sipush 1000, 3) := dk_17 3 232 (dk_at dksX4_part_0 3 rfl rfl)
theorem dX4_part_6 : decode cX4_part 6 = .ok (.if_icmp .le 9, 3) := dk_164 0 9 (dk_at dksX4_part_0 6 rfl rfl)
theorem dX4_part_9 : decode cX4_part 9 = .ok (.sipush 1000, 3) := dk_17 3 232 (dk_at dksX4_part_0 9 rfl rfl)
theorem dX4_part_12 : decode cX4_part 12 = .ok (.goto 4, 3) := dk_167 0 4 (dk_at dksX4_part_0 12 rfl rfl)
theorem dX4_part_15 : decode cX4_part 15 = .ok (.iload_n 1, 1) := dk_27 (dk_at dksX4_part_0 15 rfl rfl)
theorem dX4_part_16 : decode cX4_part 16 = .ok (.i2l, 1) := dk_133 (dk_at dksX4_part_0 16 rfl rfl)
theorem dX4_part_17 : decode cX4_part 17 = .ok (.lmul, 1) := dk_105 (dk_at dksX4_part_0 17 rfl rfl)
theorem dX4_part_18 : decode cX4_part 18 = .ok (.ldc2_w 148, 3) := dk_20 0 148 (dk_at dksX4_part_0 18 rfl rfl)
theorem dX4_part_21 : decode cX4_part 21 = .ok (.ldiv, 1) := dk_109 (dk_at dksX4_part_0 21 rfl rfl)
theorem dX4_part_22 : decode cX4_part 22 = .ok (.lreturn, 1) := dk_173 (dk_at dksX4_part_0 22 rfl rfl)
abbrev cX4_puts : ByteArray := prog_21_method_35_code
def yX4_puts : MethodName := ⟨RX4, "puts", "(I)V"⟩
def dkwX4_puts_1 : List UInt8 := [28, 46, 79, 132, 2, 1, 167, 255, 228, 177]
abbrev dktX4_puts_1 : List UInt8 := dkwX4_puts_1 ++ []
def dkwX4_puts_0 : List UInt8 := [3, 61, 28, 7, 162, 0, 29, 42, 180, 0, 9, 17, 3, 182, 7, 27, 104, 96, 28, 96, 42, 180, 0, 22]
abbrev dktX4_puts_0 : List UInt8 := dkwX4_puts_0 ++ dktX4_puts_1
theorem dksX4_puts_0 : cX4_puts.data.toList.drop 0 = dktX4_puts_0 := by decide +kernel
theorem dksX4_puts_1 : cX4_puts.data.toList.drop 24 = dktX4_puts_1 := dk_seg dksX4_puts_0 24 rfl rfl
theorem dX4_puts_0 : decode cX4_puts 0 = .ok (.iconst 0, 1) := dk_3 (dk_at dksX4_puts_0 0 rfl rfl)
theorem dX4_puts_1 : decode cX4_puts 1 = .ok (.istore_n 2, 1) := dk_61 (dk_at dksX4_puts_0 1 rfl rfl)
theorem dX4_puts_2 : decode cX4_puts 2 = .ok (.iload_n 2, 1) := dk_28 (dk_at dksX4_puts_0 2 rfl rfl)
theorem dX4_puts_3 : decode cX4_puts 3 = .ok (.iconst 4, 1) := dk_7 (dk_at dksX4_puts_0 3 rfl rfl)
theorem dX4_puts_4 : decode cX4_puts 4 = .ok (.if_icmp .ge 29, 3) := dk_162 0 29 (dk_at dksX4_puts_0 4 rfl rfl)
theorem dX4_puts_7 : decode cX4_puts 7 = .ok (.aload_n 0, 1) := dk_42 (dk_at dksX4_puts_0 7 rfl rfl)
theorem dX4_puts_8 : decode cX4_puts 8 = .ok (.getfield 9, 3) := dk_180 0 9 (dk_at dksX4_puts_0 8 rfl rfl)
theorem dX4_puts_11 : decode cX4_puts 11 = .ok (.sipush 950, 3) := dk_17 3 182 (dk_at dksX4_puts_0 11 rfl rfl)
theorem dX4_puts_14 : decode cX4_puts 14 = .ok (.iconst 4, 1) := dk_7 (dk_at dksX4_puts_0 14 rfl rfl)
theorem dX4_puts_15 : decode cX4_puts 15 = .ok (.iload_n 1, 1) := dk_27 (dk_at dksX4_puts_0 15 rfl rfl)
theorem dX4_puts_16 : decode cX4_puts 16 = .ok (.imul, 1) := dk_104 (dk_at dksX4_puts_0 16 rfl rfl)
theorem dX4_puts_17 : decode cX4_puts 17 = .ok (.iadd, 1) := dk_96 (dk_at dksX4_puts_0 17 rfl rfl)
theorem dX4_puts_18 : decode cX4_puts 18 = .ok (.iload_n 2, 1) := dk_28 (dk_at dksX4_puts_0 18 rfl rfl)
theorem dX4_puts_19 : decode cX4_puts 19 = .ok (.iadd, 1) := dk_96 (dk_at dksX4_puts_0 19 rfl rfl)
theorem dX4_puts_20 : decode cX4_puts 20 = .ok (.aload_n 0, 1) := dk_42 (dk_at dksX4_puts_0 20 rfl rfl)
theorem dX4_puts_21 : decode cX4_puts 21 = .ok (.getfield 22, 3) := dk_180 0 22 (dk_at dksX4_puts_0 21 rfl rfl)
theorem dX4_puts_24 : decode cX4_puts 24 = .ok (.iload_n 2, 1) := dk_28 (dk_at dksX4_puts_1 0 rfl rfl)
theorem dX4_puts_25 : decode cX4_puts 25 = .ok (.iaload, 1) := dk_46 (dk_at dksX4_puts_1 1 rfl rfl)
theorem dX4_puts_26 : decode cX4_puts 26 = .ok (.iastore, 1) := dk_79 (dk_at dksX4_puts_1 2 rfl rfl)
theorem dX4_puts_27 : decode cX4_puts 27 = .ok (.iinc 2 1, 3) := dk_132 2 1 (dk_at dksX4_puts_1 3 rfl rfl)
theorem dX4_puts_30 : decode cX4_puts 30 = .ok (.goto (-28), 3) := dk_167 255 228 (dk_at dksX4_puts_1 6 rfl rfl)
theorem dX4_puts_33 : decode cX4_puts 33 = .ok (.return_, 1) := dk_177 (dk_at dksX4_puts_1 9 rfl rfl)
abbrev cX4_says : ByteArray := prog_21_method_38_code
def yX4_says : MethodName := ⟨RX4, "says", "(II)I"⟩
def dkwX4_says_2 : List UInt8 := [29, 172]
abbrev dktX4_says_2 : List UInt8 := dkwX4_says_2 ++ []
def dkwX4_says_1 : List UInt8 := [17, 3, 146, 27, 96, 46, 62, 42, 180, 0, 9, 17, 3, 146, 27, 96, 28, 79, 42, 27, 3, 182, 0, 187]
abbrev dktX4_says_1 : List UInt8 := dkwX4_says_1 ++ dktX4_says_2
def dkwX4_says_0 : List UInt8 := [42, 27, 182, 0, 191, 153, 0, 12, 28, 3, 6, 184, 0, 42, 154, 0, 5, 2, 172, 42, 180, 0, 9]
abbrev dktX4_says_0 : List UInt8 := dkwX4_says_0 ++ dktX4_says_1
theorem dksX4_says_0 : cX4_says.data.toList.drop 0 = dktX4_says_0 := by decide +kernel
theorem dksX4_says_1 : cX4_says.data.toList.drop 23 = dktX4_says_1 := dk_seg dksX4_says_0 23 rfl rfl
theorem dksX4_says_2 : cX4_says.data.toList.drop 47 = dktX4_says_2 := dk_seg dksX4_says_1 24 rfl rfl
theorem dX4_says_0 : decode cX4_says 0 = .ok (.aload_n 0, 1) := dk_42 (dk_at dksX4_says_0 0 rfl rfl)
theorem dX4_says_1 : decode cX4_says 1 = .ok (.iload_n 1, 1) := dk_27 (dk_at dksX4_says_0 1 rfl rfl)
theorem dX4_says_2 : decode cX4_says 2 = .ok (.invokevirtual 191, 3) := dk_182 0 191 (dk_at dksX4_says_0 2 rfl rfl)
theorem dX4_says_5 : decode cX4_says 5 = .ok (.ifCond .eq 12, 3) := dk_153 0 12 (dk_at dksX4_says_0 5 rfl rfl)
theorem dX4_says_8 : decode cX4_says 8 = .ok (.iload_n 2, 1) := dk_28 (dk_at dksX4_says_0 8 rfl rfl)
theorem dX4_says_9 : decode cX4_says 9 = .ok (.iconst 0, 1) := dk_3 (dk_at dksX4_says_0 9 rfl rfl)
theorem dX4_says_10 : decode cX4_says 10 = .ok (.iconst 3, 1) := dk_6 (dk_at dksX4_says_0 10 rfl rfl)
theorem dX4_says_11 : decode cX4_says 11 = .ok (.invokestatic 42, 3) := dk_184 0 42 (dk_at dksX4_says_0 11 rfl rfl)
theorem dX4_says_14 : decode cX4_says 14 = .ok (.ifCond .ne 5, 3) := dk_154 0 5 (dk_at dksX4_says_0 14 rfl rfl)
theorem dX4_says_17 : decode cX4_says 17 = .ok (.iconst (-1), 1) := dk_2 (dk_at dksX4_says_0 17 rfl rfl)
theorem dX4_says_18 : decode cX4_says 18 = .ok (.ireturn, 1) := dk_172 (dk_at dksX4_says_0 18 rfl rfl)
theorem dX4_says_19 : decode cX4_says 19 = .ok (.aload_n 0, 1) := dk_42 (dk_at dksX4_says_0 19 rfl rfl)
theorem dX4_says_20 : decode cX4_says 20 = .ok (.getfield 9, 3) := dk_180 0 9 (dk_at dksX4_says_0 20 rfl rfl)
theorem dX4_says_23 : decode cX4_says 23 = .ok (.sipush 914, 3) := dk_17 3 146 (dk_at dksX4_says_1 0 rfl rfl)
theorem dX4_says_26 : decode cX4_says 26 = .ok (.iload_n 1, 1) := dk_27 (dk_at dksX4_says_1 3 rfl rfl)
theorem dX4_says_27 : decode cX4_says 27 = .ok (.iadd, 1) := dk_96 (dk_at dksX4_says_1 4 rfl rfl)
theorem dX4_says_28 : decode cX4_says 28 = .ok (.iaload, 1) := dk_46 (dk_at dksX4_says_1 5 rfl rfl)
theorem dX4_says_29 : decode cX4_says 29 = .ok (.istore_n 3, 1) := dk_62 (dk_at dksX4_says_1 6 rfl rfl)
theorem dX4_says_30 : decode cX4_says 30 = .ok (.aload_n 0, 1) := dk_42 (dk_at dksX4_says_1 7 rfl rfl)
theorem dX4_says_31 : decode cX4_says 31 = .ok (.getfield 9, 3) := dk_180 0 9 (dk_at dksX4_says_1 8 rfl rfl)
theorem dX4_says_34 : decode cX4_says 34 = .ok (.sipush 914, 3) := dk_17 3 146 (dk_at dksX4_says_1 11 rfl rfl)
theorem dX4_says_37 : decode cX4_says 37 = .ok (.iload_n 1, 1) := dk_27 (dk_at dksX4_says_1 14 rfl rfl)
theorem dX4_says_38 : decode cX4_says 38 = .ok (.iadd, 1) := dk_96 (dk_at dksX4_says_1 15 rfl rfl)
theorem dX4_says_39 : decode cX4_says 39 = .ok (.iload_n 2, 1) := dk_28 (dk_at dksX4_says_1 16 rfl rfl)
theorem dX4_says_40 : decode cX4_says 40 = .ok (.iastore, 1) := dk_79 (dk_at dksX4_says_1 17 rfl rfl)
theorem dX4_says_41 : decode cX4_says 41 = .ok (.aload_n 0, 1) := dk_42 (dk_at dksX4_says_1 18 rfl rfl)
theorem dX4_says_42 : decode cX4_says 42 = .ok (.iload_n 1, 1) := dk_27 (dk_at dksX4_says_1 19 rfl rfl)
theorem dX4_says_43 : decode cX4_says 43 = .ok (.iconst 0, 1) := dk_3 (dk_at dksX4_says_1 20 rfl rfl)
theorem dX4_says_44 : decode cX4_says 44 = .ok (.invokevirtual 187, 3) := dk_182 0 187 (dk_at dksX4_says_1 21 rfl rfl)
theorem dX4_says_47 : decode cX4_says 47 = .ok (.iload_n 3, 1) := dk_29 (dk_at dksX4_says_2 0 rfl rfl)
theorem dX4_says_48 : decode cX4_says 48 = .ok (.ireturn, 1) := dk_172 (dk_at dksX4_says_2 1 rfl rfl)
abbrev cX4_isShip : ByteArray := prog_21_method_5_code
def yX4_isShip : MethodName := ⟨RX4, "isShip", "(I)Z"⟩
def dkwX4_isShip_0 : List UInt8 := [27, 3, 42, 180, 0, 9, 4, 46, 4, 100, 184, 0, 42, 172]
abbrev dktX4_isShip_0 : List UInt8 := dkwX4_isShip_0 ++ []
theorem dksX4_isShip_0 : cX4_isShip.data.toList.drop 0 = dktX4_isShip_0 := by decide +kernel
theorem dX4_isShip_0 : decode cX4_isShip 0 = .ok (.iload_n 1, 1) := dk_27 (dk_at dksX4_isShip_0 0 rfl rfl)
theorem dX4_isShip_1 : decode cX4_isShip 1 = .ok (.iconst 0, 1) := dk_3 (dk_at dksX4_isShip_0 1 rfl rfl)
theorem dX4_isShip_2 : decode cX4_isShip 2 = .ok (.aload_n 0, 1) := dk_42 (dk_at dksX4_isShip_0 2 rfl rfl)
theorem dX4_isShip_3 : decode cX4_isShip 3 = .ok (.getfield 9, 3) := dk_180 0 9 (dk_at dksX4_isShip_0 3 rfl rfl)
theorem dX4_isShip_6 : decode cX4_isShip 6 = .ok (.iconst 1, 1) := dk_4 (dk_at dksX4_isShip_0 6 rfl rfl)
theorem dX4_isShip_7 : decode cX4_isShip 7 = .ok (.iaload, 1) := dk_46 (dk_at dksX4_isShip_0 7 rfl rfl)
theorem dX4_isShip_8 : decode cX4_isShip 8 = .ok (.iconst 1, 1) := dk_4 (dk_at dksX4_isShip_0 8 rfl rfl)
theorem dX4_isShip_9 : decode cX4_isShip 9 = .ok (.isub, 1) := dk_100 (dk_at dksX4_isShip_0 9 rfl rfl)
theorem dX4_isShip_10 : decode cX4_isShip 10 = .ok (.invokestatic 42, 3) := dk_184 0 42 (dk_at dksX4_isShip_0 10 rfl rfl)
theorem dX4_isShip_13 : decode cX4_isShip 13 = .ok (.ireturn, 1) := dk_172 (dk_at dksX4_isShip_0 13 rfl rfl)
abbrev cX4_late : ByteArray := prog_21_method_39_code
def yX4_late : MethodName := ⟨RX4, "late", "(II)I"⟩
def dkwX4_late_2 : List UInt8 := [180, 0, 22, 6, 46, 96, 172]
abbrev dktX4_late_2 : List UInt8 := dkwX4_late_2 ++ []
def dkwX4_late_1 : List UInt8 := [27, 16, 10, 28, 104, 182, 0, 187, 42, 180, 0, 22, 4, 46, 42, 180, 0, 22, 5, 46, 96, 42]
abbrev dktX4_late_1 : List UInt8 := dkwX4_late_1 ++ dktX4_late_2
def dkwX4_late_0 : List UInt8 := [42, 27, 182, 0, 191, 154, 0, 5, 2, 172, 28, 3, 16, 99, 184, 0, 42, 154, 0, 6, 16, 254, 172, 42]
abbrev dktX4_late_0 : List UInt8 := dkwX4_late_0 ++ dktX4_late_1
theorem dksX4_late_0 : cX4_late.data.toList.drop 0 = dktX4_late_0 := by decide +kernel
theorem dksX4_late_1 : cX4_late.data.toList.drop 24 = dktX4_late_1 := dk_seg dksX4_late_0 24 rfl rfl
theorem dksX4_late_2 : cX4_late.data.toList.drop 46 = dktX4_late_2 := dk_seg dksX4_late_1 22 rfl rfl
theorem dX4_late_0 : decode cX4_late 0 = .ok (.aload_n 0, 1) := dk_42 (dk_at dksX4_late_0 0 rfl rfl)
theorem dX4_late_1 : decode cX4_late 1 = .ok (.iload_n 1, 1) := dk_27 (dk_at dksX4_late_0 1 rfl rfl)
theorem dX4_late_2 : decode cX4_late 2 = .ok (.invokevirtual 191, 3) := dk_182 0 191 (dk_at dksX4_late_0 2 rfl rfl)
theorem dX4_late_5 : decode cX4_late 5 = .ok (.ifCond .ne 5, 3) := dk_154 0 5 (dk_at dksX4_late_0 5 rfl rfl)
theorem dX4_late_8 : decode cX4_late 8 = .ok (.iconst (-1), 1) := dk_2 (dk_at dksX4_late_0 8 rfl rfl)
theorem dX4_late_9 : decode cX4_late 9 = .ok (.ireturn, 1) := dk_172 (dk_at dksX4_late_0 9 rfl rfl)
theorem dX4_late_10 : decode cX4_late 10 = .ok (.iload_n 2, 1) := dk_28 (dk_at dksX4_late_0 10 rfl rfl)
theorem dX4_late_11 : decode cX4_late 11 = .ok (.iconst 0, 1) := dk_3 (dk_at dksX4_late_0 11 rfl rfl)
theorem dX4_late_12 : decode cX4_late 12 = .ok (.bipush 99, 2) := dk_16 99 (dk_at dksX4_late_0 12 rfl rfl)
theorem dX4_late_14 : decode cX4_late 14 = .ok (.invokestatic 42, 3) := dk_184 0 42 (dk_at dksX4_late_0 14 rfl rfl)
theorem dX4_late_17 : decode cX4_late 17 = .ok (.ifCond .ne 6, 3) := dk_154 0 6 (dk_at dksX4_late_0 17 rfl rfl)
theorem dX4_late_20 : decode cX4_late 20 = .ok (.bipush (-2), 2) := dk_16 254 (dk_at dksX4_late_0 20 rfl rfl)
theorem dX4_late_22 : decode cX4_late 22 = .ok (.ireturn, 1) := dk_172 (dk_at dksX4_late_0 22 rfl rfl)
theorem dX4_late_23 : decode cX4_late 23 = .ok (.aload_n 0, 1) := dk_42 (dk_at dksX4_late_0 23 rfl rfl)
theorem dX4_late_24 : decode cX4_late 24 = .ok (.iload_n 1, 1) := dk_27 (dk_at dksX4_late_1 0 rfl rfl)
theorem dX4_late_25 : decode cX4_late 25 = .ok (.bipush 10, 2) := dk_16 10 (dk_at dksX4_late_1 1 rfl rfl)
theorem dX4_late_27 : decode cX4_late 27 = .ok (.iload_n 2, 1) := dk_28 (dk_at dksX4_late_1 3 rfl rfl)
theorem dX4_late_28 : decode cX4_late 28 = .ok (.imul, 1) := dk_104 (dk_at dksX4_late_1 4 rfl rfl)
theorem dX4_late_29 : decode cX4_late 29 = .ok (.invokevirtual 187, 3) := dk_182 0 187 (dk_at dksX4_late_1 5 rfl rfl)
theorem dX4_late_32 : decode cX4_late 32 = .ok (.aload_n 0, 1) := dk_42 (dk_at dksX4_late_1 8 rfl rfl)
theorem dX4_late_33 : decode cX4_late 33 = .ok (.getfield 22, 3) := dk_180 0 22 (dk_at dksX4_late_1 9 rfl rfl)
theorem dX4_late_36 : decode cX4_late 36 = .ok (.iconst 1, 1) := dk_4 (dk_at dksX4_late_1 12 rfl rfl)
theorem dX4_late_37 : decode cX4_late 37 = .ok (.iaload, 1) := dk_46 (dk_at dksX4_late_1 13 rfl rfl)
theorem dX4_late_38 : decode cX4_late 38 = .ok (.aload_n 0, 1) := dk_42 (dk_at dksX4_late_1 14 rfl rfl)
theorem dX4_late_39 : decode cX4_late 39 = .ok (.getfield 22, 3) := dk_180 0 22 (dk_at dksX4_late_1 15 rfl rfl)
theorem dX4_late_42 : decode cX4_late 42 = .ok (.iconst 2, 1) := dk_5 (dk_at dksX4_late_1 18 rfl rfl)
theorem dX4_late_43 : decode cX4_late 43 = .ok (.iaload, 1) := dk_46 (dk_at dksX4_late_1 19 rfl rfl)
theorem dX4_late_44 : decode cX4_late 44 = .ok (.iadd, 1) := dk_96 (dk_at dksX4_late_1 20 rfl rfl)
theorem dX4_late_45 : decode cX4_late 45 = .ok (.aload_n 0, 1) := dk_42 (dk_at dksX4_late_1 21 rfl rfl)
theorem dX4_late_46 : decode cX4_late 46 = .ok (.getfield 22, 3) := dk_180 0 22 (dk_at dksX4_late_2 0 rfl rfl)
theorem dX4_late_49 : decode cX4_late 49 = .ok (.iconst 3, 1) := dk_6 (dk_at dksX4_late_2 3 rfl rfl)
theorem dX4_late_50 : decode cX4_late 50 = .ok (.iaload, 1) := dk_46 (dk_at dksX4_late_2 4 rfl rfl)
theorem dX4_late_51 : decode cX4_late 51 = .ok (.iadd, 1) := dk_96 (dk_at dksX4_late_2 5 rfl rfl)
theorem dX4_late_52 : decode cX4_late 52 = .ok (.ireturn, 1) := dk_172 (dk_at dksX4_late_2 6 rfl rfl)
abbrev cX4_of : ByteArray := prog_21_method_40_code
def yX4_of : MethodName := ⟨RX4, "of", "(II)I"⟩
def dkwX4_of_5 : List UInt8 := [17, 3, 182, 7, 27, 104, 96, 28, 96, 46, 167, 0, 4, 2, 172]
abbrev dktX4_of_5 : List UInt8 := dkwX4_of_5 ++ []
def dkwX4_of_4 : List UInt8 := [180, 0, 9, 17, 3, 170, 27, 96, 46, 172, 28, 3, 6, 184, 0, 42, 153, 0, 20, 42, 180, 0, 9]
abbrev dktX4_of_4 : List UInt8 := dkwX4_of_4 ++ dktX4_of_5
def dkwX4_of_3 : List UInt8 := [180, 0, 9, 17, 3, 146, 27, 96, 46, 172, 42, 180, 0, 9, 17, 3, 158, 27, 96, 46, 172, 42]
abbrev dktX4_of_3 : List UInt8 := dkwX4_of_3 ++ dktX4_of_4
def dkwX4_of_2 : List UInt8 := [42, 180, 0, 9, 17, 3, 122, 27, 96, 46, 172, 42, 180, 0, 9, 17, 3, 134, 27, 96, 46, 172, 42]
abbrev dktX4_of_2 : List UInt8 := dkwX4_of_2 ++ dktX4_of_3
def dkwX4_of_1 : List UInt8 := [170, 0, 0, 0, 88, 0, 0, 0, 4, 0, 0, 0, 8, 0, 0, 0, 33, 0, 0, 0, 44, 0, 0, 0, 55, 0, 0, 0, 66, 0, 0, 0, 77]
abbrev dktX4_of_1 : List UInt8 := dkwX4_of_1 ++ dktX4_of_2
def dkwX4_of_0 : List UInt8 := [42, 27, 182, 0, 191, 154, 0, 5, 2, 172, 28]
abbrev dktX4_of_0 : List UInt8 := dkwX4_of_0 ++ dktX4_of_1
theorem dksX4_of_0 : cX4_of.data.toList.drop 0 = dktX4_of_0 := by decide +kernel
theorem dksX4_of_1 : cX4_of.data.toList.drop 11 = dktX4_of_1 := dk_seg dksX4_of_0 11 rfl rfl
theorem dksX4_of_2 : cX4_of.data.toList.drop 44 = dktX4_of_2 := dk_seg dksX4_of_1 33 rfl rfl
theorem dksX4_of_3 : cX4_of.data.toList.drop 67 = dktX4_of_3 := dk_seg dksX4_of_2 23 rfl rfl
theorem dksX4_of_4 : cX4_of.data.toList.drop 89 = dktX4_of_4 := dk_seg dksX4_of_3 22 rfl rfl
theorem dksX4_of_5 : cX4_of.data.toList.drop 112 = dktX4_of_5 := dk_seg dksX4_of_4 23 rfl rfl
theorem dX4_of_0 : decode cX4_of 0 = .ok (.aload_n 0, 1) := dk_42 (dk_at dksX4_of_0 0 rfl rfl)
theorem dX4_of_1 : decode cX4_of 1 = .ok (.iload_n 1, 1) := dk_27 (dk_at dksX4_of_0 1 rfl rfl)
theorem dX4_of_2 : decode cX4_of 2 = .ok (.invokevirtual 191, 3) := dk_182 0 191 (dk_at dksX4_of_0 2 rfl rfl)
theorem dX4_of_5 : decode cX4_of 5 = .ok (.ifCond .ne 5, 3) := dk_154 0 5 (dk_at dksX4_of_0 5 rfl rfl)
theorem dX4_of_8 : decode cX4_of 8 = .ok (.iconst (-1), 1) := dk_2 (dk_at dksX4_of_0 8 rfl rfl)
theorem dX4_of_9 : decode cX4_of 9 = .ok (.ireturn, 1) := dk_172 (dk_at dksX4_of_0 9 rfl rfl)
theorem dX4_of_10 : decode cX4_of 10 = .ok (.iload_n 2, 1) := dk_28 (dk_at dksX4_of_0 10 rfl rfl)
theorem dX4_of_11 : decode cX4_of 11 = .ok (.tableswitch 88 4 8 #[33, 44, 55, 66, 77], 33) := by decide +kernel
theorem dX4_of_44 : decode cX4_of 44 = .ok (.aload_n 0, 1) := dk_42 (dk_at dksX4_of_2 0 rfl rfl)
theorem dX4_of_45 : decode cX4_of 45 = .ok (.getfield 9, 3) := dk_180 0 9 (dk_at dksX4_of_2 1 rfl rfl)
theorem dX4_of_48 : decode cX4_of 48 = .ok (.sipush 890, 3) := dk_17 3 122 (dk_at dksX4_of_2 4 rfl rfl)
theorem dX4_of_51 : decode cX4_of 51 = .ok (.iload_n 1, 1) := dk_27 (dk_at dksX4_of_2 7 rfl rfl)
theorem dX4_of_52 : decode cX4_of 52 = .ok (.iadd, 1) := dk_96 (dk_at dksX4_of_2 8 rfl rfl)
theorem dX4_of_53 : decode cX4_of 53 = .ok (.iaload, 1) := dk_46 (dk_at dksX4_of_2 9 rfl rfl)
theorem dX4_of_54 : decode cX4_of 54 = .ok (.ireturn, 1) := dk_172 (dk_at dksX4_of_2 10 rfl rfl)
theorem dX4_of_55 : decode cX4_of 55 = .ok (.aload_n 0, 1) := dk_42 (dk_at dksX4_of_2 11 rfl rfl)
theorem dX4_of_56 : decode cX4_of 56 = .ok (.getfield 9, 3) := dk_180 0 9 (dk_at dksX4_of_2 12 rfl rfl)
theorem dX4_of_59 : decode cX4_of 59 = .ok (.sipush 902, 3) := dk_17 3 134 (dk_at dksX4_of_2 15 rfl rfl)
theorem dX4_of_62 : decode cX4_of 62 = .ok (.iload_n 1, 1) := dk_27 (dk_at dksX4_of_2 18 rfl rfl)
theorem dX4_of_63 : decode cX4_of 63 = .ok (.iadd, 1) := dk_96 (dk_at dksX4_of_2 19 rfl rfl)
theorem dX4_of_64 : decode cX4_of 64 = .ok (.iaload, 1) := dk_46 (dk_at dksX4_of_2 20 rfl rfl)
theorem dX4_of_65 : decode cX4_of 65 = .ok (.ireturn, 1) := dk_172 (dk_at dksX4_of_2 21 rfl rfl)
theorem dX4_of_66 : decode cX4_of 66 = .ok (.aload_n 0, 1) := dk_42 (dk_at dksX4_of_2 22 rfl rfl)
theorem dX4_of_67 : decode cX4_of 67 = .ok (.getfield 9, 3) := dk_180 0 9 (dk_at dksX4_of_3 0 rfl rfl)
theorem dX4_of_70 : decode cX4_of 70 = .ok (.sipush 914, 3) := dk_17 3 146 (dk_at dksX4_of_3 3 rfl rfl)
theorem dX4_of_73 : decode cX4_of 73 = .ok (.iload_n 1, 1) := dk_27 (dk_at dksX4_of_3 6 rfl rfl)
theorem dX4_of_74 : decode cX4_of 74 = .ok (.iadd, 1) := dk_96 (dk_at dksX4_of_3 7 rfl rfl)
theorem dX4_of_75 : decode cX4_of 75 = .ok (.iaload, 1) := dk_46 (dk_at dksX4_of_3 8 rfl rfl)
theorem dX4_of_76 : decode cX4_of 76 = .ok (.ireturn, 1) := dk_172 (dk_at dksX4_of_3 9 rfl rfl)
theorem dX4_of_77 : decode cX4_of 77 = .ok (.aload_n 0, 1) := dk_42 (dk_at dksX4_of_3 10 rfl rfl)
theorem dX4_of_78 : decode cX4_of 78 = .ok (.getfield 9, 3) := dk_180 0 9 (dk_at dksX4_of_3 11 rfl rfl)
theorem dX4_of_81 : decode cX4_of 81 = .ok (.sipush 926, 3) := dk_17 3 158 (dk_at dksX4_of_3 14 rfl rfl)
theorem dX4_of_84 : decode cX4_of 84 = .ok (.iload_n 1, 1) := dk_27 (dk_at dksX4_of_3 17 rfl rfl)
theorem dX4_of_85 : decode cX4_of 85 = .ok (.iadd, 1) := dk_96 (dk_at dksX4_of_3 18 rfl rfl)
theorem dX4_of_86 : decode cX4_of 86 = .ok (.iaload, 1) := dk_46 (dk_at dksX4_of_3 19 rfl rfl)
theorem dX4_of_87 : decode cX4_of 87 = .ok (.ireturn, 1) := dk_172 (dk_at dksX4_of_3 20 rfl rfl)
theorem dX4_of_88 : decode cX4_of 88 = .ok (.aload_n 0, 1) := dk_42 (dk_at dksX4_of_3 21 rfl rfl)
theorem dX4_of_89 : decode cX4_of 89 = .ok (.getfield 9, 3) := dk_180 0 9 (dk_at dksX4_of_4 0 rfl rfl)
theorem dX4_of_92 : decode cX4_of 92 = .ok (.sipush 938, 3) := dk_17 3 170 (dk_at dksX4_of_4 3 rfl rfl)
theorem dX4_of_95 : decode cX4_of 95 = .ok (.iload_n 1, 1) := dk_27 (dk_at dksX4_of_4 6 rfl rfl)
theorem dX4_of_96 : decode cX4_of 96 = .ok (.iadd, 1) := dk_96 (dk_at dksX4_of_4 7 rfl rfl)
theorem dX4_of_97 : decode cX4_of 97 = .ok (.iaload, 1) := dk_46 (dk_at dksX4_of_4 8 rfl rfl)
theorem dX4_of_98 : decode cX4_of 98 = .ok (.ireturn, 1) := dk_172 (dk_at dksX4_of_4 9 rfl rfl)
theorem dX4_of_99 : decode cX4_of 99 = .ok (.iload_n 2, 1) := dk_28 (dk_at dksX4_of_4 10 rfl rfl)
theorem dX4_of_100 : decode cX4_of 100 = .ok (.iconst 0, 1) := dk_3 (dk_at dksX4_of_4 11 rfl rfl)
theorem dX4_of_101 : decode cX4_of 101 = .ok (.iconst 3, 1) := dk_6 (dk_at dksX4_of_4 12 rfl rfl)
theorem dX4_of_102 : decode cX4_of 102 = .ok (.invokestatic 42, 3) := dk_184 0 42 (dk_at dksX4_of_4 13 rfl rfl)
theorem dX4_of_105 : decode cX4_of 105 = .ok (.ifCond .eq 20, 3) := dk_153 0 20 (dk_at dksX4_of_4 16 rfl rfl)
theorem dX4_of_108 : decode cX4_of 108 = .ok (.aload_n 0, 1) := dk_42 (dk_at dksX4_of_4 19 rfl rfl)
theorem dX4_of_109 : decode cX4_of 109 = .ok (.getfield 9, 3) := dk_180 0 9 (dk_at dksX4_of_4 20 rfl rfl)
theorem dX4_of_112 : decode cX4_of 112 = .ok (.sipush 950, 3) := dk_17 3 182 (dk_at dksX4_of_5 0 rfl rfl)
theorem dX4_of_115 : decode cX4_of 115 = .ok (.iconst 4, 1) := dk_7 (dk_at dksX4_of_5 3 rfl rfl)
theorem dX4_of_116 : decode cX4_of 116 = .ok (.iload_n 1, 1) := dk_27 (dk_at dksX4_of_5 4 rfl rfl)
theorem dX4_of_117 : decode cX4_of 117 = .ok (.imul, 1) := dk_104 (dk_at dksX4_of_5 5 rfl rfl)
theorem dX4_of_118 : decode cX4_of 118 = .ok (.iadd, 1) := dk_96 (dk_at dksX4_of_5 6 rfl rfl)
theorem dX4_of_119 : decode cX4_of 119 = .ok (.iload_n 2, 1) := dk_28 (dk_at dksX4_of_5 7 rfl rfl)
theorem dX4_of_120 : decode cX4_of 120 = .ok (.iadd, 1) := dk_96 (dk_at dksX4_of_5 8 rfl rfl)
theorem dX4_of_121 : decode cX4_of 121 = .ok (.iaload, 1) := dk_46 (dk_at dksX4_of_5 9 rfl rfl)
theorem dX4_of_122 : decode cX4_of 122 = .ok (.goto 4, 3) := dk_167 0 4 (dk_at dksX4_of_5 10 rfl rfl)
theorem dX4_of_125 : decode cX4_of 125 = .ok (.iconst (-1), 1) := dk_2 (dk_at dksX4_of_5 13 rfl rfl)
theorem dX4_of_126 : decode cX4_of 126 = .ok (.ireturn, 1) := dk_172 (dk_at dksX4_of_5 14 rfl rfl)
abbrev cX4_days : ByteArray := prog_21_method_41_code
def yX4_days : MethodName := ⟨RX4, "days", "(II)I"⟩
def dkwX4_days_2 : List UInt8 := [167, 255, 241, 42, 27, 182, 0, 184, 42, 180, 0, 9, 17, 3, 170, 27, 96, 92, 46, 28, 96, 79, 29, 172]
abbrev dktX4_days_2 : List UInt8 := dkwX4_days_2 ++ []
def dkwX4_days_1 : List UInt8 := [27, 182, 0, 178, 3, 62, 3, 54, 4, 21, 4, 28, 162, 0, 15, 42, 3, 182, 0, 194, 62, 132, 4, 1]
abbrev dktX4_days_1 : List UInt8 := dkwX4_days_1 ++ dktX4_days_2
def dkwX4_days_0 : List UInt8 := [42, 27, 182, 0, 191, 154, 0, 5, 2, 172, 28, 4, 16, 30, 184, 0, 42, 154, 0, 6, 16, 254, 172, 42]
abbrev dktX4_days_0 : List UInt8 := dkwX4_days_0 ++ dktX4_days_1
theorem dksX4_days_0 : cX4_days.data.toList.drop 0 = dktX4_days_0 := by decide +kernel
theorem dksX4_days_1 : cX4_days.data.toList.drop 24 = dktX4_days_1 := dk_seg dksX4_days_0 24 rfl rfl
theorem dksX4_days_2 : cX4_days.data.toList.drop 48 = dktX4_days_2 := dk_seg dksX4_days_1 24 rfl rfl
theorem dX4_days_0 : decode cX4_days 0 = .ok (.aload_n 0, 1) := dk_42 (dk_at dksX4_days_0 0 rfl rfl)
theorem dX4_days_1 : decode cX4_days 1 = .ok (.iload_n 1, 1) := dk_27 (dk_at dksX4_days_0 1 rfl rfl)
theorem dX4_days_2 : decode cX4_days 2 = .ok (.invokevirtual 191, 3) := dk_182 0 191 (dk_at dksX4_days_0 2 rfl rfl)
theorem dX4_days_5 : decode cX4_days 5 = .ok (.ifCond .ne 5, 3) := dk_154 0 5 (dk_at dksX4_days_0 5 rfl rfl)
theorem dX4_days_8 : decode cX4_days 8 = .ok (.iconst (-1), 1) := dk_2 (dk_at dksX4_days_0 8 rfl rfl)
theorem dX4_days_9 : decode cX4_days 9 = .ok (.ireturn, 1) := dk_172 (dk_at dksX4_days_0 9 rfl rfl)
theorem dX4_days_10 : decode cX4_days 10 = .ok (.iload_n 2, 1) := dk_28 (dk_at dksX4_days_0 10 rfl rfl)
theorem dX4_days_11 : decode cX4_days 11 = .ok (.iconst 1, 1) := dk_4 (dk_at dksX4_days_0 11 rfl rfl)
theorem dX4_days_12 : decode cX4_days 12 = .ok (.bipush 30, 2) := dk_16 30 (dk_at dksX4_days_0 12 rfl rfl)
theorem dX4_days_14 : decode cX4_days 14 = .ok (.invokestatic 42, 3) := dk_184 0 42 (dk_at dksX4_days_0 14 rfl rfl)
theorem dX4_days_17 : decode cX4_days 17 = .ok (.ifCond .ne 6, 3) := dk_154 0 6 (dk_at dksX4_days_0 17 rfl rfl)
theorem dX4_days_20 : decode cX4_days 20 = .ok (.bipush (-2), 2) := dk_16 254 (dk_at dksX4_days_0 20 rfl rfl)
theorem dX4_days_22 : decode cX4_days 22 = .ok (.ireturn, 1) := dk_172 (dk_at dksX4_days_0 22 rfl rfl)
theorem dX4_days_23 : decode cX4_days 23 = .ok (.aload_n 0, 1) := dk_42 (dk_at dksX4_days_0 23 rfl rfl)
theorem dX4_days_24 : decode cX4_days 24 = .ok (.iload_n 1, 1) := dk_27 (dk_at dksX4_days_1 0 rfl rfl)
theorem dX4_days_25 : decode cX4_days 25 = .ok (.invokevirtual 178, 3) := dk_182 0 178 (dk_at dksX4_days_1 1 rfl rfl)
theorem dX4_days_28 : decode cX4_days 28 = .ok (.iconst 0, 1) := dk_3 (dk_at dksX4_days_1 4 rfl rfl)
theorem dX4_days_29 : decode cX4_days 29 = .ok (.istore_n 3, 1) := dk_62 (dk_at dksX4_days_1 5 rfl rfl)
theorem dX4_days_30 : decode cX4_days 30 = .ok (.iconst 0, 1) := dk_3 (dk_at dksX4_days_1 6 rfl rfl)
theorem dX4_days_31 : decode cX4_days 31 = .ok (.istore 4, 2) := dk_54 4 (dk_at dksX4_days_1 7 rfl rfl)
theorem dX4_days_33 : decode cX4_days 33 = .ok (.iload 4, 2) := dk_21 4 (dk_at dksX4_days_1 9 rfl rfl)
theorem dX4_days_35 : decode cX4_days 35 = .ok (.iload_n 2, 1) := dk_28 (dk_at dksX4_days_1 11 rfl rfl)
theorem dX4_days_36 : decode cX4_days 36 = .ok (.if_icmp .ge 15, 3) := dk_162 0 15 (dk_at dksX4_days_1 12 rfl rfl)
theorem dX4_days_39 : decode cX4_days 39 = .ok (.aload_n 0, 1) := dk_42 (dk_at dksX4_days_1 15 rfl rfl)
theorem dX4_days_40 : decode cX4_days 40 = .ok (.iconst 0, 1) := dk_3 (dk_at dksX4_days_1 16 rfl rfl)
theorem dX4_days_41 : decode cX4_days 41 = .ok (.invokevirtual 194, 3) := dk_182 0 194 (dk_at dksX4_days_1 17 rfl rfl)
theorem dX4_days_44 : decode cX4_days 44 = .ok (.istore_n 3, 1) := dk_62 (dk_at dksX4_days_1 20 rfl rfl)
theorem dX4_days_45 : decode cX4_days 45 = .ok (.iinc 4 1, 3) := dk_132 4 1 (dk_at dksX4_days_1 21 rfl rfl)
theorem dX4_days_48 : decode cX4_days 48 = .ok (.goto (-15), 3) := dk_167 255 241 (dk_at dksX4_days_2 0 rfl rfl)
theorem dX4_days_51 : decode cX4_days 51 = .ok (.aload_n 0, 1) := dk_42 (dk_at dksX4_days_2 3 rfl rfl)
theorem dX4_days_52 : decode cX4_days 52 = .ok (.iload_n 1, 1) := dk_27 (dk_at dksX4_days_2 4 rfl rfl)
theorem dX4_days_53 : decode cX4_days 53 = .ok (.invokevirtual 184, 3) := dk_182 0 184 (dk_at dksX4_days_2 5 rfl rfl)
theorem dX4_days_56 : decode cX4_days 56 = .ok (.aload_n 0, 1) := dk_42 (dk_at dksX4_days_2 8 rfl rfl)
theorem dX4_days_57 : decode cX4_days 57 = .ok (.getfield 9, 3) := dk_180 0 9 (dk_at dksX4_days_2 9 rfl rfl)
theorem dX4_days_60 : decode cX4_days 60 = .ok (.sipush 938, 3) := dk_17 3 170 (dk_at dksX4_days_2 12 rfl rfl)
theorem dX4_days_63 : decode cX4_days 63 = .ok (.iload_n 1, 1) := dk_27 (dk_at dksX4_days_2 15 rfl rfl)
theorem dX4_days_64 : decode cX4_days 64 = .ok (.iadd, 1) := dk_96 (dk_at dksX4_days_2 16 rfl rfl)
theorem dX4_days_65 : decode cX4_days 65 = .ok (.dup2, 1) := dk_92 (dk_at dksX4_days_2 17 rfl rfl)
theorem dX4_days_66 : decode cX4_days 66 = .ok (.iaload, 1) := dk_46 (dk_at dksX4_days_2 18 rfl rfl)
theorem dX4_days_67 : decode cX4_days 67 = .ok (.iload_n 2, 1) := dk_28 (dk_at dksX4_days_2 19 rfl rfl)
theorem dX4_days_68 : decode cX4_days 68 = .ok (.iadd, 1) := dk_96 (dk_at dksX4_days_2 20 rfl rfl)
theorem dX4_days_69 : decode cX4_days 69 = .ok (.iastore, 1) := dk_79 (dk_at dksX4_days_2 21 rfl rfl)
theorem dX4_days_70 : decode cX4_days 70 = .ok (.iload_n 3, 1) := dk_29 (dk_at dksX4_days_2 22 rfl rfl)
theorem dX4_days_71 : decode cX4_days 71 = .ok (.ireturn, 1) := dk_172 (dk_at dksX4_days_2 23 rfl rfl)
abbrev cX4_aboard : ByteArray := prog_21_method_30_code
def yX4_aboard : MethodName := ⟨RX4, "aboard", "(I)I"⟩
def dkwX4_aboard_5 : List UInt8 := [132, 3, 1, 167, 255, 209, 42, 27, 182, 0, 168, 28, 172]
abbrev dktX4_aboard_5 : List UInt8 := dkwX4_aboard_5 ++ []
def dkwX4_aboard_4 : List UInt8 := [184, 0, 150, 136, 54, 4, 42, 180, 0, 22, 27, 29, 96, 92, 46, 21, 4, 100, 79, 28, 21, 4, 96, 61]
abbrev dktX4_aboard_4 : List UInt8 := dkwX4_aboard_4 ++ dktX4_aboard_5
def dkwX4_aboard_3 : List UInt8 := [3, 61, 4, 62, 29, 7, 162, 0, 48, 42, 180, 0, 22, 27, 29, 96, 46, 29, 42, 8, 182, 0, 164, 104]
abbrev dktX4_aboard_3 : List UInt8 := dkwX4_aboard_3 ++ dktX4_aboard_4
def dkwX4_aboard_2 : List UInt8 := [28, 96, 27, 28, 96, 4, 100, 28, 42, 16, 6, 182, 0, 164, 104, 182, 0, 158, 132, 2, 1, 167, 255, 228]
abbrev dktX4_aboard_2 : List UInt8 := dkwX4_aboard_2 ++ dktX4_aboard_3
def dkwX4_aboard_1 : List UInt8 := [42, 7, 182, 0, 164, 104, 182, 0, 158, 132, 2, 255, 167, 255, 222, 4, 61, 28, 7, 162, 0, 29, 42, 27]
abbrev dktX4_aboard_1 : List UInt8 := dkwX4_aboard_1 ++ dktX4_aboard_2
def dkwX4_aboard_0 : List UInt8 := [5, 61, 28, 158, 0, 36, 28, 42, 180, 0, 155, 162, 0, 22, 42, 27, 28, 96, 27, 28, 96, 4, 96, 28]
abbrev dktX4_aboard_0 : List UInt8 := dkwX4_aboard_0 ++ dktX4_aboard_1
theorem dksX4_aboard_0 : cX4_aboard.data.toList.drop 0 = dktX4_aboard_0 := by decide +kernel
theorem dksX4_aboard_1 : cX4_aboard.data.toList.drop 24 = dktX4_aboard_1 := dk_seg dksX4_aboard_0 24 rfl rfl
theorem dksX4_aboard_2 : cX4_aboard.data.toList.drop 48 = dktX4_aboard_2 := dk_seg dksX4_aboard_1 24 rfl rfl
theorem dksX4_aboard_3 : cX4_aboard.data.toList.drop 72 = dktX4_aboard_3 := dk_seg dksX4_aboard_2 24 rfl rfl
theorem dksX4_aboard_4 : cX4_aboard.data.toList.drop 96 = dktX4_aboard_4 := dk_seg dksX4_aboard_3 24 rfl rfl
theorem dksX4_aboard_5 : cX4_aboard.data.toList.drop 120 = dktX4_aboard_5 := dk_seg dksX4_aboard_4 24 rfl rfl
theorem dX4_aboard_0 : decode cX4_aboard 0 = .ok (.iconst 2, 1) := dk_5 (dk_at dksX4_aboard_0 0 rfl rfl)
theorem dX4_aboard_1 : decode cX4_aboard 1 = .ok (.istore_n 2, 1) := dk_61 (dk_at dksX4_aboard_0 1 rfl rfl)
theorem dX4_aboard_2 : decode cX4_aboard 2 = .ok (.iload_n 2, 1) := dk_28 (dk_at dksX4_aboard_0 2 rfl rfl)
theorem dX4_aboard_3 : decode cX4_aboard 3 = .ok (.ifCond .le 36, 3) := dk_158 0 36 (dk_at dksX4_aboard_0 3 rfl rfl)
theorem dX4_aboard_6 : decode cX4_aboard 6 = .ok (.iload_n 2, 1) := dk_28 (dk_at dksX4_aboard_0 6 rfl rfl)
theorem dX4_aboard_7 : decode cX4_aboard 7 = .ok (.aload_n 0, 1) := dk_42 (dk_at dksX4_aboard_0 7 rfl rfl)
theorem dX4_aboard_8 : decode cX4_aboard 8 = .ok (.getfield 155, 3) := dk_180 0 155 (dk_at dksX4_aboard_0 8 rfl rfl)
theorem dX4_aboard_11 : decode cX4_aboard 11 = .ok (.if_icmp .ge 22, 3) := dk_162 0 22 (dk_at dksX4_aboard_0 11 rfl rfl)
theorem dX4_aboard_14 : decode cX4_aboard 14 = .ok (.aload_n 0, 1) := dk_42 (dk_at dksX4_aboard_0 14 rfl rfl)
theorem dX4_aboard_15 : decode cX4_aboard 15 = .ok (.iload_n 1, 1) := dk_27 (dk_at dksX4_aboard_0 15 rfl rfl)
theorem dX4_aboard_16 : decode cX4_aboard 16 = .ok (.iload_n 2, 1) := dk_28 (dk_at dksX4_aboard_0 16 rfl rfl)
theorem dX4_aboard_17 : decode cX4_aboard 17 = .ok (.iadd, 1) := dk_96 (dk_at dksX4_aboard_0 17 rfl rfl)
theorem dX4_aboard_18 : decode cX4_aboard 18 = .ok (.iload_n 1, 1) := dk_27 (dk_at dksX4_aboard_0 18 rfl rfl)
theorem dX4_aboard_19 : decode cX4_aboard 19 = .ok (.iload_n 2, 1) := dk_28 (dk_at dksX4_aboard_0 19 rfl rfl)
theorem dX4_aboard_20 : decode cX4_aboard 20 = .ok (.iadd, 1) := dk_96 (dk_at dksX4_aboard_0 20 rfl rfl)
theorem dX4_aboard_21 : decode cX4_aboard 21 = .ok (.iconst 1, 1) := dk_4 (dk_at dksX4_aboard_0 21 rfl rfl)
theorem dX4_aboard_22 : decode cX4_aboard 22 = .ok (.iadd, 1) := dk_96 (dk_at dksX4_aboard_0 22 rfl rfl)
theorem dX4_aboard_23 : decode cX4_aboard 23 = .ok (.iload_n 2, 1) := dk_28 (dk_at dksX4_aboard_0 23 rfl rfl)
theorem dX4_aboard_24 : decode cX4_aboard 24 = .ok (.aload_n 0, 1) := dk_42 (dk_at dksX4_aboard_1 0 rfl rfl)
theorem dX4_aboard_25 : decode cX4_aboard 25 = .ok (.iconst 4, 1) := dk_7 (dk_at dksX4_aboard_1 1 rfl rfl)
theorem dX4_aboard_26 : decode cX4_aboard 26 = .ok (.invokevirtual 164, 3) := dk_182 0 164 (dk_at dksX4_aboard_1 2 rfl rfl)
theorem dX4_aboard_29 : decode cX4_aboard 29 = .ok (.imul, 1) := dk_104 (dk_at dksX4_aboard_1 5 rfl rfl)
theorem dX4_aboard_30 : decode cX4_aboard 30 = .ok (.invokevirtual 158, 3) := dk_182 0 158 (dk_at dksX4_aboard_1 6 rfl rfl)
theorem dX4_aboard_33 : decode cX4_aboard 33 = .ok (.iinc 2 (-1), 3) := dk_132 2 255 (dk_at dksX4_aboard_1 9 rfl rfl)
theorem dX4_aboard_36 : decode cX4_aboard 36 = .ok (.goto (-34), 3) := dk_167 255 222 (dk_at dksX4_aboard_1 12 rfl rfl)
theorem dX4_aboard_39 : decode cX4_aboard 39 = .ok (.iconst 1, 1) := dk_4 (dk_at dksX4_aboard_1 15 rfl rfl)
theorem dX4_aboard_40 : decode cX4_aboard 40 = .ok (.istore_n 2, 1) := dk_61 (dk_at dksX4_aboard_1 16 rfl rfl)
theorem dX4_aboard_41 : decode cX4_aboard 41 = .ok (.iload_n 2, 1) := dk_28 (dk_at dksX4_aboard_1 17 rfl rfl)
theorem dX4_aboard_42 : decode cX4_aboard 42 = .ok (.iconst 4, 1) := dk_7 (dk_at dksX4_aboard_1 18 rfl rfl)
theorem dX4_aboard_43 : decode cX4_aboard 43 = .ok (.if_icmp .ge 29, 3) := dk_162 0 29 (dk_at dksX4_aboard_1 19 rfl rfl)
theorem dX4_aboard_46 : decode cX4_aboard 46 = .ok (.aload_n 0, 1) := dk_42 (dk_at dksX4_aboard_1 22 rfl rfl)
theorem dX4_aboard_47 : decode cX4_aboard 47 = .ok (.iload_n 1, 1) := dk_27 (dk_at dksX4_aboard_1 23 rfl rfl)
theorem dX4_aboard_48 : decode cX4_aboard 48 = .ok (.iload_n 2, 1) := dk_28 (dk_at dksX4_aboard_2 0 rfl rfl)
theorem dX4_aboard_49 : decode cX4_aboard 49 = .ok (.iadd, 1) := dk_96 (dk_at dksX4_aboard_2 1 rfl rfl)
theorem dX4_aboard_50 : decode cX4_aboard 50 = .ok (.iload_n 1, 1) := dk_27 (dk_at dksX4_aboard_2 2 rfl rfl)
theorem dX4_aboard_51 : decode cX4_aboard 51 = .ok (.iload_n 2, 1) := dk_28 (dk_at dksX4_aboard_2 3 rfl rfl)
theorem dX4_aboard_52 : decode cX4_aboard 52 = .ok (.iadd, 1) := dk_96 (dk_at dksX4_aboard_2 4 rfl rfl)
theorem dX4_aboard_53 : decode cX4_aboard 53 = .ok (.iconst 1, 1) := dk_4 (dk_at dksX4_aboard_2 5 rfl rfl)
theorem dX4_aboard_54 : decode cX4_aboard 54 = .ok (.isub, 1) := dk_100 (dk_at dksX4_aboard_2 6 rfl rfl)
theorem dX4_aboard_55 : decode cX4_aboard 55 = .ok (.iload_n 2, 1) := dk_28 (dk_at dksX4_aboard_2 7 rfl rfl)
theorem dX4_aboard_56 : decode cX4_aboard 56 = .ok (.aload_n 0, 1) := dk_42 (dk_at dksX4_aboard_2 8 rfl rfl)
theorem dX4_aboard_57 : decode cX4_aboard 57 = .ok (.bipush 6, 2) := dk_16 6 (dk_at dksX4_aboard_2 9 rfl rfl)
theorem dX4_aboard_59 : decode cX4_aboard 59 = .ok (.invokevirtual 164, 3) := dk_182 0 164 (dk_at dksX4_aboard_2 11 rfl rfl)
theorem dX4_aboard_62 : decode cX4_aboard 62 = .ok (.imul, 1) := dk_104 (dk_at dksX4_aboard_2 14 rfl rfl)
theorem dX4_aboard_63 : decode cX4_aboard 63 = .ok (.invokevirtual 158, 3) := dk_182 0 158 (dk_at dksX4_aboard_2 15 rfl rfl)
theorem dX4_aboard_66 : decode cX4_aboard 66 = .ok (.iinc 2 1, 3) := dk_132 2 1 (dk_at dksX4_aboard_2 18 rfl rfl)
theorem dX4_aboard_69 : decode cX4_aboard 69 = .ok (.goto (-28), 3) := dk_167 255 228 (dk_at dksX4_aboard_2 21 rfl rfl)
theorem dX4_aboard_72 : decode cX4_aboard 72 = .ok (.iconst 0, 1) := dk_3 (dk_at dksX4_aboard_3 0 rfl rfl)
theorem dX4_aboard_73 : decode cX4_aboard 73 = .ok (.istore_n 2, 1) := dk_61 (dk_at dksX4_aboard_3 1 rfl rfl)
theorem dX4_aboard_74 : decode cX4_aboard 74 = .ok (.iconst 1, 1) := dk_4 (dk_at dksX4_aboard_3 2 rfl rfl)
theorem dX4_aboard_75 : decode cX4_aboard 75 = .ok (.istore_n 3, 1) := dk_62 (dk_at dksX4_aboard_3 3 rfl rfl)
theorem dX4_aboard_76 : decode cX4_aboard 76 = .ok (.iload_n 3, 1) := dk_29 (dk_at dksX4_aboard_3 4 rfl rfl)
theorem dX4_aboard_77 : decode cX4_aboard 77 = .ok (.iconst 4, 1) := dk_7 (dk_at dksX4_aboard_3 5 rfl rfl)
theorem dX4_aboard_78 : decode cX4_aboard 78 = .ok (.if_icmp .ge 48, 3) := dk_162 0 48 (dk_at dksX4_aboard_3 6 rfl rfl)
theorem dX4_aboard_81 : decode cX4_aboard 81 = .ok (.aload_n 0, 1) := dk_42 (dk_at dksX4_aboard_3 9 rfl rfl)
theorem dX4_aboard_82 : decode cX4_aboard 82 = .ok (.getfield 22, 3) := dk_180 0 22 (dk_at dksX4_aboard_3 10 rfl rfl)
theorem dX4_aboard_85 : decode cX4_aboard 85 = .ok (.iload_n 1, 1) := dk_27 (dk_at dksX4_aboard_3 13 rfl rfl)
theorem dX4_aboard_86 : decode cX4_aboard 86 = .ok (.iload_n 3, 1) := dk_29 (dk_at dksX4_aboard_3 14 rfl rfl)
theorem dX4_aboard_87 : decode cX4_aboard 87 = .ok (.iadd, 1) := dk_96 (dk_at dksX4_aboard_3 15 rfl rfl)
theorem dX4_aboard_88 : decode cX4_aboard 88 = .ok (.iaload, 1) := dk_46 (dk_at dksX4_aboard_3 16 rfl rfl)
theorem dX4_aboard_89 : decode cX4_aboard 89 = .ok (.iload_n 3, 1) := dk_29 (dk_at dksX4_aboard_3 17 rfl rfl)
theorem dX4_aboard_90 : decode cX4_aboard 90 = .ok (.aload_n 0, 1) := dk_42 (dk_at dksX4_aboard_3 18 rfl rfl)
theorem dX4_aboard_91 : decode cX4_aboard 91 = .ok (.iconst 5, 1) := dk_8 (dk_at dksX4_aboard_3 19 rfl rfl)
theorem dX4_aboard_92 : decode cX4_aboard 92 = .ok (.invokevirtual 164, 3) := dk_182 0 164 (dk_at dksX4_aboard_3 20 rfl rfl)
theorem dX4_aboard_95 : decode cX4_aboard 95 = .ok (.imul, 1) := dk_104 (dk_at dksX4_aboard_3 23 rfl rfl)
theorem dX4_aboard_96 : decode cX4_aboard 96 = .ok (.invokestatic 150, 3) := dk_184 0 150 (dk_at dksX4_aboard_4 0 rfl rfl)
theorem dX4_aboard_99 : decode cX4_aboard 99 = .ok (.l2i, 1) := dk_136 (dk_at dksX4_aboard_4 3 rfl rfl)
theorem dX4_aboard_100 : decode cX4_aboard 100 = .ok (.istore 4, 2) := dk_54 4 (dk_at dksX4_aboard_4 4 rfl rfl)
theorem dX4_aboard_102 : decode cX4_aboard 102 = .ok (.aload_n 0, 1) := dk_42 (dk_at dksX4_aboard_4 6 rfl rfl)
theorem dX4_aboard_103 : decode cX4_aboard 103 = .ok (.getfield 22, 3) := dk_180 0 22 (dk_at dksX4_aboard_4 7 rfl rfl)
theorem dX4_aboard_106 : decode cX4_aboard 106 = .ok (.iload_n 1, 1) := dk_27 (dk_at dksX4_aboard_4 10 rfl rfl)
theorem dX4_aboard_107 : decode cX4_aboard 107 = .ok (.iload_n 3, 1) := dk_29 (dk_at dksX4_aboard_4 11 rfl rfl)
theorem dX4_aboard_108 : decode cX4_aboard 108 = .ok (.iadd, 1) := dk_96 (dk_at dksX4_aboard_4 12 rfl rfl)
theorem dX4_aboard_109 : decode cX4_aboard 109 = .ok (.dup2, 1) := dk_92 (dk_at dksX4_aboard_4 13 rfl rfl)
theorem dX4_aboard_110 : decode cX4_aboard 110 = .ok (.iaload, 1) := dk_46 (dk_at dksX4_aboard_4 14 rfl rfl)
theorem dX4_aboard_111 : decode cX4_aboard 111 = .ok (.iload 4, 2) := dk_21 4 (dk_at dksX4_aboard_4 15 rfl rfl)
theorem dX4_aboard_113 : decode cX4_aboard 113 = .ok (.isub, 1) := dk_100 (dk_at dksX4_aboard_4 17 rfl rfl)
theorem dX4_aboard_114 : decode cX4_aboard 114 = .ok (.iastore, 1) := dk_79 (dk_at dksX4_aboard_4 18 rfl rfl)
theorem dX4_aboard_115 : decode cX4_aboard 115 = .ok (.iload_n 2, 1) := dk_28 (dk_at dksX4_aboard_4 19 rfl rfl)
theorem dX4_aboard_116 : decode cX4_aboard 116 = .ok (.iload 4, 2) := dk_21 4 (dk_at dksX4_aboard_4 20 rfl rfl)
theorem dX4_aboard_118 : decode cX4_aboard 118 = .ok (.iadd, 1) := dk_96 (dk_at dksX4_aboard_4 22 rfl rfl)
theorem dX4_aboard_119 : decode cX4_aboard 119 = .ok (.istore_n 2, 1) := dk_61 (dk_at dksX4_aboard_4 23 rfl rfl)
theorem dX4_aboard_120 : decode cX4_aboard 120 = .ok (.iinc 3 1, 3) := dk_132 3 1 (dk_at dksX4_aboard_5 0 rfl rfl)
theorem dX4_aboard_123 : decode cX4_aboard 123 = .ok (.goto (-47), 3) := dk_167 255 209 (dk_at dksX4_aboard_5 3 rfl rfl)
theorem dX4_aboard_126 : decode cX4_aboard 126 = .ok (.aload_n 0, 1) := dk_42 (dk_at dksX4_aboard_5 6 rfl rfl)
theorem dX4_aboard_127 : decode cX4_aboard 127 = .ok (.iload_n 1, 1) := dk_27 (dk_at dksX4_aboard_5 7 rfl rfl)
theorem dX4_aboard_128 : decode cX4_aboard 128 = .ok (.invokevirtual 168, 3) := dk_182 0 168 (dk_at dksX4_aboard_5 8 rfl rfl)
theorem dX4_aboard_131 : decode cX4_aboard 131 = .ok (.iload_n 2, 1) := dk_28 (dk_at dksX4_aboard_5 11 rfl rfl)
theorem dX4_aboard_132 : decode cX4_aboard 132 = .ok (.ireturn, 1) := dk_172 (dk_at dksX4_aboard_5 12 rfl rfl)
abbrev cX4_chance : ByteArray := prog_21_method_25_code
def yX4_chance : MethodName := ⟨RX4, "chance", "(I)I"⟩
def dkwX4_chance_1 : List UInt8 := [28, 42, 180, 0, 145, 96, 167, 0, 4, 28, 172]
abbrev dktX4_chance_1 : List UInt8 := dkwX4_chance_1 ++ []
def dkwX4_chance_0 : List UInt8 := [42, 180, 0, 9, 17, 0, 130, 16, 10, 42, 180, 0, 142, 104, 96, 27, 96, 46, 61, 27, 7, 160, 0, 12]
abbrev dktX4_chance_0 : List UInt8 := dkwX4_chance_0 ++ dktX4_chance_1
theorem dksX4_chance_0 : cX4_chance.data.toList.drop 0 = dktX4_chance_0 := by decide +kernel
theorem dksX4_chance_1 : cX4_chance.data.toList.drop 24 = dktX4_chance_1 := dk_seg dksX4_chance_0 24 rfl rfl
theorem dX4_chance_0 : decode cX4_chance 0 = .ok (.aload_n 0, 1) := dk_42 (dk_at dksX4_chance_0 0 rfl rfl)
theorem dX4_chance_1 : decode cX4_chance 1 = .ok (.getfield 9, 3) := dk_180 0 9 (dk_at dksX4_chance_0 1 rfl rfl)
theorem dX4_chance_4 : decode cX4_chance 4 = .ok (.sipush 130, 3) := dk_17 0 130 (dk_at dksX4_chance_0 4 rfl rfl)
theorem dX4_chance_7 : decode cX4_chance 7 = .ok (.bipush 10, 2) := dk_16 10 (dk_at dksX4_chance_0 7 rfl rfl)
theorem dX4_chance_9 : decode cX4_chance 9 = .ok (.aload_n 0, 1) := dk_42 (dk_at dksX4_chance_0 9 rfl rfl)
theorem dX4_chance_10 : decode cX4_chance 10 = .ok (.getfield 142, 3) := dk_180 0 142 (dk_at dksX4_chance_0 10 rfl rfl)
theorem dX4_chance_13 : decode cX4_chance 13 = .ok (.imul, 1) := dk_104 (dk_at dksX4_chance_0 13 rfl rfl)
theorem dX4_chance_14 : decode cX4_chance 14 = .ok (.iadd, 1) := dk_96 (dk_at dksX4_chance_0 14 rfl rfl)
theorem dX4_chance_15 : decode cX4_chance 15 = .ok (.iload_n 1, 1) := dk_27 (dk_at dksX4_chance_0 15 rfl rfl)
theorem dX4_chance_16 : decode cX4_chance 16 = .ok (.iadd, 1) := dk_96 (dk_at dksX4_chance_0 16 rfl rfl)
theorem dX4_chance_17 : decode cX4_chance 17 = .ok (.iaload, 1) := dk_46 (dk_at dksX4_chance_0 17 rfl rfl)
theorem dX4_chance_18 : decode cX4_chance 18 = .ok (.istore_n 2, 1) := dk_61 (dk_at dksX4_chance_0 18 rfl rfl)
theorem dX4_chance_19 : decode cX4_chance 19 = .ok (.iload_n 1, 1) := dk_27 (dk_at dksX4_chance_0 19 rfl rfl)
theorem dX4_chance_20 : decode cX4_chance 20 = .ok (.iconst 4, 1) := dk_7 (dk_at dksX4_chance_0 20 rfl rfl)
theorem dX4_chance_21 : decode cX4_chance 21 = .ok (.if_icmp .ne 12, 3) := dk_160 0 12 (dk_at dksX4_chance_0 21 rfl rfl)
theorem dX4_chance_24 : decode cX4_chance 24 = .ok (.iload_n 2, 1) := dk_28 (dk_at dksX4_chance_1 0 rfl rfl)
theorem dX4_chance_25 : decode cX4_chance 25 = .ok (.aload_n 0, 1) := dk_42 (dk_at dksX4_chance_1 1 rfl rfl)
theorem dX4_chance_26 : decode cX4_chance 26 = .ok (.getfield 145, 3) := dk_180 0 145 (dk_at dksX4_chance_1 2 rfl rfl)
theorem dX4_chance_29 : decode cX4_chance 29 = .ok (.iadd, 1) := dk_96 (dk_at dksX4_chance_1 5 rfl rfl)
theorem dX4_chance_30 : decode cX4_chance 30 = .ok (.goto 4, 3) := dk_167 0 4 (dk_at dksX4_chance_1 6 rfl rfl)
theorem dX4_chance_33 : decode cX4_chance 33 = .ok (.iload_n 2, 1) := dk_28 (dk_at dksX4_chance_1 9 rfl rfl)
theorem dX4_chance_34 : decode cX4_chance 34 = .ok (.ireturn, 1) := dk_172 (dk_at dksX4_chance_1 10 rfl rfl)
abbrev cX4_led : ByteArray := prog_21_method_29_code
def yX4_led : MethodName := ⟨RX4, "led", "(I)V"⟩
def dkwX4_led_5 : List UInt8 := [100, 96, 79, 177]
abbrev dktX4_led_5 : List UInt8 := dkwX4_led_5 ++ []
def dkwX4_led_4 : List UInt8 := [21, 5, 96, 46, 96, 54, 4, 132, 5, 1, 167, 255, 197, 42, 180, 0, 22, 27, 92, 46, 18, 154, 21, 4]
abbrev dktX4_led_4 : List UInt8 := dkwX4_led_4 ++ dktX4_led_5
def dkwX4_led_3 : List UInt8 := [180, 0, 22, 27, 21, 5, 96, 46, 133, 20, 0, 162, 105, 32, 109, 136, 79, 21, 4, 42, 180, 0, 22, 27]
abbrev dktX4_led_3 : List UInt8 := dkwX4_led_3 ++ dktX4_led_4
def dkwX4_led_2 : List UInt8 := [162, 0, 59, 42, 180, 0, 22, 27, 21, 5, 96, 32, 9, 148, 154, 0, 7, 3, 167, 0, 20, 42]
abbrev dktX4_led_2 : List UInt8 := dkwX4_led_2 ++ dktX4_led_3
def dkwX4_led_1 : List UInt8 := [46, 133, 97, 42, 180, 0, 22, 27, 6, 96, 46, 133, 97, 65, 3, 54, 4, 3, 54, 5, 21, 5, 7]
abbrev dktX4_led_1 : List UInt8 := dkwX4_led_1 ++ dktX4_led_2
def dkwX4_led_0 : List UInt8 := [42, 180, 0, 22, 27, 46, 133, 42, 180, 0, 22, 27, 4, 96, 46, 133, 97, 42, 180, 0, 22, 27, 5, 96]
abbrev dktX4_led_0 : List UInt8 := dkwX4_led_0 ++ dktX4_led_1
theorem dksX4_led_0 : cX4_led.data.toList.drop 0 = dktX4_led_0 := by decide +kernel
theorem dksX4_led_1 : cX4_led.data.toList.drop 24 = dktX4_led_1 := dk_seg dksX4_led_0 24 rfl rfl
theorem dksX4_led_2 : cX4_led.data.toList.drop 47 = dktX4_led_2 := dk_seg dksX4_led_1 23 rfl rfl
theorem dksX4_led_3 : cX4_led.data.toList.drop 69 = dktX4_led_3 := dk_seg dksX4_led_2 22 rfl rfl
theorem dksX4_led_4 : cX4_led.data.toList.drop 93 = dktX4_led_4 := dk_seg dksX4_led_3 24 rfl rfl
theorem dksX4_led_5 : cX4_led.data.toList.drop 117 = dktX4_led_5 := dk_seg dksX4_led_4 24 rfl rfl
theorem dX4_led_0 : decode cX4_led 0 = .ok (.aload_n 0, 1) := dk_42 (dk_at dksX4_led_0 0 rfl rfl)
theorem dX4_led_1 : decode cX4_led 1 = .ok (.getfield 22, 3) := dk_180 0 22 (dk_at dksX4_led_0 1 rfl rfl)
theorem dX4_led_4 : decode cX4_led 4 = .ok (.iload_n 1, 1) := dk_27 (dk_at dksX4_led_0 4 rfl rfl)
theorem dX4_led_5 : decode cX4_led 5 = .ok (.iaload, 1) := dk_46 (dk_at dksX4_led_0 5 rfl rfl)
theorem dX4_led_6 : decode cX4_led 6 = .ok (.i2l, 1) := dk_133 (dk_at dksX4_led_0 6 rfl rfl)
theorem dX4_led_7 : decode cX4_led 7 = .ok (.aload_n 0, 1) := dk_42 (dk_at dksX4_led_0 7 rfl rfl)
theorem dX4_led_8 : decode cX4_led 8 = .ok (.getfield 22, 3) := dk_180 0 22 (dk_at dksX4_led_0 8 rfl rfl)
theorem dX4_led_11 : decode cX4_led 11 = .ok (.iload_n 1, 1) := dk_27 (dk_at dksX4_led_0 11 rfl rfl)
theorem dX4_led_12 : decode cX4_led 12 = .ok (.iconst 1, 1) := dk_4 (dk_at dksX4_led_0 12 rfl rfl)
theorem dX4_led_13 : decode cX4_led 13 = .ok (.iadd, 1) := dk_96 (dk_at dksX4_led_0 13 rfl rfl)
theorem dX4_led_14 : decode cX4_led 14 = .ok (.iaload, 1) := dk_46 (dk_at dksX4_led_0 14 rfl rfl)
theorem dX4_led_15 : decode cX4_led 15 = .ok (.i2l, 1) := dk_133 (dk_at dksX4_led_0 15 rfl rfl)
theorem dX4_led_16 : decode cX4_led 16 = .ok (.ladd, 1) := dk_97 (dk_at dksX4_led_0 16 rfl rfl)
theorem dX4_led_17 : decode cX4_led 17 = .ok (.aload_n 0, 1) := dk_42 (dk_at dksX4_led_0 17 rfl rfl)
theorem dX4_led_18 : decode cX4_led 18 = .ok (.getfield 22, 3) := dk_180 0 22 (dk_at dksX4_led_0 18 rfl rfl)
theorem dX4_led_21 : decode cX4_led 21 = .ok (.iload_n 1, 1) := dk_27 (dk_at dksX4_led_0 21 rfl rfl)
theorem dX4_led_22 : decode cX4_led 22 = .ok (.iconst 2, 1) := dk_5 (dk_at dksX4_led_0 22 rfl rfl)
theorem dX4_led_23 : decode cX4_led 23 = .ok (.iadd, 1) := dk_96 (dk_at dksX4_led_0 23 rfl rfl)
theorem dX4_led_24 : decode cX4_led 24 = .ok (.iaload, 1) := dk_46 (dk_at dksX4_led_1 0 rfl rfl)
theorem dX4_led_25 : decode cX4_led 25 = .ok (.i2l, 1) := dk_133 (dk_at dksX4_led_1 1 rfl rfl)
theorem dX4_led_26 : decode cX4_led 26 = .ok (.ladd, 1) := dk_97 (dk_at dksX4_led_1 2 rfl rfl)
theorem dX4_led_27 : decode cX4_led 27 = .ok (.aload_n 0, 1) := dk_42 (dk_at dksX4_led_1 3 rfl rfl)
theorem dX4_led_28 : decode cX4_led 28 = .ok (.getfield 22, 3) := dk_180 0 22 (dk_at dksX4_led_1 4 rfl rfl)
theorem dX4_led_31 : decode cX4_led 31 = .ok (.iload_n 1, 1) := dk_27 (dk_at dksX4_led_1 7 rfl rfl)
theorem dX4_led_32 : decode cX4_led 32 = .ok (.iconst 3, 1) := dk_6 (dk_at dksX4_led_1 8 rfl rfl)
theorem dX4_led_33 : decode cX4_led 33 = .ok (.iadd, 1) := dk_96 (dk_at dksX4_led_1 9 rfl rfl)
theorem dX4_led_34 : decode cX4_led 34 = .ok (.iaload, 1) := dk_46 (dk_at dksX4_led_1 10 rfl rfl)
theorem dX4_led_35 : decode cX4_led 35 = .ok (.i2l, 1) := dk_133 (dk_at dksX4_led_1 11 rfl rfl)
theorem dX4_led_36 : decode cX4_led 36 = .ok (.ladd, 1) := dk_97 (dk_at dksX4_led_1 12 rfl rfl)
theorem dX4_led_37 : decode cX4_led 37 = .ok (.lstore_n 2, 1) := dk_65 (dk_at dksX4_led_1 13 rfl rfl)
theorem dX4_led_38 : decode cX4_led 38 = .ok (.iconst 0, 1) := dk_3 (dk_at dksX4_led_1 14 rfl rfl)
theorem dX4_led_39 : decode cX4_led 39 = .ok (.istore 4, 2) := dk_54 4 (dk_at dksX4_led_1 15 rfl rfl)
theorem dX4_led_41 : decode cX4_led 41 = .ok (.iconst 0, 1) := dk_3 (dk_at dksX4_led_1 17 rfl rfl)
theorem dX4_led_42 : decode cX4_led 42 = .ok (.istore 5, 2) := dk_54 5 (dk_at dksX4_led_1 18 rfl rfl)
theorem dX4_led_44 : decode cX4_led 44 = .ok (.iload 5, 2) := dk_21 5 (dk_at dksX4_led_1 20 rfl rfl)
theorem dX4_led_46 : decode cX4_led 46 = .ok (.iconst 4, 1) := dk_7 (dk_at dksX4_led_1 22 rfl rfl)
theorem dX4_led_47 : decode cX4_led 47 = .ok (.if_icmp .ge 59, 3) := dk_162 0 59 (dk_at dksX4_led_2 0 rfl rfl)
theorem dX4_led_50 : decode cX4_led 50 = .ok (.aload_n 0, 1) := dk_42 (dk_at dksX4_led_2 3 rfl rfl)
theorem dX4_led_51 : decode cX4_led 51 = .ok (.getfield 22, 3) := dk_180 0 22 (dk_at dksX4_led_2 4 rfl rfl)
theorem dX4_led_54 : decode cX4_led 54 = .ok (.iload_n 1, 1) := dk_27 (dk_at dksX4_led_2 7 rfl rfl)
theorem dX4_led_55 : decode cX4_led 55 = .ok (.iload 5, 2) := dk_21 5 (dk_at dksX4_led_2 8 rfl rfl)
theorem dX4_led_57 : decode cX4_led 57 = .ok (.iadd, 1) := dk_96 (dk_at dksX4_led_2 10 rfl rfl)
theorem dX4_led_58 : decode cX4_led 58 = .ok (.lload_n 2, 1) := dk_32 (dk_at dksX4_led_2 11 rfl rfl)
theorem dX4_led_59 : decode cX4_led 59 = .ok (.lconst 0, 1) := dk_9 (dk_at dksX4_led_2 12 rfl rfl)
theorem dX4_led_60 : decode cX4_led 60 = .ok (.lcmp, 1) := dk_148 (dk_at dksX4_led_2 13 rfl rfl)
theorem dX4_led_61 : decode cX4_led 61 = .ok (.ifCond .ne 7, 3) := dk_154 0 7 (dk_at dksX4_led_2 14 rfl rfl)
theorem dX4_led_64 : decode cX4_led 64 = .ok (.iconst 0, 1) := dk_3 (dk_at dksX4_led_2 17 rfl rfl)
theorem dX4_led_65 : decode cX4_led 65 = .ok (.goto 20, 3) := dk_167 0 20 (dk_at dksX4_led_2 18 rfl rfl)
theorem dX4_led_68 : decode cX4_led 68 = .ok (.aload_n 0, 1) := dk_42 (dk_at dksX4_led_2 21 rfl rfl)
theorem dX4_led_69 : decode cX4_led 69 = .ok (.getfield 22, 3) := dk_180 0 22 (dk_at dksX4_led_3 0 rfl rfl)
theorem dX4_led_72 : decode cX4_led 72 = .ok (.iload_n 1, 1) := dk_27 (dk_at dksX4_led_3 3 rfl rfl)
theorem dX4_led_73 : decode cX4_led 73 = .ok (.iload 5, 2) := dk_21 5 (dk_at dksX4_led_3 4 rfl rfl)
theorem dX4_led_75 : decode cX4_led 75 = .ok (.iadd, 1) := dk_96 (dk_at dksX4_led_3 6 rfl rfl)
theorem dX4_led_76 : decode cX4_led 76 = .ok (.iaload, 1) := dk_46 (dk_at dksX4_led_3 7 rfl rfl)
theorem dX4_led_77 : decode cX4_led 77 = .ok (.i2l, 1) := dk_133 (dk_at dksX4_led_3 8 rfl rfl)
theorem dX4_led_78 : decode cX4_led 78 = .ok (.ldc2_w 162, 3) := dk_20 0 162 (dk_at dksX4_led_3 9 rfl rfl)
theorem dX4_led_81 : decode cX4_led 81 = .ok (.lmul, 1) := dk_105 (dk_at dksX4_led_3 12 rfl rfl)
theorem dX4_led_82 : decode cX4_led 82 = .ok (.lload_n 2, 1) := dk_32 (dk_at dksX4_led_3 13 rfl rfl)
theorem dX4_led_83 : decode cX4_led 83 = .ok (.ldiv, 1) := dk_109 (dk_at dksX4_led_3 14 rfl rfl)
theorem dX4_led_84 : decode cX4_led 84 = .ok (.l2i, 1) := dk_136 (dk_at dksX4_led_3 15 rfl rfl)
theorem dX4_led_85 : decode cX4_led 85 = .ok (.iastore, 1) := dk_79 (dk_at dksX4_led_3 16 rfl rfl)
theorem dX4_led_86 : decode cX4_led 86 = .ok (.iload 4, 2) := dk_21 4 (dk_at dksX4_led_3 17 rfl rfl)
theorem dX4_led_88 : decode cX4_led 88 = .ok (.aload_n 0, 1) := dk_42 (dk_at dksX4_led_3 19 rfl rfl)
theorem dX4_led_89 : decode cX4_led 89 = .ok (.getfield 22, 3) := dk_180 0 22 (dk_at dksX4_led_3 20 rfl rfl)
theorem dX4_led_92 : decode cX4_led 92 = .ok (.iload_n 1, 1) := dk_27 (dk_at dksX4_led_3 23 rfl rfl)
theorem dX4_led_93 : decode cX4_led 93 = .ok (.iload 5, 2) := dk_21 5 (dk_at dksX4_led_4 0 rfl rfl)
theorem dX4_led_95 : decode cX4_led 95 = .ok (.iadd, 1) := dk_96 (dk_at dksX4_led_4 2 rfl rfl)
theorem dX4_led_96 : decode cX4_led 96 = .ok (.iaload, 1) := dk_46 (dk_at dksX4_led_4 3 rfl rfl)
theorem dX4_led_97 : decode cX4_led 97 = .ok (.iadd, 1) := dk_96 (dk_at dksX4_led_4 4 rfl rfl)
theorem dX4_led_98 : decode cX4_led 98 = .ok (.istore 4, 2) := dk_54 4 (dk_at dksX4_led_4 5 rfl rfl)
theorem dX4_led_100 : decode cX4_led 100 = .ok (.iinc 5 1, 3) := dk_132 5 1 (dk_at dksX4_led_4 7 rfl rfl)
theorem dX4_led_103 : decode cX4_led 103 = .ok (.goto (-59), 3) := dk_167 255 197 (dk_at dksX4_led_4 10 rfl rfl)
theorem dX4_led_106 : decode cX4_led 106 = .ok (.aload_n 0, 1) := dk_42 (dk_at dksX4_led_4 13 rfl rfl)
theorem dX4_led_107 : decode cX4_led 107 = .ok (.getfield 22, 3) := dk_180 0 22 (dk_at dksX4_led_4 14 rfl rfl)
theorem dX4_led_110 : decode cX4_led 110 = .ok (.iload_n 1, 1) := dk_27 (dk_at dksX4_led_4 17 rfl rfl)
theorem dX4_led_111 : decode cX4_led 111 = .ok (.dup2, 1) := dk_92 (dk_at dksX4_led_4 18 rfl rfl)
theorem dX4_led_112 : decode cX4_led 112 = .ok (.iaload, 1) := dk_46 (dk_at dksX4_led_4 19 rfl rfl)
theorem dX4_led_113 : decode cX4_led 113 = .ok (.ldc 154, 2) := dk_18 154 (dk_at dksX4_led_4 20 rfl rfl)
theorem dX4_led_115 : decode cX4_led 115 = .ok (.iload 4, 2) := dk_21 4 (dk_at dksX4_led_4 22 rfl rfl)
theorem dX4_led_117 : decode cX4_led 117 = .ok (.isub, 1) := dk_100 (dk_at dksX4_led_5 0 rfl rfl)
theorem dX4_led_118 : decode cX4_led 118 = .ok (.iadd, 1) := dk_96 (dk_at dksX4_led_5 1 rfl rfl)
theorem dX4_led_119 : decode cX4_led 119 = .ok (.iastore, 1) := dk_79 (dk_at dksX4_led_5 2 rfl rfl)
theorem dX4_led_120 : decode cX4_led 120 = .ok (.return_, 1) := dk_177 (dk_at dksX4_led_5 3 rfl rfl)
abbrev cX4_look : ByteArray := prog_21_method_42_code
def yX4_look : MethodName := ⟨RX4, "look", "(I)I"⟩
def dkwX4_look_1 : List UInt8 := [182, 0, 184, 28, 172]
abbrev dktX4_look_1 : List UInt8 := dkwX4_look_1 ++ []
def dkwX4_look_0 : List UInt8 := [42, 27, 182, 0, 191, 154, 0, 5, 2, 172, 42, 27, 182, 0, 178, 42, 3, 182, 0, 197, 61, 42, 27]
abbrev dktX4_look_0 : List UInt8 := dkwX4_look_0 ++ dktX4_look_1
theorem dksX4_look_0 : cX4_look.data.toList.drop 0 = dktX4_look_0 := by decide +kernel
theorem dksX4_look_1 : cX4_look.data.toList.drop 23 = dktX4_look_1 := dk_seg dksX4_look_0 23 rfl rfl
theorem dX4_look_0 : decode cX4_look 0 = .ok (.aload_n 0, 1) := dk_42 (dk_at dksX4_look_0 0 rfl rfl)
theorem dX4_look_1 : decode cX4_look 1 = .ok (.iload_n 1, 1) := dk_27 (dk_at dksX4_look_0 1 rfl rfl)
theorem dX4_look_2 : decode cX4_look 2 = .ok (.invokevirtual 191, 3) := dk_182 0 191 (dk_at dksX4_look_0 2 rfl rfl)
theorem dX4_look_5 : decode cX4_look 5 = .ok (.ifCond .ne 5, 3) := dk_154 0 5 (dk_at dksX4_look_0 5 rfl rfl)
theorem dX4_look_8 : decode cX4_look 8 = .ok (.iconst (-1), 1) := dk_2 (dk_at dksX4_look_0 8 rfl rfl)
theorem dX4_look_9 : decode cX4_look 9 = .ok (.ireturn, 1) := dk_172 (dk_at dksX4_look_0 9 rfl rfl)
theorem dX4_look_10 : decode cX4_look 10 = .ok (.aload_n 0, 1) := dk_42 (dk_at dksX4_look_0 10 rfl rfl)
theorem dX4_look_11 : decode cX4_look 11 = .ok (.iload_n 1, 1) := dk_27 (dk_at dksX4_look_0 11 rfl rfl)
theorem dX4_look_12 : decode cX4_look 12 = .ok (.invokevirtual 178, 3) := dk_182 0 178 (dk_at dksX4_look_0 12 rfl rfl)
theorem dX4_look_15 : decode cX4_look 15 = .ok (.aload_n 0, 1) := dk_42 (dk_at dksX4_look_0 15 rfl rfl)
theorem dX4_look_16 : decode cX4_look 16 = .ok (.iconst 0, 1) := dk_3 (dk_at dksX4_look_0 16 rfl rfl)
theorem dX4_look_17 : decode cX4_look 17 = .ok (.invokevirtual 197, 3) := dk_182 0 197 (dk_at dksX4_look_0 17 rfl rfl)
theorem dX4_look_20 : decode cX4_look 20 = .ok (.istore_n 2, 1) := dk_61 (dk_at dksX4_look_0 20 rfl rfl)
theorem dX4_look_21 : decode cX4_look 21 = .ok (.aload_n 0, 1) := dk_42 (dk_at dksX4_look_0 21 rfl rfl)
theorem dX4_look_22 : decode cX4_look 22 = .ok (.iload_n 1, 1) := dk_27 (dk_at dksX4_look_0 22 rfl rfl)
theorem dX4_look_23 : decode cX4_look 23 = .ok (.invokevirtual 184, 3) := dk_182 0 184 (dk_at dksX4_look_1 0 rfl rfl)
theorem dX4_look_26 : decode cX4_look 26 = .ok (.iload_n 2, 1) := dk_28 (dk_at dksX4_look_1 3 rfl rfl)
theorem dX4_look_27 : decode cX4_look 27 = .ok (.ireturn, 1) := dk_172 (dk_at dksX4_look_1 4 rfl rfl)
abbrev cX4_looks : ByteArray := prog_21_method_31_code
def yX4_looks : MethodName := ⟨RX4, "looks", "(I)I"⟩
def dkwX4_looks_3 : List UInt8 := [167, 255, 189, 42, 27, 182, 0, 168, 28, 172]
abbrev dktX4_looks_3 : List UInt8 := dkwX4_looks_3 ++ []
def dkwX4_looks_2 : List UInt8 := [21, 5, 100, 96, 61, 42, 180, 0, 22, 27, 29, 96, 21, 5, 79, 132, 4, 1, 167, 255, 203, 132, 3, 1]
abbrev dktX4_looks_2 : List UInt8 := dkwX4_looks_2 ++ dktX4_looks_3
def dkwX4_looks_1 : List UInt8 := [96, 46, 42, 16, 9, 182, 0, 164, 184, 0, 150, 136, 54, 5, 28, 42, 180, 0, 22, 27, 29, 96, 46]
abbrev dktX4_looks_1 : List UInt8 := dkwX4_looks_1 ++ dktX4_looks_2
def dkwX4_looks_0 : List UInt8 := [3, 61, 4, 62, 29, 7, 162, 0, 68, 3, 54, 4, 21, 4, 29, 162, 0, 53, 42, 180, 0, 22, 27, 29]
abbrev dktX4_looks_0 : List UInt8 := dkwX4_looks_0 ++ dktX4_looks_1
theorem dksX4_looks_0 : cX4_looks.data.toList.drop 0 = dktX4_looks_0 := by decide +kernel
theorem dksX4_looks_1 : cX4_looks.data.toList.drop 24 = dktX4_looks_1 := dk_seg dksX4_looks_0 24 rfl rfl
theorem dksX4_looks_2 : cX4_looks.data.toList.drop 47 = dktX4_looks_2 := dk_seg dksX4_looks_1 23 rfl rfl
theorem dksX4_looks_3 : cX4_looks.data.toList.drop 71 = dktX4_looks_3 := dk_seg dksX4_looks_2 24 rfl rfl
theorem dX4_looks_0 : decode cX4_looks 0 = .ok (.iconst 0, 1) := dk_3 (dk_at dksX4_looks_0 0 rfl rfl)
theorem dX4_looks_1 : decode cX4_looks 1 = .ok (.istore_n 2, 1) := dk_61 (dk_at dksX4_looks_0 1 rfl rfl)
theorem dX4_looks_2 : decode cX4_looks 2 = .ok (.iconst 1, 1) := dk_4 (dk_at dksX4_looks_0 2 rfl rfl)
theorem dX4_looks_3 : decode cX4_looks 3 = .ok (.istore_n 3, 1) := dk_62 (dk_at dksX4_looks_0 3 rfl rfl)
theorem dX4_looks_4 : decode cX4_looks 4 = .ok (.iload_n 3, 1) := dk_29 (dk_at dksX4_looks_0 4 rfl rfl)
theorem dX4_looks_5 : decode cX4_looks 5 = .ok (.iconst 4, 1) := dk_7 (dk_at dksX4_looks_0 5 rfl rfl)
theorem dX4_looks_6 : decode cX4_looks 6 = .ok (.if_icmp .ge 68, 3) := dk_162 0 68 (dk_at dksX4_looks_0 6 rfl rfl)
theorem dX4_looks_9 : decode cX4_looks 9 = .ok (.iconst 0, 1) := dk_3 (dk_at dksX4_looks_0 9 rfl rfl)
theorem dX4_looks_10 : decode cX4_looks 10 = .ok (.istore 4, 2) := dk_54 4 (dk_at dksX4_looks_0 10 rfl rfl)
theorem dX4_looks_12 : decode cX4_looks 12 = .ok (.iload 4, 2) := dk_21 4 (dk_at dksX4_looks_0 12 rfl rfl)
theorem dX4_looks_14 : decode cX4_looks 14 = .ok (.iload_n 3, 1) := dk_29 (dk_at dksX4_looks_0 14 rfl rfl)
theorem dX4_looks_15 : decode cX4_looks 15 = .ok (.if_icmp .ge 53, 3) := dk_162 0 53 (dk_at dksX4_looks_0 15 rfl rfl)
theorem dX4_looks_18 : decode cX4_looks 18 = .ok (.aload_n 0, 1) := dk_42 (dk_at dksX4_looks_0 18 rfl rfl)
theorem dX4_looks_19 : decode cX4_looks 19 = .ok (.getfield 22, 3) := dk_180 0 22 (dk_at dksX4_looks_0 19 rfl rfl)
theorem dX4_looks_22 : decode cX4_looks 22 = .ok (.iload_n 1, 1) := dk_27 (dk_at dksX4_looks_0 22 rfl rfl)
theorem dX4_looks_23 : decode cX4_looks 23 = .ok (.iload_n 3, 1) := dk_29 (dk_at dksX4_looks_0 23 rfl rfl)
theorem dX4_looks_24 : decode cX4_looks 24 = .ok (.iadd, 1) := dk_96 (dk_at dksX4_looks_1 0 rfl rfl)
theorem dX4_looks_25 : decode cX4_looks 25 = .ok (.iaload, 1) := dk_46 (dk_at dksX4_looks_1 1 rfl rfl)
theorem dX4_looks_26 : decode cX4_looks 26 = .ok (.aload_n 0, 1) := dk_42 (dk_at dksX4_looks_1 2 rfl rfl)
theorem dX4_looks_27 : decode cX4_looks 27 = .ok (.bipush 9, 2) := dk_16 9 (dk_at dksX4_looks_1 3 rfl rfl)
theorem dX4_looks_29 : decode cX4_looks 29 = .ok (.invokevirtual 164, 3) := dk_182 0 164 (dk_at dksX4_looks_1 5 rfl rfl)
theorem dX4_looks_32 : decode cX4_looks 32 = .ok (.invokestatic 150, 3) := dk_184 0 150 (dk_at dksX4_looks_1 8 rfl rfl)
theorem dX4_looks_35 : decode cX4_looks 35 = .ok (.l2i, 1) := dk_136 (dk_at dksX4_looks_1 11 rfl rfl)
theorem dX4_looks_36 : decode cX4_looks 36 = .ok (.istore 5, 2) := dk_54 5 (dk_at dksX4_looks_1 12 rfl rfl)
theorem dX4_looks_38 : decode cX4_looks 38 = .ok (.iload_n 2, 1) := dk_28 (dk_at dksX4_looks_1 14 rfl rfl)
theorem dX4_looks_39 : decode cX4_looks 39 = .ok (.aload_n 0, 1) := dk_42 (dk_at dksX4_looks_1 15 rfl rfl)
theorem dX4_looks_40 : decode cX4_looks 40 = .ok (.getfield 22, 3) := dk_180 0 22 (dk_at dksX4_looks_1 16 rfl rfl)
theorem dX4_looks_43 : decode cX4_looks 43 = .ok (.iload_n 1, 1) := dk_27 (dk_at dksX4_looks_1 19 rfl rfl)
theorem dX4_looks_44 : decode cX4_looks 44 = .ok (.iload_n 3, 1) := dk_29 (dk_at dksX4_looks_1 20 rfl rfl)
theorem dX4_looks_45 : decode cX4_looks 45 = .ok (.iadd, 1) := dk_96 (dk_at dksX4_looks_1 21 rfl rfl)
theorem dX4_looks_46 : decode cX4_looks 46 = .ok (.iaload, 1) := dk_46 (dk_at dksX4_looks_1 22 rfl rfl)
theorem dX4_looks_47 : decode cX4_looks 47 = .ok (.iload 5, 2) := dk_21 5 (dk_at dksX4_looks_2 0 rfl rfl)
theorem dX4_looks_49 : decode cX4_looks 49 = .ok (.isub, 1) := dk_100 (dk_at dksX4_looks_2 2 rfl rfl)
theorem dX4_looks_50 : decode cX4_looks 50 = .ok (.iadd, 1) := dk_96 (dk_at dksX4_looks_2 3 rfl rfl)
theorem dX4_looks_51 : decode cX4_looks 51 = .ok (.istore_n 2, 1) := dk_61 (dk_at dksX4_looks_2 4 rfl rfl)
theorem dX4_looks_52 : decode cX4_looks 52 = .ok (.aload_n 0, 1) := dk_42 (dk_at dksX4_looks_2 5 rfl rfl)
theorem dX4_looks_53 : decode cX4_looks 53 = .ok (.getfield 22, 3) := dk_180 0 22 (dk_at dksX4_looks_2 6 rfl rfl)
theorem dX4_looks_56 : decode cX4_looks 56 = .ok (.iload_n 1, 1) := dk_27 (dk_at dksX4_looks_2 9 rfl rfl)
theorem dX4_looks_57 : decode cX4_looks 57 = .ok (.iload_n 3, 1) := dk_29 (dk_at dksX4_looks_2 10 rfl rfl)
theorem dX4_looks_58 : decode cX4_looks 58 = .ok (.iadd, 1) := dk_96 (dk_at dksX4_looks_2 11 rfl rfl)
theorem dX4_looks_59 : decode cX4_looks 59 = .ok (.iload 5, 2) := dk_21 5 (dk_at dksX4_looks_2 12 rfl rfl)
theorem dX4_looks_61 : decode cX4_looks 61 = .ok (.iastore, 1) := dk_79 (dk_at dksX4_looks_2 14 rfl rfl)
theorem dX4_looks_62 : decode cX4_looks 62 = .ok (.iinc 4 1, 3) := dk_132 4 1 (dk_at dksX4_looks_2 15 rfl rfl)
theorem dX4_looks_65 : decode cX4_looks 65 = .ok (.goto (-53), 3) := dk_167 255 203 (dk_at dksX4_looks_2 18 rfl rfl)
theorem dX4_looks_68 : decode cX4_looks 68 = .ok (.iinc 3 1, 3) := dk_132 3 1 (dk_at dksX4_looks_2 21 rfl rfl)
theorem dX4_looks_71 : decode cX4_looks 71 = .ok (.goto (-67), 3) := dk_167 255 189 (dk_at dksX4_looks_3 0 rfl rfl)
theorem dX4_looks_74 : decode cX4_looks 74 = .ok (.aload_n 0, 1) := dk_42 (dk_at dksX4_looks_3 3 rfl rfl)
theorem dX4_looks_75 : decode cX4_looks 75 = .ok (.iload_n 1, 1) := dk_27 (dk_at dksX4_looks_3 4 rfl rfl)
theorem dX4_looks_76 : decode cX4_looks 76 = .ok (.invokevirtual 168, 3) := dk_182 0 168 (dk_at dksX4_looks_3 5 rfl rfl)
theorem dX4_looks_79 : decode cX4_looks 79 = .ok (.iload_n 2, 1) := dk_28 (dk_at dksX4_looks_3 8 rfl rfl)
theorem dX4_looks_80 : decode cX4_looks 80 = .ok (.ireturn, 1) := dk_172 (dk_at dksX4_looks_3 9 rfl rfl)
abbrev cX4_harm : ByteArray := prog_21_method_43_code
def yX4_harm : MethodName := ⟨RX4, "harm", "(I)J"⟩
def dkwX4_harm_0 : List UInt8 := [42, 27, 182, 0, 191, 154, 0, 7, 20, 0, 200, 173, 42, 27, 182, 0, 178, 42, 3, 182, 0, 202, 173]
abbrev dktX4_harm_0 : List UInt8 := dkwX4_harm_0 ++ []
theorem dksX4_harm_0 : cX4_harm.data.toList.drop 0 = dktX4_harm_0 := by decide +kernel
theorem dX4_harm_0 : decode cX4_harm 0 = .ok (.aload_n 0, 1) := dk_42 (dk_at dksX4_harm_0 0 rfl rfl)
theorem dX4_harm_1 : decode cX4_harm 1 = .ok (.iload_n 1, 1) := dk_27 (dk_at dksX4_harm_0 1 rfl rfl)
theorem dX4_harm_2 : decode cX4_harm 2 = .ok (.invokevirtual 191, 3) := dk_182 0 191 (dk_at dksX4_harm_0 2 rfl rfl)
theorem dX4_harm_5 : decode cX4_harm 5 = .ok (.ifCond .ne 7, 3) := dk_154 0 7 (dk_at dksX4_harm_0 5 rfl rfl)
theorem dX4_harm_8 : decode cX4_harm 8 = .ok (.ldc2_w 200, 3) := dk_20 0 200 (dk_at dksX4_harm_0 8 rfl rfl)
theorem dX4_harm_11 : decode cX4_harm 11 = .ok (.lreturn, 1) := dk_173 (dk_at dksX4_harm_0 11 rfl rfl)
theorem dX4_harm_12 : decode cX4_harm 12 = .ok (.aload_n 0, 1) := dk_42 (dk_at dksX4_harm_0 12 rfl rfl)
theorem dX4_harm_13 : decode cX4_harm 13 = .ok (.iload_n 1, 1) := dk_27 (dk_at dksX4_harm_0 13 rfl rfl)
theorem dX4_harm_14 : decode cX4_harm 14 = .ok (.invokevirtual 178, 3) := dk_182 0 178 (dk_at dksX4_harm_0 14 rfl rfl)
theorem dX4_harm_17 : decode cX4_harm 17 = .ok (.aload_n 0, 1) := dk_42 (dk_at dksX4_harm_0 17 rfl rfl)
theorem dX4_harm_18 : decode cX4_harm 18 = .ok (.iconst 0, 1) := dk_3 (dk_at dksX4_harm_0 18 rfl rfl)
theorem dX4_harm_19 : decode cX4_harm 19 = .ok (.invokevirtual 202, 3) := dk_182 0 202 (dk_at dksX4_harm_0 19 rfl rfl)
theorem dX4_harm_22 : decode cX4_harm 22 = .ok (.lreturn, 1) := dk_173 (dk_at dksX4_harm_0 22 rfl rfl)
abbrev cX4_harmOf : ByteArray := prog_21_method_32_code
def yX4_harmOf : MethodName := ⟨RX4, "harmOf", "(I)J"⟩
def dkwX4_harmOf_2 : List UInt8 := [109, 173]
abbrev dktX4_harmOf_2 : List UInt8 := dkwX4_harmOf_2 ++ []
def dkwX4_harmOf_1 : List UInt8 := [5, 96, 46, 133, 105, 97, 20, 0, 173, 42, 180, 0, 22, 27, 6, 96, 46, 133, 105, 97, 105, 20, 0, 148]
abbrev dktX4_harmOf_1 : List UInt8 := dkwX4_harmOf_1 ++ dktX4_harmOf_2
def dkwX4_harmOf_0 : List UInt8 := [42, 16, 7, 182, 0, 164, 133, 42, 180, 0, 22, 27, 4, 96, 46, 133, 20, 0, 171, 42, 180, 0, 22, 27]
abbrev dktX4_harmOf_0 : List UInt8 := dkwX4_harmOf_0 ++ dktX4_harmOf_1
theorem dksX4_harmOf_0 : cX4_harmOf.data.toList.drop 0 = dktX4_harmOf_0 := by decide +kernel
theorem dksX4_harmOf_1 : cX4_harmOf.data.toList.drop 24 = dktX4_harmOf_1 := dk_seg dksX4_harmOf_0 24 rfl rfl
theorem dksX4_harmOf_2 : cX4_harmOf.data.toList.drop 48 = dktX4_harmOf_2 := dk_seg dksX4_harmOf_1 24 rfl rfl
theorem dX4_harmOf_0 : decode cX4_harmOf 0 = .ok (.aload_n 0, 1) := dk_42 (dk_at dksX4_harmOf_0 0 rfl rfl)
theorem dX4_harmOf_1 : decode cX4_harmOf 1 = .ok (.bipush 7, 2) := dk_16 7 (dk_at dksX4_harmOf_0 1 rfl rfl)
theorem dX4_harmOf_3 : decode cX4_harmOf 3 = .ok (.invokevirtual 164, 3) := dk_182 0 164 (dk_at dksX4_harmOf_0 3 rfl rfl)
theorem dX4_harmOf_6 : decode cX4_harmOf 6 = .ok (.i2l, 1) := dk_133 (dk_at dksX4_harmOf_0 6 rfl rfl)
theorem dX4_harmOf_7 : decode cX4_harmOf 7 = .ok (.aload_n 0, 1) := dk_42 (dk_at dksX4_harmOf_0 7 rfl rfl)
theorem dX4_harmOf_8 : decode cX4_harmOf 8 = .ok (.getfield 22, 3) := dk_180 0 22 (dk_at dksX4_harmOf_0 8 rfl rfl)
theorem dX4_harmOf_11 : decode cX4_harmOf 11 = .ok (.iload_n 1, 1) := dk_27 (dk_at dksX4_harmOf_0 11 rfl rfl)
theorem dX4_harmOf_12 : decode cX4_harmOf 12 = .ok (.iconst 1, 1) := dk_4 (dk_at dksX4_harmOf_0 12 rfl rfl)
theorem dX4_harmOf_13 : decode cX4_harmOf 13 = .ok (.iadd, 1) := dk_96 (dk_at dksX4_harmOf_0 13 rfl rfl)
theorem dX4_harmOf_14 : decode cX4_harmOf 14 = .ok (.iaload, 1) := dk_46 (dk_at dksX4_harmOf_0 14 rfl rfl)
theorem dX4_harmOf_15 : decode cX4_harmOf 15 = .ok (.i2l, 1) := dk_133 (dk_at dksX4_harmOf_0 15 rfl rfl)
theorem dX4_harmOf_16 : decode cX4_harmOf 16 = .ok (.ldc2_w 171, 3) := dk_20 0 171 (dk_at dksX4_harmOf_0 16 rfl rfl)
theorem dX4_harmOf_19 : decode cX4_harmOf 19 = .ok (.aload_n 0, 1) := dk_42 (dk_at dksX4_harmOf_0 19 rfl rfl)
theorem dX4_harmOf_20 : decode cX4_harmOf 20 = .ok (.getfield 22, 3) := dk_180 0 22 (dk_at dksX4_harmOf_0 20 rfl rfl)
theorem dX4_harmOf_23 : decode cX4_harmOf 23 = .ok (.iload_n 1, 1) := dk_27 (dk_at dksX4_harmOf_0 23 rfl rfl)
theorem dX4_harmOf_24 : decode cX4_harmOf 24 = .ok (.iconst 2, 1) := dk_5 (dk_at dksX4_harmOf_1 0 rfl rfl)
theorem dX4_harmOf_25 : decode cX4_harmOf 25 = .ok (.iadd, 1) := dk_96 (dk_at dksX4_harmOf_1 1 rfl rfl)
theorem dX4_harmOf_26 : decode cX4_harmOf 26 = .ok (.iaload, 1) := dk_46 (dk_at dksX4_harmOf_1 2 rfl rfl)
theorem dX4_harmOf_27 : decode cX4_harmOf 27 = .ok (.i2l, 1) := dk_133 (dk_at dksX4_harmOf_1 3 rfl rfl)
theorem dX4_harmOf_28 : decode cX4_harmOf 28 = .ok (.lmul, 1) := dk_105 (dk_at dksX4_harmOf_1 4 rfl rfl)
theorem dX4_harmOf_29 : decode cX4_harmOf 29 = .ok (.ladd, 1) := dk_97 (dk_at dksX4_harmOf_1 5 rfl rfl)
theorem dX4_harmOf_30 : decode cX4_harmOf 30 = .ok (.ldc2_w 173, 3) := dk_20 0 173 (dk_at dksX4_harmOf_1 6 rfl rfl)
theorem dX4_harmOf_33 : decode cX4_harmOf 33 = .ok (.aload_n 0, 1) := dk_42 (dk_at dksX4_harmOf_1 9 rfl rfl)
theorem dX4_harmOf_34 : decode cX4_harmOf 34 = .ok (.getfield 22, 3) := dk_180 0 22 (dk_at dksX4_harmOf_1 10 rfl rfl)
theorem dX4_harmOf_37 : decode cX4_harmOf 37 = .ok (.iload_n 1, 1) := dk_27 (dk_at dksX4_harmOf_1 13 rfl rfl)
theorem dX4_harmOf_38 : decode cX4_harmOf 38 = .ok (.iconst 3, 1) := dk_6 (dk_at dksX4_harmOf_1 14 rfl rfl)
theorem dX4_harmOf_39 : decode cX4_harmOf 39 = .ok (.iadd, 1) := dk_96 (dk_at dksX4_harmOf_1 15 rfl rfl)
theorem dX4_harmOf_40 : decode cX4_harmOf 40 = .ok (.iaload, 1) := dk_46 (dk_at dksX4_harmOf_1 16 rfl rfl)
theorem dX4_harmOf_41 : decode cX4_harmOf 41 = .ok (.i2l, 1) := dk_133 (dk_at dksX4_harmOf_1 17 rfl rfl)
theorem dX4_harmOf_42 : decode cX4_harmOf 42 = .ok (.lmul, 1) := dk_105 (dk_at dksX4_harmOf_1 18 rfl rfl)
theorem dX4_harmOf_43 : decode cX4_harmOf 43 = .ok (.ladd, 1) := dk_97 (dk_at dksX4_harmOf_1 19 rfl rfl)
theorem dX4_harmOf_44 : decode cX4_harmOf 44 = .ok (.lmul, 1) := dk_105 (dk_at dksX4_harmOf_1 20 rfl rfl)
theorem dX4_harmOf_45 : decode cX4_harmOf 45 = .ok (.ldc2_w 148, 3) := dk_20 0 148 (dk_at dksX4_harmOf_1 21 rfl rfl)
theorem dX4_harmOf_48 : decode cX4_harmOf 48 = .ok (.ldiv, 1) := dk_109 (dk_at dksX4_harmOf_2 0 rfl rfl)
theorem dX4_harmOf_49 : decode cX4_harmOf 49 = .ok (.lreturn, 1) := dk_173 (dk_at dksX4_harmOf_2 1 rfl rfl)
abbrev cX4_rule : ByteArray := prog_21_method_44_code
def yX4_rule : MethodName := ⟨RX4, "rule", "(II)I"⟩
def dkwX4_rule_3 : List UInt8 := [180, 0, 9, 17, 4, 0, 29, 96, 3, 79, 42, 180, 0, 9, 5, 92, 46, 4, 96, 79, 29, 172]
abbrev dktX4_rule_3 : List UInt8 := dkwX4_rule_3 ++ []
def dkwX4_rule_2 : List UInt8 := [180, 0, 9, 17, 3, 232, 29, 96, 27, 79, 42, 180, 0, 9, 17, 3, 244, 29, 96, 28, 79, 42]
abbrev dktX4_rule_2 : List UInt8 := dkwX4_rule_2 ++ dktX4_rule_3
def dkwX4_rule_1 : List UInt8 := [172, 42, 180, 0, 9, 5, 46, 16, 12, 160, 0, 6, 16, 252, 172, 42, 180, 0, 9, 5, 46, 62, 42]
abbrev dktX4_rule_1 : List UInt8 := dkwX4_rule_1 ++ dktX4_rule_2
def dkwX4_rule_0 : List UInt8 := [27, 3, 16, 6, 184, 0, 42, 154, 0, 5, 2, 172, 28, 3, 16, 99, 184, 0, 42, 154, 0, 6, 16, 254]
abbrev dktX4_rule_0 : List UInt8 := dkwX4_rule_0 ++ dktX4_rule_1
theorem dksX4_rule_0 : cX4_rule.data.toList.drop 0 = dktX4_rule_0 := by decide +kernel
theorem dksX4_rule_1 : cX4_rule.data.toList.drop 24 = dktX4_rule_1 := dk_seg dksX4_rule_0 24 rfl rfl
theorem dksX4_rule_2 : cX4_rule.data.toList.drop 47 = dktX4_rule_2 := dk_seg dksX4_rule_1 23 rfl rfl
theorem dksX4_rule_3 : cX4_rule.data.toList.drop 69 = dktX4_rule_3 := dk_seg dksX4_rule_2 22 rfl rfl
theorem dX4_rule_0 : decode cX4_rule 0 = .ok (.iload_n 1, 1) := dk_27 (dk_at dksX4_rule_0 0 rfl rfl)
theorem dX4_rule_1 : decode cX4_rule 1 = .ok (.iconst 0, 1) := dk_3 (dk_at dksX4_rule_0 1 rfl rfl)
theorem dX4_rule_2 : decode cX4_rule 2 = .ok (.bipush 6, 2) := dk_16 6 (dk_at dksX4_rule_0 2 rfl rfl)
theorem dX4_rule_4 : decode cX4_rule 4 = .ok (.invokestatic 42, 3) := dk_184 0 42 (dk_at dksX4_rule_0 4 rfl rfl)
theorem dX4_rule_7 : decode cX4_rule 7 = .ok (.ifCond .ne 5, 3) := dk_154 0 5 (dk_at dksX4_rule_0 7 rfl rfl)
theorem dX4_rule_10 : decode cX4_rule 10 = .ok (.iconst (-1), 1) := dk_2 (dk_at dksX4_rule_0 10 rfl rfl)
theorem dX4_rule_11 : decode cX4_rule 11 = .ok (.ireturn, 1) := dk_172 (dk_at dksX4_rule_0 11 rfl rfl)
theorem dX4_rule_12 : decode cX4_rule 12 = .ok (.iload_n 2, 1) := dk_28 (dk_at dksX4_rule_0 12 rfl rfl)
theorem dX4_rule_13 : decode cX4_rule 13 = .ok (.iconst 0, 1) := dk_3 (dk_at dksX4_rule_0 13 rfl rfl)
theorem dX4_rule_14 : decode cX4_rule 14 = .ok (.bipush 99, 2) := dk_16 99 (dk_at dksX4_rule_0 14 rfl rfl)
theorem dX4_rule_16 : decode cX4_rule 16 = .ok (.invokestatic 42, 3) := dk_184 0 42 (dk_at dksX4_rule_0 16 rfl rfl)
theorem dX4_rule_19 : decode cX4_rule 19 = .ok (.ifCond .ne 6, 3) := dk_154 0 6 (dk_at dksX4_rule_0 19 rfl rfl)
theorem dX4_rule_22 : decode cX4_rule 22 = .ok (.bipush (-2), 2) := dk_16 254 (dk_at dksX4_rule_0 22 rfl rfl)
theorem dX4_rule_24 : decode cX4_rule 24 = .ok (.ireturn, 1) := dk_172 (dk_at dksX4_rule_1 0 rfl rfl)
theorem dX4_rule_25 : decode cX4_rule 25 = .ok (.aload_n 0, 1) := dk_42 (dk_at dksX4_rule_1 1 rfl rfl)
theorem dX4_rule_26 : decode cX4_rule 26 = .ok (.getfield 9, 3) := dk_180 0 9 (dk_at dksX4_rule_1 2 rfl rfl)
theorem dX4_rule_29 : decode cX4_rule 29 = .ok (.iconst 2, 1) := dk_5 (dk_at dksX4_rule_1 5 rfl rfl)
theorem dX4_rule_30 : decode cX4_rule 30 = .ok (.iaload, 1) := dk_46 (dk_at dksX4_rule_1 6 rfl rfl)
theorem dX4_rule_31 : decode cX4_rule 31 = .ok (.bipush 12, 2) := dk_16 12 (dk_at dksX4_rule_1 7 rfl rfl)
theorem dX4_rule_33 : decode cX4_rule 33 = .ok (.if_icmp .ne 6, 3) := dk_160 0 6 (dk_at dksX4_rule_1 9 rfl rfl)
theorem dX4_rule_36 : decode cX4_rule 36 = .ok (.bipush (-4), 2) := dk_16 252 (dk_at dksX4_rule_1 12 rfl rfl)
theorem dX4_rule_38 : decode cX4_rule 38 = .ok (.ireturn, 1) := dk_172 (dk_at dksX4_rule_1 14 rfl rfl)
theorem dX4_rule_39 : decode cX4_rule 39 = .ok (.aload_n 0, 1) := dk_42 (dk_at dksX4_rule_1 15 rfl rfl)
theorem dX4_rule_40 : decode cX4_rule 40 = .ok (.getfield 9, 3) := dk_180 0 9 (dk_at dksX4_rule_1 16 rfl rfl)
theorem dX4_rule_43 : decode cX4_rule 43 = .ok (.iconst 2, 1) := dk_5 (dk_at dksX4_rule_1 19 rfl rfl)
theorem dX4_rule_44 : decode cX4_rule 44 = .ok (.iaload, 1) := dk_46 (dk_at dksX4_rule_1 20 rfl rfl)
theorem dX4_rule_45 : decode cX4_rule 45 = .ok (.istore_n 3, 1) := dk_62 (dk_at dksX4_rule_1 21 rfl rfl)
theorem dX4_rule_46 : decode cX4_rule 46 = .ok (.aload_n 0, 1) := dk_42 (dk_at dksX4_rule_1 22 rfl rfl)
theorem dX4_rule_47 : decode cX4_rule 47 = .ok (.getfield 9, 3) := dk_180 0 9 (dk_at dksX4_rule_2 0 rfl rfl)
theorem dX4_rule_50 : decode cX4_rule 50 = .ok (.sipush 1000, 3) := dk_17 3 232 (dk_at dksX4_rule_2 3 rfl rfl)
theorem dX4_rule_53 : decode cX4_rule 53 = .ok (.iload_n 3, 1) := dk_29 (dk_at dksX4_rule_2 6 rfl rfl)
theorem dX4_rule_54 : decode cX4_rule 54 = .ok (.iadd, 1) := dk_96 (dk_at dksX4_rule_2 7 rfl rfl)
theorem dX4_rule_55 : decode cX4_rule 55 = .ok (.iload_n 1, 1) := dk_27 (dk_at dksX4_rule_2 8 rfl rfl)
theorem dX4_rule_56 : decode cX4_rule 56 = .ok (.iastore, 1) := dk_79 (dk_at dksX4_rule_2 9 rfl rfl)
theorem dX4_rule_57 : decode cX4_rule 57 = .ok (.aload_n 0, 1) := dk_42 (dk_at dksX4_rule_2 10 rfl rfl)
theorem dX4_rule_58 : decode cX4_rule 58 = .ok (.getfield 9, 3) := dk_180 0 9 (dk_at dksX4_rule_2 11 rfl rfl)
theorem dX4_rule_61 : decode cX4_rule 61 = .ok (.sipush 1012, 3) := dk_17 3 244 (dk_at dksX4_rule_2 14 rfl rfl)
theorem dX4_rule_64 : decode cX4_rule 64 = .ok (.iload_n 3, 1) := dk_29 (dk_at dksX4_rule_2 17 rfl rfl)
theorem dX4_rule_65 : decode cX4_rule 65 = .ok (.iadd, 1) := dk_96 (dk_at dksX4_rule_2 18 rfl rfl)
theorem dX4_rule_66 : decode cX4_rule 66 = .ok (.iload_n 2, 1) := dk_28 (dk_at dksX4_rule_2 19 rfl rfl)
theorem dX4_rule_67 : decode cX4_rule 67 = .ok (.iastore, 1) := dk_79 (dk_at dksX4_rule_2 20 rfl rfl)
theorem dX4_rule_68 : decode cX4_rule 68 = .ok (.aload_n 0, 1) := dk_42 (dk_at dksX4_rule_2 21 rfl rfl)
theorem dX4_rule_69 : decode cX4_rule 69 = .ok (.getfield 9, 3) := dk_180 0 9 (dk_at dksX4_rule_3 0 rfl rfl)
theorem dX4_rule_72 : decode cX4_rule 72 = .ok (.sipush 1024, 3) := dk_17 4 0 (dk_at dksX4_rule_3 3 rfl rfl)
theorem dX4_rule_75 : decode cX4_rule 75 = .ok (.iload_n 3, 1) := dk_29 (dk_at dksX4_rule_3 6 rfl rfl)
theorem dX4_rule_76 : decode cX4_rule 76 = .ok (.iadd, 1) := dk_96 (dk_at dksX4_rule_3 7 rfl rfl)
theorem dX4_rule_77 : decode cX4_rule 77 = .ok (.iconst 0, 1) := dk_3 (dk_at dksX4_rule_3 8 rfl rfl)
theorem dX4_rule_78 : decode cX4_rule 78 = .ok (.iastore, 1) := dk_79 (dk_at dksX4_rule_3 9 rfl rfl)
theorem dX4_rule_79 : decode cX4_rule 79 = .ok (.aload_n 0, 1) := dk_42 (dk_at dksX4_rule_3 10 rfl rfl)
theorem dX4_rule_80 : decode cX4_rule 80 = .ok (.getfield 9, 3) := dk_180 0 9 (dk_at dksX4_rule_3 11 rfl rfl)
theorem dX4_rule_83 : decode cX4_rule 83 = .ok (.iconst 2, 1) := dk_5 (dk_at dksX4_rule_3 14 rfl rfl)
theorem dX4_rule_84 : decode cX4_rule 84 = .ok (.dup2, 1) := dk_92 (dk_at dksX4_rule_3 15 rfl rfl)
theorem dX4_rule_85 : decode cX4_rule 85 = .ok (.iaload, 1) := dk_46 (dk_at dksX4_rule_3 16 rfl rfl)
theorem dX4_rule_86 : decode cX4_rule 86 = .ok (.iconst 1, 1) := dk_4 (dk_at dksX4_rule_3 17 rfl rfl)
theorem dX4_rule_87 : decode cX4_rule 87 = .ok (.iadd, 1) := dk_96 (dk_at dksX4_rule_3 18 rfl rfl)
theorem dX4_rule_88 : decode cX4_rule 88 = .ok (.iastore, 1) := dk_79 (dk_at dksX4_rule_3 19 rfl rfl)
theorem dX4_rule_89 : decode cX4_rule 89 = .ok (.iload_n 3, 1) := dk_29 (dk_at dksX4_rule_3 20 rfl rfl)
theorem dX4_rule_90 : decode cX4_rule 90 = .ok (.ireturn, 1) := dk_172 (dk_at dksX4_rule_3 21 rfl rfl)
abbrev cX4_row : ByteArray := prog_21_method_45_code
def yX4_row : MethodName := ⟨RX4, "row", "(II)I"⟩
def dkwX4_row_4 : List UInt8 := [96, 79, 42, 180, 0, 9, 17, 4, 0, 27, 96, 46, 172]
abbrev dktX4_row_4 : List UInt8 := dkwX4_row_4 ++ []
def dkwX4_row_3 : List UInt8 := [180, 0, 9, 17, 4, 0, 27, 96, 46, 96, 28, 79, 42, 180, 0, 9, 17, 4, 0, 27, 96, 92, 46, 4]
abbrev dktX4_row_3 : List UInt8 := dkwX4_row_3 ++ dktX4_row_4
def dkwX4_row_2 : List UInt8 := [96, 46, 16, 10, 160, 0, 6, 16, 252, 172, 42, 180, 0, 9, 17, 4, 12, 16, 10, 27, 104, 96, 42]
abbrev dktX4_row_2 : List UInt8 := dkwX4_row_2 ++ dktX4_row_3
def dkwX4_row_1 : List UInt8 := [180, 0, 9, 17, 3, 232, 27, 96, 46, 8, 159, 0, 6, 16, 253, 172, 42, 180, 0, 9, 17, 4, 0, 27]
abbrev dktX4_row_1 : List UInt8 := dkwX4_row_1 ++ dktX4_row_2
def dkwX4_row_0 : List UInt8 := [42, 27, 182, 0, 206, 154, 0, 5, 2, 172, 28, 3, 4, 184, 0, 42, 154, 0, 6, 16, 254, 172, 42]
abbrev dktX4_row_0 : List UInt8 := dkwX4_row_0 ++ dktX4_row_1
theorem dksX4_row_0 : cX4_row.data.toList.drop 0 = dktX4_row_0 := by decide +kernel
theorem dksX4_row_1 : cX4_row.data.toList.drop 23 = dktX4_row_1 := dk_seg dksX4_row_0 23 rfl rfl
theorem dksX4_row_2 : cX4_row.data.toList.drop 47 = dktX4_row_2 := dk_seg dksX4_row_1 24 rfl rfl
theorem dksX4_row_3 : cX4_row.data.toList.drop 70 = dktX4_row_3 := dk_seg dksX4_row_2 23 rfl rfl
theorem dksX4_row_4 : cX4_row.data.toList.drop 94 = dktX4_row_4 := dk_seg dksX4_row_3 24 rfl rfl
theorem dX4_row_0 : decode cX4_row 0 = .ok (.aload_n 0, 1) := dk_42 (dk_at dksX4_row_0 0 rfl rfl)
theorem dX4_row_1 : decode cX4_row 1 = .ok (.iload_n 1, 1) := dk_27 (dk_at dksX4_row_0 1 rfl rfl)
theorem dX4_row_2 : decode cX4_row 2 = .ok (.invokevirtual 206, 3) := dk_182 0 206 (dk_at dksX4_row_0 2 rfl rfl)
theorem dX4_row_5 : decode cX4_row 5 = .ok (.ifCond .ne 5, 3) := dk_154 0 5 (dk_at dksX4_row_0 5 rfl rfl)
theorem dX4_row_8 : decode cX4_row 8 = .ok (.iconst (-1), 1) := dk_2 (dk_at dksX4_row_0 8 rfl rfl)
theorem dX4_row_9 : decode cX4_row 9 = .ok (.ireturn, 1) := dk_172 (dk_at dksX4_row_0 9 rfl rfl)
theorem dX4_row_10 : decode cX4_row 10 = .ok (.iload_n 2, 1) := dk_28 (dk_at dksX4_row_0 10 rfl rfl)
theorem dX4_row_11 : decode cX4_row 11 = .ok (.iconst 0, 1) := dk_3 (dk_at dksX4_row_0 11 rfl rfl)
theorem dX4_row_12 : decode cX4_row 12 = .ok (.iconst 1, 1) := dk_4 (dk_at dksX4_row_0 12 rfl rfl)
theorem dX4_row_13 : decode cX4_row 13 = .ok (.invokestatic 42, 3) := dk_184 0 42 (dk_at dksX4_row_0 13 rfl rfl)
theorem dX4_row_16 : decode cX4_row 16 = .ok (.ifCond .ne 6, 3) := dk_154 0 6 (dk_at dksX4_row_0 16 rfl rfl)
theorem dX4_row_19 : decode cX4_row 19 = .ok (.bipush (-2), 2) := dk_16 254 (dk_at dksX4_row_0 19 rfl rfl)
theorem dX4_row_21 : decode cX4_row 21 = .ok (.ireturn, 1) := dk_172 (dk_at dksX4_row_0 21 rfl rfl)
theorem dX4_row_22 : decode cX4_row 22 = .ok (.aload_n 0, 1) := dk_42 (dk_at dksX4_row_0 22 rfl rfl)
theorem dX4_row_23 : decode cX4_row 23 = .ok (.getfield 9, 3) := dk_180 0 9 (dk_at dksX4_row_1 0 rfl rfl)
theorem dX4_row_26 : decode cX4_row 26 = .ok (.sipush 1000, 3) := dk_17 3 232 (dk_at dksX4_row_1 3 rfl rfl)
theorem dX4_row_29 : decode cX4_row 29 = .ok (.iload_n 1, 1) := dk_27 (dk_at dksX4_row_1 6 rfl rfl)
theorem dX4_row_30 : decode cX4_row 30 = .ok (.iadd, 1) := dk_96 (dk_at dksX4_row_1 7 rfl rfl)
theorem dX4_row_31 : decode cX4_row 31 = .ok (.iaload, 1) := dk_46 (dk_at dksX4_row_1 8 rfl rfl)
theorem dX4_row_32 : decode cX4_row 32 = .ok (.iconst 5, 1) := dk_8 (dk_at dksX4_row_1 9 rfl rfl)
theorem dX4_row_33 : decode cX4_row 33 = .ok (.if_icmp .eq 6, 3) := dk_159 0 6 (dk_at dksX4_row_1 10 rfl rfl)
theorem dX4_row_36 : decode cX4_row 36 = .ok (.bipush (-3), 2) := dk_16 253 (dk_at dksX4_row_1 13 rfl rfl)
theorem dX4_row_38 : decode cX4_row 38 = .ok (.ireturn, 1) := dk_172 (dk_at dksX4_row_1 15 rfl rfl)
theorem dX4_row_39 : decode cX4_row 39 = .ok (.aload_n 0, 1) := dk_42 (dk_at dksX4_row_1 16 rfl rfl)
theorem dX4_row_40 : decode cX4_row 40 = .ok (.getfield 9, 3) := dk_180 0 9 (dk_at dksX4_row_1 17 rfl rfl)
theorem dX4_row_43 : decode cX4_row 43 = .ok (.sipush 1024, 3) := dk_17 4 0 (dk_at dksX4_row_1 20 rfl rfl)
theorem dX4_row_46 : decode cX4_row 46 = .ok (.iload_n 1, 1) := dk_27 (dk_at dksX4_row_1 23 rfl rfl)
theorem dX4_row_47 : decode cX4_row 47 = .ok (.iadd, 1) := dk_96 (dk_at dksX4_row_2 0 rfl rfl)
theorem dX4_row_48 : decode cX4_row 48 = .ok (.iaload, 1) := dk_46 (dk_at dksX4_row_2 1 rfl rfl)
theorem dX4_row_49 : decode cX4_row 49 = .ok (.bipush 10, 2) := dk_16 10 (dk_at dksX4_row_2 2 rfl rfl)
theorem dX4_row_51 : decode cX4_row 51 = .ok (.if_icmp .ne 6, 3) := dk_160 0 6 (dk_at dksX4_row_2 4 rfl rfl)
theorem dX4_row_54 : decode cX4_row 54 = .ok (.bipush (-4), 2) := dk_16 252 (dk_at dksX4_row_2 7 rfl rfl)
theorem dX4_row_56 : decode cX4_row 56 = .ok (.ireturn, 1) := dk_172 (dk_at dksX4_row_2 9 rfl rfl)
theorem dX4_row_57 : decode cX4_row 57 = .ok (.aload_n 0, 1) := dk_42 (dk_at dksX4_row_2 10 rfl rfl)
theorem dX4_row_58 : decode cX4_row 58 = .ok (.getfield 9, 3) := dk_180 0 9 (dk_at dksX4_row_2 11 rfl rfl)
theorem dX4_row_61 : decode cX4_row 61 = .ok (.sipush 1036, 3) := dk_17 4 12 (dk_at dksX4_row_2 14 rfl rfl)
theorem dX4_row_64 : decode cX4_row 64 = .ok (.bipush 10, 2) := dk_16 10 (dk_at dksX4_row_2 17 rfl rfl)
theorem dX4_row_66 : decode cX4_row 66 = .ok (.iload_n 1, 1) := dk_27 (dk_at dksX4_row_2 19 rfl rfl)
theorem dX4_row_67 : decode cX4_row 67 = .ok (.imul, 1) := dk_104 (dk_at dksX4_row_2 20 rfl rfl)
theorem dX4_row_68 : decode cX4_row 68 = .ok (.iadd, 1) := dk_96 (dk_at dksX4_row_2 21 rfl rfl)
theorem dX4_row_69 : decode cX4_row 69 = .ok (.aload_n 0, 1) := dk_42 (dk_at dksX4_row_2 22 rfl rfl)
theorem dX4_row_70 : decode cX4_row 70 = .ok (.getfield 9, 3) := dk_180 0 9 (dk_at dksX4_row_3 0 rfl rfl)
theorem dX4_row_73 : decode cX4_row 73 = .ok (.sipush 1024, 3) := dk_17 4 0 (dk_at dksX4_row_3 3 rfl rfl)
theorem dX4_row_76 : decode cX4_row 76 = .ok (.iload_n 1, 1) := dk_27 (dk_at dksX4_row_3 6 rfl rfl)
theorem dX4_row_77 : decode cX4_row 77 = .ok (.iadd, 1) := dk_96 (dk_at dksX4_row_3 7 rfl rfl)
theorem dX4_row_78 : decode cX4_row 78 = .ok (.iaload, 1) := dk_46 (dk_at dksX4_row_3 8 rfl rfl)
theorem dX4_row_79 : decode cX4_row 79 = .ok (.iadd, 1) := dk_96 (dk_at dksX4_row_3 9 rfl rfl)
theorem dX4_row_80 : decode cX4_row 80 = .ok (.iload_n 2, 1) := dk_28 (dk_at dksX4_row_3 10 rfl rfl)
theorem dX4_row_81 : decode cX4_row 81 = .ok (.iastore, 1) := dk_79 (dk_at dksX4_row_3 11 rfl rfl)
theorem dX4_row_82 : decode cX4_row 82 = .ok (.aload_n 0, 1) := dk_42 (dk_at dksX4_row_3 12 rfl rfl)
theorem dX4_row_83 : decode cX4_row 83 = .ok (.getfield 9, 3) := dk_180 0 9 (dk_at dksX4_row_3 13 rfl rfl)
theorem dX4_row_86 : decode cX4_row 86 = .ok (.sipush 1024, 3) := dk_17 4 0 (dk_at dksX4_row_3 16 rfl rfl)
theorem dX4_row_89 : decode cX4_row 89 = .ok (.iload_n 1, 1) := dk_27 (dk_at dksX4_row_3 19 rfl rfl)
theorem dX4_row_90 : decode cX4_row 90 = .ok (.iadd, 1) := dk_96 (dk_at dksX4_row_3 20 rfl rfl)
theorem dX4_row_91 : decode cX4_row 91 = .ok (.dup2, 1) := dk_92 (dk_at dksX4_row_3 21 rfl rfl)
theorem dX4_row_92 : decode cX4_row 92 = .ok (.iaload, 1) := dk_46 (dk_at dksX4_row_3 22 rfl rfl)
theorem dX4_row_93 : decode cX4_row 93 = .ok (.iconst 1, 1) := dk_4 (dk_at dksX4_row_3 23 rfl rfl)
theorem dX4_row_94 : decode cX4_row 94 = .ok (.iadd, 1) := dk_96 (dk_at dksX4_row_4 0 rfl rfl)
theorem dX4_row_95 : decode cX4_row 95 = .ok (.iastore, 1) := dk_79 (dk_at dksX4_row_4 1 rfl rfl)
theorem dX4_row_96 : decode cX4_row 96 = .ok (.aload_n 0, 1) := dk_42 (dk_at dksX4_row_4 2 rfl rfl)
theorem dX4_row_97 : decode cX4_row 97 = .ok (.getfield 9, 3) := dk_180 0 9 (dk_at dksX4_row_4 3 rfl rfl)
theorem dX4_row_100 : decode cX4_row 100 = .ok (.sipush 1024, 3) := dk_17 4 0 (dk_at dksX4_row_4 6 rfl rfl)
theorem dX4_row_103 : decode cX4_row 103 = .ok (.iload_n 1, 1) := dk_27 (dk_at dksX4_row_4 9 rfl rfl)
theorem dX4_row_104 : decode cX4_row 104 = .ok (.iadd, 1) := dk_96 (dk_at dksX4_row_4 10 rfl rfl)
theorem dX4_row_105 : decode cX4_row 105 = .ok (.iaload, 1) := dk_46 (dk_at dksX4_row_4 11 rfl rfl)
theorem dX4_row_106 : decode cX4_row 106 = .ok (.ireturn, 1) := dk_172 (dk_at dksX4_row_4 12 rfl rfl)
abbrev cX4_isRule : ByteArray := prog_21_method_6_code
def yX4_isRule : MethodName := ⟨RX4, "isRule", "(I)Z"⟩
def dkwX4_isRule_0 : List UInt8 := [27, 3, 42, 180, 0, 9, 5, 46, 4, 100, 184, 0, 42, 172]
abbrev dktX4_isRule_0 : List UInt8 := dkwX4_isRule_0 ++ []
theorem dksX4_isRule_0 : cX4_isRule.data.toList.drop 0 = dktX4_isRule_0 := by decide +kernel
theorem dX4_isRule_0 : decode cX4_isRule 0 = .ok (.iload_n 1, 1) := dk_27 (dk_at dksX4_isRule_0 0 rfl rfl)
theorem dX4_isRule_1 : decode cX4_isRule 1 = .ok (.iconst 0, 1) := dk_3 (dk_at dksX4_isRule_0 1 rfl rfl)
theorem dX4_isRule_2 : decode cX4_isRule 2 = .ok (.aload_n 0, 1) := dk_42 (dk_at dksX4_isRule_0 2 rfl rfl)
theorem dX4_isRule_3 : decode cX4_isRule 3 = .ok (.getfield 9, 3) := dk_180 0 9 (dk_at dksX4_isRule_0 3 rfl rfl)
theorem dX4_isRule_6 : decode cX4_isRule 6 = .ok (.iconst 2, 1) := dk_5 (dk_at dksX4_isRule_0 6 rfl rfl)
theorem dX4_isRule_7 : decode cX4_isRule 7 = .ok (.iaload, 1) := dk_46 (dk_at dksX4_isRule_0 7 rfl rfl)
theorem dX4_isRule_8 : decode cX4_isRule 8 = .ok (.iconst 1, 1) := dk_4 (dk_at dksX4_isRule_0 8 rfl rfl)
theorem dX4_isRule_9 : decode cX4_isRule 9 = .ok (.isub, 1) := dk_100 (dk_at dksX4_isRule_0 9 rfl rfl)
theorem dX4_isRule_10 : decode cX4_isRule 10 = .ok (.invokestatic 42, 3) := dk_184 0 42 (dk_at dksX4_isRule_0 10 rfl rfl)
theorem dX4_isRule_13 : decode cX4_isRule 13 = .ok (.ireturn, 1) := dk_172 (dk_at dksX4_isRule_0 13 rfl rfl)
abbrev cX4_lets : ByteArray := prog_21_method_51_code
def yX4_lets : MethodName := ⟨RX4, "lets", "(III)I"⟩
def dkwX4_lets_3 : List UInt8 := [172]
abbrev dktX4_lets_3 : List UInt8 := dkwX4_lets_3 ++ []
def dkwX4_lets_2 : List UInt8 := [46, 42, 180, 0, 9, 17, 3, 244, 27, 96, 46, 27, 29, 182, 0, 231, 153, 0, 7, 4, 167, 0, 4, 3]
abbrev dktX4_lets_2 : List UInt8 := dkwX4_lets_2 ++ dktX4_lets_3
def dkwX4_lets_1 : List UInt8 := [184, 0, 42, 154, 0, 6, 16, 254, 172, 42, 28, 182, 0, 178, 42, 42, 180, 0, 9, 17, 3, 232, 27, 96]
abbrev dktX4_lets_1 : List UInt8 := dkwX4_lets_1 ++ dktX4_lets_2
def dkwX4_lets_0 : List UInt8 := [42, 27, 182, 0, 206, 153, 0, 11, 42, 28, 182, 0, 191, 154, 0, 5, 2, 172, 29, 3, 16, 20]
abbrev dktX4_lets_0 : List UInt8 := dkwX4_lets_0 ++ dktX4_lets_1
theorem dksX4_lets_0 : cX4_lets.data.toList.drop 0 = dktX4_lets_0 := by decide +kernel
theorem dksX4_lets_1 : cX4_lets.data.toList.drop 22 = dktX4_lets_1 := dk_seg dksX4_lets_0 22 rfl rfl
theorem dksX4_lets_2 : cX4_lets.data.toList.drop 46 = dktX4_lets_2 := dk_seg dksX4_lets_1 24 rfl rfl
theorem dksX4_lets_3 : cX4_lets.data.toList.drop 70 = dktX4_lets_3 := dk_seg dksX4_lets_2 24 rfl rfl
theorem dX4_lets_0 : decode cX4_lets 0 = .ok (.aload_n 0, 1) := dk_42 (dk_at dksX4_lets_0 0 rfl rfl)
theorem dX4_lets_1 : decode cX4_lets 1 = .ok (.iload_n 1, 1) := dk_27 (dk_at dksX4_lets_0 1 rfl rfl)
theorem dX4_lets_2 : decode cX4_lets 2 = .ok (.invokevirtual 206, 3) := dk_182 0 206 (dk_at dksX4_lets_0 2 rfl rfl)
theorem dX4_lets_5 : decode cX4_lets 5 = .ok (.ifCond .eq 11, 3) := dk_153 0 11 (dk_at dksX4_lets_0 5 rfl rfl)
theorem dX4_lets_8 : decode cX4_lets 8 = .ok (.aload_n 0, 1) := dk_42 (dk_at dksX4_lets_0 8 rfl rfl)
theorem dX4_lets_9 : decode cX4_lets 9 = .ok (.iload_n 2, 1) := dk_28 (dk_at dksX4_lets_0 9 rfl rfl)
theorem dX4_lets_10 : decode cX4_lets 10 = .ok (.invokevirtual 191, 3) := dk_182 0 191 (dk_at dksX4_lets_0 10 rfl rfl)
theorem dX4_lets_13 : decode cX4_lets 13 = .ok (.ifCond .ne 5, 3) := dk_154 0 5 (dk_at dksX4_lets_0 13 rfl rfl)
theorem dX4_lets_16 : decode cX4_lets 16 = .ok (.iconst (-1), 1) := dk_2 (dk_at dksX4_lets_0 16 rfl rfl)
theorem dX4_lets_17 : decode cX4_lets 17 = .ok (.ireturn, 1) := dk_172 (dk_at dksX4_lets_0 17 rfl rfl)
theorem dX4_lets_18 : decode cX4_lets 18 = .ok (.iload_n 3, 1) := dk_29 (dk_at dksX4_lets_0 18 rfl rfl)
theorem dX4_lets_19 : decode cX4_lets 19 = .ok (.iconst 0, 1) := dk_3 (dk_at dksX4_lets_0 19 rfl rfl)
theorem dX4_lets_20 : decode cX4_lets 20 = .ok (.bipush 20, 2) := dk_16 20 (dk_at dksX4_lets_0 20 rfl rfl)
theorem dX4_lets_22 : decode cX4_lets 22 = .ok (.invokestatic 42, 3) := dk_184 0 42 (dk_at dksX4_lets_1 0 rfl rfl)
theorem dX4_lets_25 : decode cX4_lets 25 = .ok (.ifCond .ne 6, 3) := dk_154 0 6 (dk_at dksX4_lets_1 3 rfl rfl)
theorem dX4_lets_28 : decode cX4_lets 28 = .ok (.bipush (-2), 2) := dk_16 254 (dk_at dksX4_lets_1 6 rfl rfl)
theorem dX4_lets_30 : decode cX4_lets 30 = .ok (.ireturn, 1) := dk_172 (dk_at dksX4_lets_1 8 rfl rfl)
theorem dX4_lets_31 : decode cX4_lets 31 = .ok (.aload_n 0, 1) := dk_42 (dk_at dksX4_lets_1 9 rfl rfl)
theorem dX4_lets_32 : decode cX4_lets 32 = .ok (.iload_n 2, 1) := dk_28 (dk_at dksX4_lets_1 10 rfl rfl)
theorem dX4_lets_33 : decode cX4_lets 33 = .ok (.invokevirtual 178, 3) := dk_182 0 178 (dk_at dksX4_lets_1 11 rfl rfl)
theorem dX4_lets_36 : decode cX4_lets 36 = .ok (.aload_n 0, 1) := dk_42 (dk_at dksX4_lets_1 14 rfl rfl)
theorem dX4_lets_37 : decode cX4_lets 37 = .ok (.aload_n 0, 1) := dk_42 (dk_at dksX4_lets_1 15 rfl rfl)
theorem dX4_lets_38 : decode cX4_lets 38 = .ok (.getfield 9, 3) := dk_180 0 9 (dk_at dksX4_lets_1 16 rfl rfl)
theorem dX4_lets_41 : decode cX4_lets 41 = .ok (.sipush 1000, 3) := dk_17 3 232 (dk_at dksX4_lets_1 19 rfl rfl)
theorem dX4_lets_44 : decode cX4_lets 44 = .ok (.iload_n 1, 1) := dk_27 (dk_at dksX4_lets_1 22 rfl rfl)
theorem dX4_lets_45 : decode cX4_lets 45 = .ok (.iadd, 1) := dk_96 (dk_at dksX4_lets_1 23 rfl rfl)
theorem dX4_lets_46 : decode cX4_lets 46 = .ok (.iaload, 1) := dk_46 (dk_at dksX4_lets_2 0 rfl rfl)
theorem dX4_lets_47 : decode cX4_lets 47 = .ok (.aload_n 0, 1) := dk_42 (dk_at dksX4_lets_2 1 rfl rfl)
theorem dX4_lets_48 : decode cX4_lets 48 = .ok (.getfield 9, 3) := dk_180 0 9 (dk_at dksX4_lets_2 2 rfl rfl)
theorem dX4_lets_51 : decode cX4_lets 51 = .ok (.sipush 1012, 3) := dk_17 3 244 (dk_at dksX4_lets_2 5 rfl rfl)
theorem dX4_lets_54 : decode cX4_lets 54 = .ok (.iload_n 1, 1) := dk_27 (dk_at dksX4_lets_2 8 rfl rfl)
theorem dX4_lets_55 : decode cX4_lets 55 = .ok (.iadd, 1) := dk_96 (dk_at dksX4_lets_2 9 rfl rfl)
theorem dX4_lets_56 : decode cX4_lets 56 = .ok (.iaload, 1) := dk_46 (dk_at dksX4_lets_2 10 rfl rfl)
theorem dX4_lets_57 : decode cX4_lets 57 = .ok (.iload_n 1, 1) := dk_27 (dk_at dksX4_lets_2 11 rfl rfl)
theorem dX4_lets_58 : decode cX4_lets 58 = .ok (.iload_n 3, 1) := dk_29 (dk_at dksX4_lets_2 12 rfl rfl)
theorem dX4_lets_59 : decode cX4_lets 59 = .ok (.invokevirtual 231, 3) := dk_182 0 231 (dk_at dksX4_lets_2 13 rfl rfl)
theorem dX4_lets_62 : decode cX4_lets 62 = .ok (.ifCond .eq 7, 3) := dk_153 0 7 (dk_at dksX4_lets_2 16 rfl rfl)
theorem dX4_lets_65 : decode cX4_lets 65 = .ok (.iconst 1, 1) := dk_4 (dk_at dksX4_lets_2 19 rfl rfl)
theorem dX4_lets_66 : decode cX4_lets 66 = .ok (.goto 4, 3) := dk_167 0 4 (dk_at dksX4_lets_2 20 rfl rfl)
theorem dX4_lets_69 : decode cX4_lets 69 = .ok (.iconst 0, 1) := dk_3 (dk_at dksX4_lets_2 23 rfl rfl)
theorem dX4_lets_70 : decode cX4_lets 70 = .ok (.ireturn, 1) := dk_172 (dk_at dksX4_lets_3 0 rfl rfl)
abbrev cX4_letsIn : ByteArray := prog_21_method_50_code
def yX4_letsIn : MethodName := ⟨RX4, "letsIn", "(IIII)Z"⟩
def dkwX4_letsIn_7 : List UInt8 := [180, 0, 211, 172, 4, 172]
abbrev dktX4_letsIn_7 : List UInt8 := dkwX4_letsIn_7 ++ []
def dkwX4_letsIn_6 : List UInt8 := [160, 0, 7, 4, 167, 0, 4, 3, 172, 42, 4, 28, 16, 9, 112, 96, 21, 4, 182, 0, 228, 55, 5, 42]
abbrev dktX4_letsIn_6 : List UInt8 := dkwX4_letsIn_6 ++ dktX4_letsIn_7
def dkwX4_letsIn_5 : List UInt8 := [29, 96, 46, 162, 0, 23, 42, 180, 0, 9, 17, 4, 12, 16, 10, 29, 104, 96, 21, 4, 96, 46, 4]
abbrev dktX4_letsIn_5 : List UInt8 := dkwX4_letsIn_5 ++ dktX4_letsIn_6
def dkwX4_letsIn_4 : List UInt8 := [96, 17, 3, 232, 28, 104, 162, 0, 7, 4, 167, 0, 4, 3, 172, 21, 4, 42, 180, 0, 9, 17, 4, 0]
abbrev dktX4_letsIn_4 : List UInt8 := dkwX4_letsIn_4 ++ dktX4_letsIn_5
def dkwX4_letsIn_3 : List UInt8 := [167, 0, 4, 3, 172, 42, 180, 0, 22, 4, 46, 42, 180, 0, 22, 5, 46, 96, 42, 180, 0, 22, 6, 46]
abbrev dktX4_letsIn_3 : List UInt8 := dkwX4_letsIn_3 ++ dktX4_letsIn_4
def dkwX4_letsIn_2 : List UInt8 := [21, 4, 28, 161, 0, 7, 4, 167, 0, 4, 3, 172, 21, 4, 28, 42, 180, 0, 175, 104, 161, 0, 7, 4]
abbrev dktX4_letsIn_2 : List UInt8 := dkwX4_letsIn_2 ++ dktX4_letsIn_3
def dkwX4_letsIn_1 : List UInt8 := [170, 0, 0, 0, 0, 0, 162, 0, 0, 0, 1, 0, 0, 0, 6, 0, 0, 0, 39, 0, 0, 0, 51, 0, 0, 0, 39, 0, 0, 0, 68, 0, 0, 0, 102, 0, 0, 0, 143]
abbrev dktX4_letsIn_1 : List UInt8 := dkwX4_letsIn_1 ++ dktX4_letsIn_2
def dkwX4_letsIn_0 : List UInt8 := [27]
abbrev dktX4_letsIn_0 : List UInt8 := dkwX4_letsIn_0 ++ dktX4_letsIn_1
theorem dksX4_letsIn_0 : cX4_letsIn.data.toList.drop 0 = dktX4_letsIn_0 := by decide +kernel
theorem dksX4_letsIn_1 : cX4_letsIn.data.toList.drop 1 = dktX4_letsIn_1 := dk_seg dksX4_letsIn_0 1 rfl rfl
theorem dksX4_letsIn_2 : cX4_letsIn.data.toList.drop 40 = dktX4_letsIn_2 := dk_seg dksX4_letsIn_1 39 rfl rfl
theorem dksX4_letsIn_3 : cX4_letsIn.data.toList.drop 64 = dktX4_letsIn_3 := dk_seg dksX4_letsIn_2 24 rfl rfl
theorem dksX4_letsIn_4 : cX4_letsIn.data.toList.drop 88 = dktX4_letsIn_4 := dk_seg dksX4_letsIn_3 24 rfl rfl
theorem dksX4_letsIn_5 : cX4_letsIn.data.toList.drop 112 = dktX4_letsIn_5 := dk_seg dksX4_letsIn_4 24 rfl rfl
theorem dksX4_letsIn_6 : cX4_letsIn.data.toList.drop 135 = dktX4_letsIn_6 := dk_seg dksX4_letsIn_5 23 rfl rfl
theorem dksX4_letsIn_7 : cX4_letsIn.data.toList.drop 159 = dktX4_letsIn_7 := dk_seg dksX4_letsIn_6 24 rfl rfl
theorem dX4_letsIn_0 : decode cX4_letsIn 0 = .ok (.iload_n 1, 1) := dk_27 (dk_at dksX4_letsIn_0 0 rfl rfl)
theorem dX4_letsIn_1 : decode cX4_letsIn 1 = .ok (.tableswitch 162 1 6 #[39, 51, 39, 68, 102, 143], 39) := by decide +kernel
theorem dX4_letsIn_40 : decode cX4_letsIn 40 = .ok (.iload 4, 2) := dk_21 4 (dk_at dksX4_letsIn_2 0 rfl rfl)
theorem dX4_letsIn_42 : decode cX4_letsIn 42 = .ok (.iload_n 2, 1) := dk_28 (dk_at dksX4_letsIn_2 2 rfl rfl)
theorem dX4_letsIn_43 : decode cX4_letsIn 43 = .ok (.if_icmp .lt 7, 3) := dk_161 0 7 (dk_at dksX4_letsIn_2 3 rfl rfl)
theorem dX4_letsIn_46 : decode cX4_letsIn 46 = .ok (.iconst 1, 1) := dk_4 (dk_at dksX4_letsIn_2 6 rfl rfl)
theorem dX4_letsIn_47 : decode cX4_letsIn 47 = .ok (.goto 4, 3) := dk_167 0 4 (dk_at dksX4_letsIn_2 7 rfl rfl)
theorem dX4_letsIn_50 : decode cX4_letsIn 50 = .ok (.iconst 0, 1) := dk_3 (dk_at dksX4_letsIn_2 10 rfl rfl)
theorem dX4_letsIn_51 : decode cX4_letsIn 51 = .ok (.ireturn, 1) := dk_172 (dk_at dksX4_letsIn_2 11 rfl rfl)
theorem dX4_letsIn_52 : decode cX4_letsIn 52 = .ok (.iload 4, 2) := dk_21 4 (dk_at dksX4_letsIn_2 12 rfl rfl)
theorem dX4_letsIn_54 : decode cX4_letsIn 54 = .ok (.iload_n 2, 1) := dk_28 (dk_at dksX4_letsIn_2 14 rfl rfl)
theorem dX4_letsIn_55 : decode cX4_letsIn 55 = .ok (.aload_n 0, 1) := dk_42 (dk_at dksX4_letsIn_2 15 rfl rfl)
theorem dX4_letsIn_56 : decode cX4_letsIn 56 = .ok (.getfield 175, 3) := dk_180 0 175 (dk_at dksX4_letsIn_2 16 rfl rfl)
theorem dX4_letsIn_59 : decode cX4_letsIn 59 = .ok (.imul, 1) := dk_104 (dk_at dksX4_letsIn_2 19 rfl rfl)
theorem dX4_letsIn_60 : decode cX4_letsIn 60 = .ok (.if_icmp .lt 7, 3) := dk_161 0 7 (dk_at dksX4_letsIn_2 20 rfl rfl)
theorem dX4_letsIn_63 : decode cX4_letsIn 63 = .ok (.iconst 1, 1) := dk_4 (dk_at dksX4_letsIn_2 23 rfl rfl)
theorem dX4_letsIn_64 : decode cX4_letsIn 64 = .ok (.goto 4, 3) := dk_167 0 4 (dk_at dksX4_letsIn_3 0 rfl rfl)
theorem dX4_letsIn_67 : decode cX4_letsIn 67 = .ok (.iconst 0, 1) := dk_3 (dk_at dksX4_letsIn_3 3 rfl rfl)
theorem dX4_letsIn_68 : decode cX4_letsIn 68 = .ok (.ireturn, 1) := dk_172 (dk_at dksX4_letsIn_3 4 rfl rfl)
theorem dX4_letsIn_69 : decode cX4_letsIn 69 = .ok (.aload_n 0, 1) := dk_42 (dk_at dksX4_letsIn_3 5 rfl rfl)
theorem dX4_letsIn_70 : decode cX4_letsIn 70 = .ok (.getfield 22, 3) := dk_180 0 22 (dk_at dksX4_letsIn_3 6 rfl rfl)
theorem dX4_letsIn_73 : decode cX4_letsIn 73 = .ok (.iconst 1, 1) := dk_4 (dk_at dksX4_letsIn_3 9 rfl rfl)
theorem dX4_letsIn_74 : decode cX4_letsIn 74 = .ok (.iaload, 1) := dk_46 (dk_at dksX4_letsIn_3 10 rfl rfl)
theorem dX4_letsIn_75 : decode cX4_letsIn 75 = .ok (.aload_n 0, 1) := dk_42 (dk_at dksX4_letsIn_3 11 rfl rfl)
theorem dX4_letsIn_76 : decode cX4_letsIn 76 = .ok (.getfield 22, 3) := dk_180 0 22 (dk_at dksX4_letsIn_3 12 rfl rfl)
theorem dX4_letsIn_79 : decode cX4_letsIn 79 = .ok (.iconst 2, 1) := dk_5 (dk_at dksX4_letsIn_3 15 rfl rfl)
theorem dX4_letsIn_80 : decode cX4_letsIn 80 = .ok (.iaload, 1) := dk_46 (dk_at dksX4_letsIn_3 16 rfl rfl)
theorem dX4_letsIn_81 : decode cX4_letsIn 81 = .ok (.iadd, 1) := dk_96 (dk_at dksX4_letsIn_3 17 rfl rfl)
theorem dX4_letsIn_82 : decode cX4_letsIn 82 = .ok (.aload_n 0, 1) := dk_42 (dk_at dksX4_letsIn_3 18 rfl rfl)
theorem dX4_letsIn_83 : decode cX4_letsIn 83 = .ok (.getfield 22, 3) := dk_180 0 22 (dk_at dksX4_letsIn_3 19 rfl rfl)
theorem dX4_letsIn_86 : decode cX4_letsIn 86 = .ok (.iconst 3, 1) := dk_6 (dk_at dksX4_letsIn_3 22 rfl rfl)
theorem dX4_letsIn_87 : decode cX4_letsIn 87 = .ok (.iaload, 1) := dk_46 (dk_at dksX4_letsIn_3 23 rfl rfl)
theorem dX4_letsIn_88 : decode cX4_letsIn 88 = .ok (.iadd, 1) := dk_96 (dk_at dksX4_letsIn_4 0 rfl rfl)
theorem dX4_letsIn_89 : decode cX4_letsIn 89 = .ok (.sipush 1000, 3) := dk_17 3 232 (dk_at dksX4_letsIn_4 1 rfl rfl)
theorem dX4_letsIn_92 : decode cX4_letsIn 92 = .ok (.iload_n 2, 1) := dk_28 (dk_at dksX4_letsIn_4 4 rfl rfl)
theorem dX4_letsIn_93 : decode cX4_letsIn 93 = .ok (.imul, 1) := dk_104 (dk_at dksX4_letsIn_4 5 rfl rfl)
theorem dX4_letsIn_94 : decode cX4_letsIn 94 = .ok (.if_icmp .ge 7, 3) := dk_162 0 7 (dk_at dksX4_letsIn_4 6 rfl rfl)
theorem dX4_letsIn_97 : decode cX4_letsIn 97 = .ok (.iconst 1, 1) := dk_4 (dk_at dksX4_letsIn_4 9 rfl rfl)
theorem dX4_letsIn_98 : decode cX4_letsIn 98 = .ok (.goto 4, 3) := dk_167 0 4 (dk_at dksX4_letsIn_4 10 rfl rfl)
theorem dX4_letsIn_101 : decode cX4_letsIn 101 = .ok (.iconst 0, 1) := dk_3 (dk_at dksX4_letsIn_4 13 rfl rfl)
theorem dX4_letsIn_102 : decode cX4_letsIn 102 = .ok (.ireturn, 1) := dk_172 (dk_at dksX4_letsIn_4 14 rfl rfl)
theorem dX4_letsIn_103 : decode cX4_letsIn 103 = .ok (.iload 4, 2) := dk_21 4 (dk_at dksX4_letsIn_4 15 rfl rfl)
theorem dX4_letsIn_105 : decode cX4_letsIn 105 = .ok (.aload_n 0, 1) := dk_42 (dk_at dksX4_letsIn_4 17 rfl rfl)
theorem dX4_letsIn_106 : decode cX4_letsIn 106 = .ok (.getfield 9, 3) := dk_180 0 9 (dk_at dksX4_letsIn_4 18 rfl rfl)
theorem dX4_letsIn_109 : decode cX4_letsIn 109 = .ok (.sipush 1024, 3) := dk_17 4 0 (dk_at dksX4_letsIn_4 21 rfl rfl)
theorem dX4_letsIn_112 : decode cX4_letsIn 112 = .ok (.iload_n 3, 1) := dk_29 (dk_at dksX4_letsIn_5 0 rfl rfl)
theorem dX4_letsIn_113 : decode cX4_letsIn 113 = .ok (.iadd, 1) := dk_96 (dk_at dksX4_letsIn_5 1 rfl rfl)
theorem dX4_letsIn_114 : decode cX4_letsIn 114 = .ok (.iaload, 1) := dk_46 (dk_at dksX4_letsIn_5 2 rfl rfl)
theorem dX4_letsIn_115 : decode cX4_letsIn 115 = .ok (.if_icmp .ge 23, 3) := dk_162 0 23 (dk_at dksX4_letsIn_5 3 rfl rfl)
theorem dX4_letsIn_118 : decode cX4_letsIn 118 = .ok (.aload_n 0, 1) := dk_42 (dk_at dksX4_letsIn_5 6 rfl rfl)
theorem dX4_letsIn_119 : decode cX4_letsIn 119 = .ok (.getfield 9, 3) := dk_180 0 9 (dk_at dksX4_letsIn_5 7 rfl rfl)
theorem dX4_letsIn_122 : decode cX4_letsIn 122 = .ok (.sipush 1036, 3) := dk_17 4 12 (dk_at dksX4_letsIn_5 10 rfl rfl)
theorem dX4_letsIn_125 : decode cX4_letsIn 125 = .ok (.bipush 10, 2) := dk_16 10 (dk_at dksX4_letsIn_5 13 rfl rfl)
theorem dX4_letsIn_127 : decode cX4_letsIn 127 = .ok (.iload_n 3, 1) := dk_29 (dk_at dksX4_letsIn_5 15 rfl rfl)
theorem dX4_letsIn_128 : decode cX4_letsIn 128 = .ok (.imul, 1) := dk_104 (dk_at dksX4_letsIn_5 16 rfl rfl)
theorem dX4_letsIn_129 : decode cX4_letsIn 129 = .ok (.iadd, 1) := dk_96 (dk_at dksX4_letsIn_5 17 rfl rfl)
theorem dX4_letsIn_130 : decode cX4_letsIn 130 = .ok (.iload 4, 2) := dk_21 4 (dk_at dksX4_letsIn_5 18 rfl rfl)
theorem dX4_letsIn_132 : decode cX4_letsIn 132 = .ok (.iadd, 1) := dk_96 (dk_at dksX4_letsIn_5 20 rfl rfl)
theorem dX4_letsIn_133 : decode cX4_letsIn 133 = .ok (.iaload, 1) := dk_46 (dk_at dksX4_letsIn_5 21 rfl rfl)
theorem dX4_letsIn_134 : decode cX4_letsIn 134 = .ok (.iconst 1, 1) := dk_4 (dk_at dksX4_letsIn_5 22 rfl rfl)
theorem dX4_letsIn_135 : decode cX4_letsIn 135 = .ok (.if_icmp .ne 7, 3) := dk_160 0 7 (dk_at dksX4_letsIn_6 0 rfl rfl)
theorem dX4_letsIn_138 : decode cX4_letsIn 138 = .ok (.iconst 1, 1) := dk_4 (dk_at dksX4_letsIn_6 3 rfl rfl)
theorem dX4_letsIn_139 : decode cX4_letsIn 139 = .ok (.goto 4, 3) := dk_167 0 4 (dk_at dksX4_letsIn_6 4 rfl rfl)
theorem dX4_letsIn_142 : decode cX4_letsIn 142 = .ok (.iconst 0, 1) := dk_3 (dk_at dksX4_letsIn_6 7 rfl rfl)
theorem dX4_letsIn_143 : decode cX4_letsIn 143 = .ok (.ireturn, 1) := dk_172 (dk_at dksX4_letsIn_6 8 rfl rfl)
theorem dX4_letsIn_144 : decode cX4_letsIn 144 = .ok (.aload_n 0, 1) := dk_42 (dk_at dksX4_letsIn_6 9 rfl rfl)
theorem dX4_letsIn_145 : decode cX4_letsIn 145 = .ok (.iconst 1, 1) := dk_4 (dk_at dksX4_letsIn_6 10 rfl rfl)
theorem dX4_letsIn_146 : decode cX4_letsIn 146 = .ok (.iload_n 2, 1) := dk_28 (dk_at dksX4_letsIn_6 11 rfl rfl)
theorem dX4_letsIn_147 : decode cX4_letsIn 147 = .ok (.bipush 9, 2) := dk_16 9 (dk_at dksX4_letsIn_6 12 rfl rfl)
theorem dX4_letsIn_149 : decode cX4_letsIn 149 = .ok (.irem, 1) := dk_112 (dk_at dksX4_letsIn_6 14 rfl rfl)
theorem dX4_letsIn_150 : decode cX4_letsIn 150 = .ok (.iadd, 1) := dk_96 (dk_at dksX4_letsIn_6 15 rfl rfl)
theorem dX4_letsIn_151 : decode cX4_letsIn 151 = .ok (.iload 4, 2) := dk_21 4 (dk_at dksX4_letsIn_6 16 rfl rfl)
theorem dX4_letsIn_153 : decode cX4_letsIn 153 = .ok (.invokevirtual 228, 3) := dk_182 0 228 (dk_at dksX4_letsIn_6 18 rfl rfl)
theorem dX4_letsIn_156 : decode cX4_letsIn 156 = .ok (.lstore 5, 2) := dk_55 5 (dk_at dksX4_letsIn_6 21 rfl rfl)
theorem dX4_letsIn_158 : decode cX4_letsIn 158 = .ok (.aload_n 0, 1) := dk_42 (dk_at dksX4_letsIn_6 23 rfl rfl)
theorem dX4_letsIn_159 : decode cX4_letsIn 159 = .ok (.getfield 211, 3) := dk_180 0 211 (dk_at dksX4_letsIn_7 0 rfl rfl)
theorem dX4_letsIn_162 : decode cX4_letsIn 162 = .ok (.ireturn, 1) := dk_172 (dk_at dksX4_letsIn_7 3 rfl rfl)
theorem dX4_letsIn_163 : decode cX4_letsIn 163 = .ok (.iconst 1, 1) := dk_4 (dk_at dksX4_letsIn_7 4 rfl rfl)
theorem dX4_letsIn_164 : decode cX4_letsIn 164 = .ok (.ireturn, 1) := dk_172 (dk_at dksX4_letsIn_7 5 rfl rfl)
abbrev cX4_bestBeside : ByteArray := prog_21_method_49_code
def yX4_bestBeside : MethodName := ⟨RX4, "bestBeside", "(II)J"⟩
def dkwX4_bestBeside_0 : List UInt8 := [42, 182, 0, 225, 42, 7, 27, 28, 182, 0, 217, 173]
abbrev dktX4_bestBeside_0 : List UInt8 := dkwX4_bestBeside_0 ++ []
theorem dksX4_bestBeside_0 : cX4_bestBeside.data.toList.drop 0 = dktX4_bestBeside_0 := by decide +kernel
theorem dX4_bestBeside_0 : decode cX4_bestBeside 0 = .ok (.aload_n 0, 1) := dk_42 (dk_at dksX4_bestBeside_0 0 rfl rfl)
theorem dX4_bestBeside_1 : decode cX4_bestBeside 1 = .ok (.invokevirtual 225, 3) := dk_182 0 225 (dk_at dksX4_bestBeside_0 1 rfl rfl)
theorem dX4_bestBeside_4 : decode cX4_bestBeside 4 = .ok (.aload_n 0, 1) := dk_42 (dk_at dksX4_bestBeside_0 4 rfl rfl)
theorem dX4_bestBeside_5 : decode cX4_bestBeside 5 = .ok (.iconst 4, 1) := dk_7 (dk_at dksX4_bestBeside_0 5 rfl rfl)
theorem dX4_bestBeside_6 : decode cX4_bestBeside 6 = .ok (.iload_n 1, 1) := dk_27 (dk_at dksX4_bestBeside_0 6 rfl rfl)
theorem dX4_bestBeside_7 : decode cX4_bestBeside 7 = .ok (.iload_n 2, 1) := dk_28 (dk_at dksX4_bestBeside_0 7 rfl rfl)
theorem dX4_bestBeside_8 : decode cX4_bestBeside 8 = .ok (.invokevirtual 217, 3) := dk_182 0 217 (dk_at dksX4_bestBeside_0 8 rfl rfl)
theorem dX4_bestBeside_11 : decode cX4_bestBeside 11 = .ok (.lreturn, 1) := dk_173 (dk_at dksX4_bestBeside_0 11 rfl rfl)
abbrev cX4_copies : ByteArray := prog_21_method_48_code
def yX4_copies : MethodName := ⟨RX4, "copies", "()V"⟩
def dkwX4_copies_1 : List UInt8 := [167, 255, 234, 177]
abbrev dktX4_copies_1 : List UInt8 := dkwX4_copies_1 ++ []
def dkwX4_copies_0 : List UInt8 := [3, 60, 27, 7, 162, 0, 23, 42, 180, 0, 22, 7, 27, 96, 42, 180, 0, 22, 27, 46, 79, 132, 1, 1]
abbrev dktX4_copies_0 : List UInt8 := dkwX4_copies_0 ++ dktX4_copies_1
theorem dksX4_copies_0 : cX4_copies.data.toList.drop 0 = dktX4_copies_0 := by decide +kernel
theorem dksX4_copies_1 : cX4_copies.data.toList.drop 24 = dktX4_copies_1 := dk_seg dksX4_copies_0 24 rfl rfl
theorem dX4_copies_0 : decode cX4_copies 0 = .ok (.iconst 0, 1) := dk_3 (dk_at dksX4_copies_0 0 rfl rfl)
theorem dX4_copies_1 : decode cX4_copies 1 = .ok (.istore_n 1, 1) := dk_60 (dk_at dksX4_copies_0 1 rfl rfl)
theorem dX4_copies_2 : decode cX4_copies 2 = .ok (.iload_n 1, 1) := dk_27 (dk_at dksX4_copies_0 2 rfl rfl)
theorem dX4_copies_3 : decode cX4_copies 3 = .ok (.iconst 4, 1) := dk_7 (dk_at dksX4_copies_0 3 rfl rfl)
theorem dX4_copies_4 : decode cX4_copies 4 = .ok (.if_icmp .ge 23, 3) := dk_162 0 23 (dk_at dksX4_copies_0 4 rfl rfl)
theorem dX4_copies_7 : decode cX4_copies 7 = .ok (.aload_n 0, 1) := dk_42 (dk_at dksX4_copies_0 7 rfl rfl)
theorem dX4_copies_8 : decode cX4_copies 8 = .ok (.getfield 22, 3) := dk_180 0 22 (dk_at dksX4_copies_0 8 rfl rfl)
theorem dX4_copies_11 : decode cX4_copies 11 = .ok (.iconst 4, 1) := dk_7 (dk_at dksX4_copies_0 11 rfl rfl)
theorem dX4_copies_12 : decode cX4_copies 12 = .ok (.iload_n 1, 1) := dk_27 (dk_at dksX4_copies_0 12 rfl rfl)
theorem dX4_copies_13 : decode cX4_copies 13 = .ok (.iadd, 1) := dk_96 (dk_at dksX4_copies_0 13 rfl rfl)
theorem dX4_copies_14 : decode cX4_copies 14 = .ok (.aload_n 0, 1) := dk_42 (dk_at dksX4_copies_0 14 rfl rfl)
theorem dX4_copies_15 : decode cX4_copies 15 = .ok (.getfield 22, 3) := dk_180 0 22 (dk_at dksX4_copies_0 15 rfl rfl)
theorem dX4_copies_18 : decode cX4_copies 18 = .ok (.iload_n 1, 1) := dk_27 (dk_at dksX4_copies_0 18 rfl rfl)
theorem dX4_copies_19 : decode cX4_copies 19 = .ok (.iaload, 1) := dk_46 (dk_at dksX4_copies_0 19 rfl rfl)
theorem dX4_copies_20 : decode cX4_copies 20 = .ok (.iastore, 1) := dk_79 (dk_at dksX4_copies_0 20 rfl rfl)
theorem dX4_copies_21 : decode cX4_copies 21 = .ok (.iinc 1 1, 3) := dk_132 1 1 (dk_at dksX4_copies_0 21 rfl rfl)
theorem dX4_copies_24 : decode cX4_copies 24 = .ok (.goto (-22), 3) := dk_167 255 234 (dk_at dksX4_copies_1 0 rfl rfl)
theorem dX4_copies_27 : decode cX4_copies 27 = .ok (.return_, 1) := dk_177 (dk_at dksX4_copies_1 3 rfl rfl)
abbrev cX4_bestFrom : ByteArray := prog_21_method_47_code
def yX4_bestFrom : MethodName := ⟨RX4, "bestFrom", "(III)J"⟩
def dkwX4_bestFrom_3 : List UInt8 := [180, 0, 211, 153, 0, 8, 22, 4, 167, 0, 5, 22, 9, 173]
abbrev dktX4_bestFrom_3 : List UInt8 := dkwX4_bestFrom_3 ++ []
def dkwX4_bestFrom_2 : List UInt8 := [184, 0, 221, 55, 9, 42, 22, 4, 22, 9, 148, 157, 0, 7, 4, 167, 0, 4, 3, 181, 0, 211, 42]
abbrev dktX4_bestFrom_2 : List UInt8 := dkwX4_bestFrom_2 ++ dktX4_bestFrom_3
def dkwX4_bestFrom_1 : List UInt8 := [55, 6, 42, 27, 182, 0, 194, 54, 8, 22, 6, 42, 27, 28, 4, 100, 29, 4, 96, 182, 0, 217, 21, 8]
abbrev dktX4_bestFrom_1 : List UInt8 := dkwX4_bestFrom_1 ++ dktX4_bestFrom_2
def dkwX4_bestFrom_0 : List UInt8 := [42, 27, 182, 0, 202, 55, 4, 28, 154, 0, 11, 42, 4, 181, 0, 211, 22, 4, 173, 42, 29, 182, 0, 214]
abbrev dktX4_bestFrom_0 : List UInt8 := dkwX4_bestFrom_0 ++ dktX4_bestFrom_1
theorem dksX4_bestFrom_0 : cX4_bestFrom.data.toList.drop 0 = dktX4_bestFrom_0 := by decide +kernel
theorem dksX4_bestFrom_1 : cX4_bestFrom.data.toList.drop 24 = dktX4_bestFrom_1 := dk_seg dksX4_bestFrom_0 24 rfl rfl
theorem dksX4_bestFrom_2 : cX4_bestFrom.data.toList.drop 48 = dktX4_bestFrom_2 := dk_seg dksX4_bestFrom_1 24 rfl rfl
theorem dksX4_bestFrom_3 : cX4_bestFrom.data.toList.drop 71 = dktX4_bestFrom_3 := dk_seg dksX4_bestFrom_2 23 rfl rfl
theorem dX4_bestFrom_0 : decode cX4_bestFrom 0 = .ok (.aload_n 0, 1) := dk_42 (dk_at dksX4_bestFrom_0 0 rfl rfl)
theorem dX4_bestFrom_1 : decode cX4_bestFrom 1 = .ok (.iload_n 1, 1) := dk_27 (dk_at dksX4_bestFrom_0 1 rfl rfl)
theorem dX4_bestFrom_2 : decode cX4_bestFrom 2 = .ok (.invokevirtual 202, 3) := dk_182 0 202 (dk_at dksX4_bestFrom_0 2 rfl rfl)
theorem dX4_bestFrom_5 : decode cX4_bestFrom 5 = .ok (.lstore 4, 2) := dk_55 4 (dk_at dksX4_bestFrom_0 5 rfl rfl)
theorem dX4_bestFrom_7 : decode cX4_bestFrom 7 = .ok (.iload_n 2, 1) := dk_28 (dk_at dksX4_bestFrom_0 7 rfl rfl)
theorem dX4_bestFrom_8 : decode cX4_bestFrom 8 = .ok (.ifCond .ne 11, 3) := dk_154 0 11 (dk_at dksX4_bestFrom_0 8 rfl rfl)
theorem dX4_bestFrom_11 : decode cX4_bestFrom 11 = .ok (.aload_n 0, 1) := dk_42 (dk_at dksX4_bestFrom_0 11 rfl rfl)
theorem dX4_bestFrom_12 : decode cX4_bestFrom 12 = .ok (.iconst 1, 1) := dk_4 (dk_at dksX4_bestFrom_0 12 rfl rfl)
theorem dX4_bestFrom_13 : decode cX4_bestFrom 13 = .ok (.putfield 211, 3) := dk_181 0 211 (dk_at dksX4_bestFrom_0 13 rfl rfl)
theorem dX4_bestFrom_16 : decode cX4_bestFrom 16 = .ok (.lload 4, 2) := dk_22 4 (dk_at dksX4_bestFrom_0 16 rfl rfl)
theorem dX4_bestFrom_18 : decode cX4_bestFrom 18 = .ok (.lreturn, 1) := dk_173 (dk_at dksX4_bestFrom_0 18 rfl rfl)
theorem dX4_bestFrom_19 : decode cX4_bestFrom 19 = .ok (.aload_n 0, 1) := dk_42 (dk_at dksX4_bestFrom_0 19 rfl rfl)
theorem dX4_bestFrom_20 : decode cX4_bestFrom 20 = .ok (.iload_n 3, 1) := dk_29 (dk_at dksX4_bestFrom_0 20 rfl rfl)
theorem dX4_bestFrom_21 : decode cX4_bestFrom 21 = .ok (.invokevirtual 214, 3) := dk_182 0 214 (dk_at dksX4_bestFrom_0 21 rfl rfl)
theorem dX4_bestFrom_24 : decode cX4_bestFrom 24 = .ok (.lstore 6, 2) := dk_55 6 (dk_at dksX4_bestFrom_1 0 rfl rfl)
theorem dX4_bestFrom_26 : decode cX4_bestFrom 26 = .ok (.aload_n 0, 1) := dk_42 (dk_at dksX4_bestFrom_1 2 rfl rfl)
theorem dX4_bestFrom_27 : decode cX4_bestFrom 27 = .ok (.iload_n 1, 1) := dk_27 (dk_at dksX4_bestFrom_1 3 rfl rfl)
theorem dX4_bestFrom_28 : decode cX4_bestFrom 28 = .ok (.invokevirtual 194, 3) := dk_182 0 194 (dk_at dksX4_bestFrom_1 4 rfl rfl)
theorem dX4_bestFrom_31 : decode cX4_bestFrom 31 = .ok (.istore 8, 2) := dk_54 8 (dk_at dksX4_bestFrom_1 7 rfl rfl)
theorem dX4_bestFrom_33 : decode cX4_bestFrom 33 = .ok (.lload 6, 2) := dk_22 6 (dk_at dksX4_bestFrom_1 9 rfl rfl)
theorem dX4_bestFrom_35 : decode cX4_bestFrom 35 = .ok (.aload_n 0, 1) := dk_42 (dk_at dksX4_bestFrom_1 11 rfl rfl)
theorem dX4_bestFrom_36 : decode cX4_bestFrom 36 = .ok (.iload_n 1, 1) := dk_27 (dk_at dksX4_bestFrom_1 12 rfl rfl)
theorem dX4_bestFrom_37 : decode cX4_bestFrom 37 = .ok (.iload_n 2, 1) := dk_28 (dk_at dksX4_bestFrom_1 13 rfl rfl)
theorem dX4_bestFrom_38 : decode cX4_bestFrom 38 = .ok (.iconst 1, 1) := dk_4 (dk_at dksX4_bestFrom_1 14 rfl rfl)
theorem dX4_bestFrom_39 : decode cX4_bestFrom 39 = .ok (.isub, 1) := dk_100 (dk_at dksX4_bestFrom_1 15 rfl rfl)
theorem dX4_bestFrom_40 : decode cX4_bestFrom 40 = .ok (.iload_n 3, 1) := dk_29 (dk_at dksX4_bestFrom_1 16 rfl rfl)
theorem dX4_bestFrom_41 : decode cX4_bestFrom 41 = .ok (.iconst 1, 1) := dk_4 (dk_at dksX4_bestFrom_1 17 rfl rfl)
theorem dX4_bestFrom_42 : decode cX4_bestFrom 42 = .ok (.iadd, 1) := dk_96 (dk_at dksX4_bestFrom_1 18 rfl rfl)
theorem dX4_bestFrom_43 : decode cX4_bestFrom 43 = .ok (.invokevirtual 217, 3) := dk_182 0 217 (dk_at dksX4_bestFrom_1 19 rfl rfl)
theorem dX4_bestFrom_46 : decode cX4_bestFrom 46 = .ok (.iload 8, 2) := dk_21 8 (dk_at dksX4_bestFrom_1 22 rfl rfl)
theorem dX4_bestFrom_48 : decode cX4_bestFrom 48 = .ok (.invokestatic 221, 3) := dk_184 0 221 (dk_at dksX4_bestFrom_2 0 rfl rfl)
theorem dX4_bestFrom_51 : decode cX4_bestFrom 51 = .ok (.lstore 9, 2) := dk_55 9 (dk_at dksX4_bestFrom_2 3 rfl rfl)
theorem dX4_bestFrom_53 : decode cX4_bestFrom 53 = .ok (.aload_n 0, 1) := dk_42 (dk_at dksX4_bestFrom_2 5 rfl rfl)
theorem dX4_bestFrom_54 : decode cX4_bestFrom 54 = .ok (.lload 4, 2) := dk_22 4 (dk_at dksX4_bestFrom_2 6 rfl rfl)
theorem dX4_bestFrom_56 : decode cX4_bestFrom 56 = .ok (.lload 9, 2) := dk_22 9 (dk_at dksX4_bestFrom_2 8 rfl rfl)
theorem dX4_bestFrom_58 : decode cX4_bestFrom 58 = .ok (.lcmp, 1) := dk_148 (dk_at dksX4_bestFrom_2 10 rfl rfl)
theorem dX4_bestFrom_59 : decode cX4_bestFrom 59 = .ok (.ifCond .gt 7, 3) := dk_157 0 7 (dk_at dksX4_bestFrom_2 11 rfl rfl)
theorem dX4_bestFrom_62 : decode cX4_bestFrom 62 = .ok (.iconst 1, 1) := dk_4 (dk_at dksX4_bestFrom_2 14 rfl rfl)
theorem dX4_bestFrom_63 : decode cX4_bestFrom 63 = .ok (.goto 4, 3) := dk_167 0 4 (dk_at dksX4_bestFrom_2 15 rfl rfl)
theorem dX4_bestFrom_66 : decode cX4_bestFrom 66 = .ok (.iconst 0, 1) := dk_3 (dk_at dksX4_bestFrom_2 18 rfl rfl)
theorem dX4_bestFrom_67 : decode cX4_bestFrom 67 = .ok (.putfield 211, 3) := dk_181 0 211 (dk_at dksX4_bestFrom_2 19 rfl rfl)
theorem dX4_bestFrom_70 : decode cX4_bestFrom 70 = .ok (.aload_n 0, 1) := dk_42 (dk_at dksX4_bestFrom_2 22 rfl rfl)
theorem dX4_bestFrom_71 : decode cX4_bestFrom 71 = .ok (.getfield 211, 3) := dk_180 0 211 (dk_at dksX4_bestFrom_3 0 rfl rfl)
theorem dX4_bestFrom_74 : decode cX4_bestFrom 74 = .ok (.ifCond .eq 8, 3) := dk_153 0 8 (dk_at dksX4_bestFrom_3 3 rfl rfl)
theorem dX4_bestFrom_77 : decode cX4_bestFrom 77 = .ok (.lload 4, 2) := dk_22 4 (dk_at dksX4_bestFrom_3 6 rfl rfl)
theorem dX4_bestFrom_79 : decode cX4_bestFrom 79 = .ok (.goto 5, 3) := dk_167 0 5 (dk_at dksX4_bestFrom_3 8 rfl rfl)
theorem dX4_bestFrom_82 : decode cX4_bestFrom 82 = .ok (.lload 9, 2) := dk_22 9 (dk_at dksX4_bestFrom_3 11 rfl rfl)
theorem dX4_bestFrom_84 : decode cX4_bestFrom 84 = .ok (.lreturn, 1) := dk_173 (dk_at dksX4_bestFrom_3 13 rfl rfl)
abbrev cX4_costOf : ByteArray := prog_21_method_33_code
def yX4_costOf : MethodName := ⟨RX4, "costOf", "(I)J"⟩
def dkwX4_costOf_0 : List UInt8 := [20, 0, 148, 42, 42, 180, 0, 142, 27, 42, 180, 0, 155, 42, 180, 0, 175, 182, 0, 138, 133, 105, 173]
abbrev dktX4_costOf_0 : List UInt8 := dkwX4_costOf_0 ++ []
theorem dksX4_costOf_0 : cX4_costOf.data.toList.drop 0 = dktX4_costOf_0 := by decide +kernel
theorem dX4_costOf_0 : decode cX4_costOf 0 = .ok (.ldc2_w 148, 3) := dk_20 0 148 (dk_at dksX4_costOf_0 0 rfl rfl)
theorem dX4_costOf_3 : decode cX4_costOf 3 = .ok (.aload_n 0, 1) := dk_42 (dk_at dksX4_costOf_0 3 rfl rfl)
theorem dX4_costOf_4 : decode cX4_costOf 4 = .ok (.aload_n 0, 1) := dk_42 (dk_at dksX4_costOf_0 4 rfl rfl)
theorem dX4_costOf_5 : decode cX4_costOf 5 = .ok (.getfield 142, 3) := dk_180 0 142 (dk_at dksX4_costOf_0 5 rfl rfl)
theorem dX4_costOf_8 : decode cX4_costOf 8 = .ok (.iload_n 1, 1) := dk_27 (dk_at dksX4_costOf_0 8 rfl rfl)
theorem dX4_costOf_9 : decode cX4_costOf 9 = .ok (.aload_n 0, 1) := dk_42 (dk_at dksX4_costOf_0 9 rfl rfl)
theorem dX4_costOf_10 : decode cX4_costOf 10 = .ok (.getfield 155, 3) := dk_180 0 155 (dk_at dksX4_costOf_0 10 rfl rfl)
theorem dX4_costOf_13 : decode cX4_costOf 13 = .ok (.aload_n 0, 1) := dk_42 (dk_at dksX4_costOf_0 13 rfl rfl)
theorem dX4_costOf_14 : decode cX4_costOf 14 = .ok (.getfield 175, 3) := dk_180 0 175 (dk_at dksX4_costOf_0 14 rfl rfl)
theorem dX4_costOf_17 : decode cX4_costOf 17 = .ok (.invokevirtual 138, 3) := dk_182 0 138 (dk_at dksX4_costOf_0 17 rfl rfl)
theorem dX4_costOf_20 : decode cX4_costOf 20 = .ok (.i2l, 1) := dk_133 (dk_at dksX4_costOf_0 20 rfl rfl)
theorem dX4_costOf_21 : decode cX4_costOf 21 = .ok (.lmul, 1) := dk_105 (dk_at dksX4_costOf_0 21 rfl rfl)
theorem dX4_costOf_22 : decode cX4_costOf 22 = .ok (.lreturn, 1) := dk_173 (dk_at dksX4_costOf_0 22 rfl rfl)
abbrev cX4_held : ByteArray := prog_21_method_46_code
def yX4_held : MethodName := ⟨RX4, "held", "(JJI)J"⟩
def dkwX4_held_1 : List UInt8 := [20, 0, 162, 109, 97, 173]
abbrev dktX4_held_1 : List UInt8 := dkwX4_held_1 ++ []
def dkwX4_held_0 : List UInt8 := [30, 32, 18, 154, 21, 4, 100, 133, 105, 20, 0, 162, 109, 97, 20, 0, 209, 30, 105, 21, 4, 133, 105]
abbrev dktX4_held_0 : List UInt8 := dkwX4_held_0 ++ dktX4_held_1
theorem dksX4_held_0 : cX4_held.data.toList.drop 0 = dktX4_held_0 := by decide +kernel
theorem dksX4_held_1 : cX4_held.data.toList.drop 23 = dktX4_held_1 := dk_seg dksX4_held_0 23 rfl rfl
theorem dX4_held_0 : decode cX4_held 0 = .ok (.lload_n 0, 1) := dk_30 (dk_at dksX4_held_0 0 rfl rfl)
theorem dX4_held_1 : decode cX4_held 1 = .ok (.lload_n 2, 1) := dk_32 (dk_at dksX4_held_0 1 rfl rfl)
theorem dX4_held_2 : decode cX4_held 2 = .ok (.ldc 154, 2) := dk_18 154 (dk_at dksX4_held_0 2 rfl rfl)
theorem dX4_held_4 : decode cX4_held 4 = .ok (.iload 4, 2) := dk_21 4 (dk_at dksX4_held_0 4 rfl rfl)
theorem dX4_held_6 : decode cX4_held 6 = .ok (.isub, 1) := dk_100 (dk_at dksX4_held_0 6 rfl rfl)
theorem dX4_held_7 : decode cX4_held 7 = .ok (.i2l, 1) := dk_133 (dk_at dksX4_held_0 7 rfl rfl)
theorem dX4_held_8 : decode cX4_held 8 = .ok (.lmul, 1) := dk_105 (dk_at dksX4_held_0 8 rfl rfl)
theorem dX4_held_9 : decode cX4_held 9 = .ok (.ldc2_w 162, 3) := dk_20 0 162 (dk_at dksX4_held_0 9 rfl rfl)
theorem dX4_held_12 : decode cX4_held 12 = .ok (.ldiv, 1) := dk_109 (dk_at dksX4_held_0 12 rfl rfl)
theorem dX4_held_13 : decode cX4_held 13 = .ok (.ladd, 1) := dk_97 (dk_at dksX4_held_0 13 rfl rfl)
theorem dX4_held_14 : decode cX4_held 14 = .ok (.ldc2_w 209, 3) := dk_20 0 209 (dk_at dksX4_held_0 14 rfl rfl)
theorem dX4_held_17 : decode cX4_held 17 = .ok (.lload_n 0, 1) := dk_30 (dk_at dksX4_held_0 17 rfl rfl)
theorem dX4_held_18 : decode cX4_held 18 = .ok (.lmul, 1) := dk_105 (dk_at dksX4_held_0 18 rfl rfl)
theorem dX4_held_19 : decode cX4_held 19 = .ok (.iload 4, 2) := dk_21 4 (dk_at dksX4_held_0 19 rfl rfl)
theorem dX4_held_21 : decode cX4_held 21 = .ok (.i2l, 1) := dk_133 (dk_at dksX4_held_0 21 rfl rfl)
theorem dX4_held_22 : decode cX4_held 22 = .ok (.lmul, 1) := dk_105 (dk_at dksX4_held_0 22 rfl rfl)
theorem dX4_held_23 : decode cX4_held 23 = .ok (.ldc2_w 162, 3) := dk_20 0 162 (dk_at dksX4_held_1 0 rfl rfl)
theorem dX4_held_26 : decode cX4_held 26 = .ok (.ldiv, 1) := dk_109 (dk_at dksX4_held_1 3 rfl rfl)
theorem dX4_held_27 : decode cX4_held 27 = .ok (.ladd, 1) := dk_97 (dk_at dksX4_held_1 4 rfl rfl)
theorem dX4_held_28 : decode cX4_held 28 = .ok (.lreturn, 1) := dk_173 (dk_at dksX4_held_1 5 rfl rfl)
abbrev cX4_mean : ByteArray := prog_21_method_54_code
def yX4_mean : MethodName := ⟨RX4, "mean", "(II)J"⟩
def dkwX4_mean_1 : List UInt8 := [182, 0, 178, 42, 27, 182, 0, 239, 173]
abbrev dktX4_mean_1 : List UInt8 := dkwX4_mean_1 ++ []
def dkwX4_mean_0 : List UInt8 := [42, 27, 182, 0, 206, 153, 0, 11, 42, 28, 182, 0, 191, 154, 0, 7, 20, 0, 200, 173, 42, 28]
abbrev dktX4_mean_0 : List UInt8 := dkwX4_mean_0 ++ dktX4_mean_1
theorem dksX4_mean_0 : cX4_mean.data.toList.drop 0 = dktX4_mean_0 := by decide +kernel
theorem dksX4_mean_1 : cX4_mean.data.toList.drop 22 = dktX4_mean_1 := dk_seg dksX4_mean_0 22 rfl rfl
theorem dX4_mean_0 : decode cX4_mean 0 = .ok (.aload_n 0, 1) := dk_42 (dk_at dksX4_mean_0 0 rfl rfl)
theorem dX4_mean_1 : decode cX4_mean 1 = .ok (.iload_n 1, 1) := dk_27 (dk_at dksX4_mean_0 1 rfl rfl)
theorem dX4_mean_2 : decode cX4_mean 2 = .ok (.invokevirtual 206, 3) := dk_182 0 206 (dk_at dksX4_mean_0 2 rfl rfl)
theorem dX4_mean_5 : decode cX4_mean 5 = .ok (.ifCond .eq 11, 3) := dk_153 0 11 (dk_at dksX4_mean_0 5 rfl rfl)
theorem dX4_mean_8 : decode cX4_mean 8 = .ok (.aload_n 0, 1) := dk_42 (dk_at dksX4_mean_0 8 rfl rfl)
theorem dX4_mean_9 : decode cX4_mean 9 = .ok (.iload_n 2, 1) := dk_28 (dk_at dksX4_mean_0 9 rfl rfl)
theorem dX4_mean_10 : decode cX4_mean 10 = .ok (.invokevirtual 191, 3) := dk_182 0 191 (dk_at dksX4_mean_0 10 rfl rfl)
theorem dX4_mean_13 : decode cX4_mean 13 = .ok (.ifCond .ne 7, 3) := dk_154 0 7 (dk_at dksX4_mean_0 13 rfl rfl)
theorem dX4_mean_16 : decode cX4_mean 16 = .ok (.ldc2_w 200, 3) := dk_20 0 200 (dk_at dksX4_mean_0 16 rfl rfl)
theorem dX4_mean_19 : decode cX4_mean 19 = .ok (.lreturn, 1) := dk_173 (dk_at dksX4_mean_0 19 rfl rfl)
theorem dX4_mean_20 : decode cX4_mean 20 = .ok (.aload_n 0, 1) := dk_42 (dk_at dksX4_mean_0 20 rfl rfl)
theorem dX4_mean_21 : decode cX4_mean 21 = .ok (.iload_n 2, 1) := dk_28 (dk_at dksX4_mean_0 21 rfl rfl)
theorem dX4_mean_22 : decode cX4_mean 22 = .ok (.invokevirtual 178, 3) := dk_182 0 178 (dk_at dksX4_mean_1 0 rfl rfl)
theorem dX4_mean_25 : decode cX4_mean 25 = .ok (.aload_n 0, 1) := dk_42 (dk_at dksX4_mean_1 3 rfl rfl)
theorem dX4_mean_26 : decode cX4_mean 26 = .ok (.iload_n 1, 1) := dk_27 (dk_at dksX4_mean_1 4 rfl rfl)
theorem dX4_mean_27 : decode cX4_mean 27 = .ok (.invokevirtual 239, 3) := dk_182 0 239 (dk_at dksX4_mean_1 5 rfl rfl)
theorem dX4_mean_30 : decode cX4_mean 30 = .ok (.lreturn, 1) := dk_173 (dk_at dksX4_mean_1 8 rfl rfl)
abbrev cX4_meanOf : ByteArray := prog_21_method_53_code
def yX4_meanOf : MethodName := ⟨RX4, "meanOf", "(I)J"⟩
def dkwX4_meanOf_1 : List UInt8 := [182, 0, 235, 173]
abbrev dktX4_meanOf_1 : List UInt8 := dkwX4_meanOf_1 ++ []
def dkwX4_meanOf_0 : List UInt8 := [42, 42, 180, 0, 9, 17, 3, 232, 27, 96, 46, 42, 180, 0, 9, 17, 3, 244, 27, 96, 46, 27, 3]
abbrev dktX4_meanOf_0 : List UInt8 := dkwX4_meanOf_0 ++ dktX4_meanOf_1
theorem dksX4_meanOf_0 : cX4_meanOf.data.toList.drop 0 = dktX4_meanOf_0 := by decide +kernel
theorem dksX4_meanOf_1 : cX4_meanOf.data.toList.drop 23 = dktX4_meanOf_1 := dk_seg dksX4_meanOf_0 23 rfl rfl
theorem dX4_meanOf_0 : decode cX4_meanOf 0 = .ok (.aload_n 0, 1) := dk_42 (dk_at dksX4_meanOf_0 0 rfl rfl)
theorem dX4_meanOf_1 : decode cX4_meanOf 1 = .ok (.aload_n 0, 1) := dk_42 (dk_at dksX4_meanOf_0 1 rfl rfl)
theorem dX4_meanOf_2 : decode cX4_meanOf 2 = .ok (.getfield 9, 3) := dk_180 0 9 (dk_at dksX4_meanOf_0 2 rfl rfl)
theorem dX4_meanOf_5 : decode cX4_meanOf 5 = .ok (.sipush 1000, 3) := dk_17 3 232 (dk_at dksX4_meanOf_0 5 rfl rfl)
theorem dX4_meanOf_8 : decode cX4_meanOf 8 = .ok (.iload_n 1, 1) := dk_27 (dk_at dksX4_meanOf_0 8 rfl rfl)
theorem dX4_meanOf_9 : decode cX4_meanOf 9 = .ok (.iadd, 1) := dk_96 (dk_at dksX4_meanOf_0 9 rfl rfl)
theorem dX4_meanOf_10 : decode cX4_meanOf 10 = .ok (.iaload, 1) := dk_46 (dk_at dksX4_meanOf_0 10 rfl rfl)
theorem dX4_meanOf_11 : decode cX4_meanOf 11 = .ok (.aload_n 0, 1) := dk_42 (dk_at dksX4_meanOf_0 11 rfl rfl)
theorem dX4_meanOf_12 : decode cX4_meanOf 12 = .ok (.getfield 9, 3) := dk_180 0 9 (dk_at dksX4_meanOf_0 12 rfl rfl)
theorem dX4_meanOf_15 : decode cX4_meanOf 15 = .ok (.sipush 1012, 3) := dk_17 3 244 (dk_at dksX4_meanOf_0 15 rfl rfl)
theorem dX4_meanOf_18 : decode cX4_meanOf 18 = .ok (.iload_n 1, 1) := dk_27 (dk_at dksX4_meanOf_0 18 rfl rfl)
theorem dX4_meanOf_19 : decode cX4_meanOf 19 = .ok (.iadd, 1) := dk_96 (dk_at dksX4_meanOf_0 19 rfl rfl)
theorem dX4_meanOf_20 : decode cX4_meanOf 20 = .ok (.iaload, 1) := dk_46 (dk_at dksX4_meanOf_0 20 rfl rfl)
theorem dX4_meanOf_21 : decode cX4_meanOf 21 = .ok (.iload_n 1, 1) := dk_27 (dk_at dksX4_meanOf_0 21 rfl rfl)
theorem dX4_meanOf_22 : decode cX4_meanOf 22 = .ok (.iconst 0, 1) := dk_3 (dk_at dksX4_meanOf_0 22 rfl rfl)
theorem dX4_meanOf_23 : decode cX4_meanOf 23 = .ok (.invokevirtual 235, 3) := dk_182 0 235 (dk_at dksX4_meanOf_1 0 rfl rfl)
theorem dX4_meanOf_26 : decode cX4_meanOf 26 = .ok (.lreturn, 1) := dk_173 (dk_at dksX4_meanOf_1 3 rfl rfl)
abbrev cX4_meanFrom : ByteArray := prog_21_method_52_code
def yX4_meanFrom : MethodName := ⟨RX4, "meanFrom", "(IIII)J"⟩
def dkwX4_meanFrom_5 : List UInt8 := [22, 5, 42, 27, 28, 29, 21, 4, 4, 96, 182, 0, 235, 21, 7, 184, 0, 221, 173]
abbrev dktX4_meanFrom_5 : List UInt8 := dkwX4_meanFrom_5 ++ []
def dkwX4_meanFrom_4 : List UInt8 := [153, 0, 9, 42, 3, 182, 0, 202, 173, 42, 21, 4, 182, 0, 214, 55, 5, 42, 3, 182, 0, 194, 54, 7]
abbrev dktX4_meanFrom_4 : List UInt8 := dkwX4_meanFrom_4 ++ dktX4_meanFrom_5
def dkwX4_meanFrom_3 : List UInt8 := [105, 20, 0, 162, 109, 97, 173, 21, 4, 16, 20, 159, 0, 15, 42, 27, 28, 29, 21, 4, 182, 0, 231]
abbrev dktX4_meanFrom_3 : List UInt8 := dkwX4_meanFrom_3 ++ dktX4_meanFrom_4
def dkwX4_meanFrom_2 : List UInt8 := [182, 0, 202, 18, 154, 21, 7, 100, 133, 105, 20, 0, 162, 109, 97, 20, 0, 209, 22, 5, 105, 21, 7, 133]
abbrev dktX4_meanFrom_2 : List UInt8 := dkwX4_meanFrom_2 ++ dktX4_meanFrom_3
def dkwX4_meanFrom_1 : List UInt8 := [55, 5, 42, 3, 182, 0, 197, 54, 7, 20, 0, 148, 42, 16, 8, 182, 0, 164, 133, 105, 42, 3]
abbrev dktX4_meanFrom_1 : List UInt8 := dkwX4_meanFrom_1 ++ dktX4_meanFrom_2
def dkwX4_meanFrom_0 : List UInt8 := [27, 6, 160, 0, 75, 21, 4, 28, 160, 0, 69, 21, 4, 16, 20, 162, 0, 62, 42, 21, 4, 182, 0, 214]
abbrev dktX4_meanFrom_0 : List UInt8 := dkwX4_meanFrom_0 ++ dktX4_meanFrom_1
theorem dksX4_meanFrom_0 : cX4_meanFrom.data.toList.drop 0 = dktX4_meanFrom_0 := by decide +kernel
theorem dksX4_meanFrom_1 : cX4_meanFrom.data.toList.drop 24 = dktX4_meanFrom_1 := dk_seg dksX4_meanFrom_0 24 rfl rfl
theorem dksX4_meanFrom_2 : cX4_meanFrom.data.toList.drop 46 = dktX4_meanFrom_2 := dk_seg dksX4_meanFrom_1 22 rfl rfl
theorem dksX4_meanFrom_3 : cX4_meanFrom.data.toList.drop 70 = dktX4_meanFrom_3 := dk_seg dksX4_meanFrom_2 24 rfl rfl
theorem dksX4_meanFrom_4 : cX4_meanFrom.data.toList.drop 93 = dktX4_meanFrom_4 := dk_seg dksX4_meanFrom_3 23 rfl rfl
theorem dksX4_meanFrom_5 : cX4_meanFrom.data.toList.drop 117 = dktX4_meanFrom_5 := dk_seg dksX4_meanFrom_4 24 rfl rfl
theorem dX4_meanFrom_0 : decode cX4_meanFrom 0 = .ok (.iload_n 1, 1) := dk_27 (dk_at dksX4_meanFrom_0 0 rfl rfl)
theorem dX4_meanFrom_1 : decode cX4_meanFrom 1 = .ok (.iconst 3, 1) := dk_6 (dk_at dksX4_meanFrom_0 1 rfl rfl)
theorem dX4_meanFrom_2 : decode cX4_meanFrom 2 = .ok (.if_icmp .ne 75, 3) := dk_160 0 75 (dk_at dksX4_meanFrom_0 2 rfl rfl)
theorem dX4_meanFrom_5 : decode cX4_meanFrom 5 = .ok (.iload 4, 2) := dk_21 4 (dk_at dksX4_meanFrom_0 5 rfl rfl)
theorem dX4_meanFrom_7 : decode cX4_meanFrom 7 = .ok (.iload_n 2, 1) := dk_28 (dk_at dksX4_meanFrom_0 7 rfl rfl)
theorem dX4_meanFrom_8 : decode cX4_meanFrom 8 = .ok (.if_icmp .ne 69, 3) := dk_160 0 69 (dk_at dksX4_meanFrom_0 8 rfl rfl)
theorem dX4_meanFrom_11 : decode cX4_meanFrom 11 = .ok (.iload 4, 2) := dk_21 4 (dk_at dksX4_meanFrom_0 11 rfl rfl)
theorem dX4_meanFrom_13 : decode cX4_meanFrom 13 = .ok (.bipush 20, 2) := dk_16 20 (dk_at dksX4_meanFrom_0 13 rfl rfl)
theorem dX4_meanFrom_15 : decode cX4_meanFrom 15 = .ok (.if_icmp .ge 62, 3) := dk_162 0 62 (dk_at dksX4_meanFrom_0 15 rfl rfl)
theorem dX4_meanFrom_18 : decode cX4_meanFrom 18 = .ok (.aload_n 0, 1) := dk_42 (dk_at dksX4_meanFrom_0 18 rfl rfl)
theorem dX4_meanFrom_19 : decode cX4_meanFrom 19 = .ok (.iload 4, 2) := dk_21 4 (dk_at dksX4_meanFrom_0 19 rfl rfl)
theorem dX4_meanFrom_21 : decode cX4_meanFrom 21 = .ok (.invokevirtual 214, 3) := dk_182 0 214 (dk_at dksX4_meanFrom_0 21 rfl rfl)
theorem dX4_meanFrom_24 : decode cX4_meanFrom 24 = .ok (.lstore 5, 2) := dk_55 5 (dk_at dksX4_meanFrom_1 0 rfl rfl)
theorem dX4_meanFrom_26 : decode cX4_meanFrom 26 = .ok (.aload_n 0, 1) := dk_42 (dk_at dksX4_meanFrom_1 2 rfl rfl)
theorem dX4_meanFrom_27 : decode cX4_meanFrom 27 = .ok (.iconst 0, 1) := dk_3 (dk_at dksX4_meanFrom_1 3 rfl rfl)
theorem dX4_meanFrom_28 : decode cX4_meanFrom 28 = .ok (.invokevirtual 197, 3) := dk_182 0 197 (dk_at dksX4_meanFrom_1 4 rfl rfl)
theorem dX4_meanFrom_31 : decode cX4_meanFrom 31 = .ok (.istore 7, 2) := dk_54 7 (dk_at dksX4_meanFrom_1 7 rfl rfl)
theorem dX4_meanFrom_33 : decode cX4_meanFrom 33 = .ok (.ldc2_w 148, 3) := dk_20 0 148 (dk_at dksX4_meanFrom_1 9 rfl rfl)
theorem dX4_meanFrom_36 : decode cX4_meanFrom 36 = .ok (.aload_n 0, 1) := dk_42 (dk_at dksX4_meanFrom_1 12 rfl rfl)
theorem dX4_meanFrom_37 : decode cX4_meanFrom 37 = .ok (.bipush 8, 2) := dk_16 8 (dk_at dksX4_meanFrom_1 13 rfl rfl)
theorem dX4_meanFrom_39 : decode cX4_meanFrom 39 = .ok (.invokevirtual 164, 3) := dk_182 0 164 (dk_at dksX4_meanFrom_1 15 rfl rfl)
theorem dX4_meanFrom_42 : decode cX4_meanFrom 42 = .ok (.i2l, 1) := dk_133 (dk_at dksX4_meanFrom_1 18 rfl rfl)
theorem dX4_meanFrom_43 : decode cX4_meanFrom 43 = .ok (.lmul, 1) := dk_105 (dk_at dksX4_meanFrom_1 19 rfl rfl)
theorem dX4_meanFrom_44 : decode cX4_meanFrom 44 = .ok (.aload_n 0, 1) := dk_42 (dk_at dksX4_meanFrom_1 20 rfl rfl)
theorem dX4_meanFrom_45 : decode cX4_meanFrom 45 = .ok (.iconst 0, 1) := dk_3 (dk_at dksX4_meanFrom_1 21 rfl rfl)
theorem dX4_meanFrom_46 : decode cX4_meanFrom 46 = .ok (.invokevirtual 202, 3) := dk_182 0 202 (dk_at dksX4_meanFrom_2 0 rfl rfl)
theorem dX4_meanFrom_49 : decode cX4_meanFrom 49 = .ok (.ldc 154, 2) := dk_18 154 (dk_at dksX4_meanFrom_2 3 rfl rfl)
theorem dX4_meanFrom_51 : decode cX4_meanFrom 51 = .ok (.iload 7, 2) := dk_21 7 (dk_at dksX4_meanFrom_2 5 rfl rfl)
theorem dX4_meanFrom_53 : decode cX4_meanFrom 53 = .ok (.isub, 1) := dk_100 (dk_at dksX4_meanFrom_2 7 rfl rfl)
theorem dX4_meanFrom_54 : decode cX4_meanFrom 54 = .ok (.i2l, 1) := dk_133 (dk_at dksX4_meanFrom_2 8 rfl rfl)
theorem dX4_meanFrom_55 : decode cX4_meanFrom 55 = .ok (.lmul, 1) := dk_105 (dk_at dksX4_meanFrom_2 9 rfl rfl)
theorem dX4_meanFrom_56 : decode cX4_meanFrom 56 = .ok (.ldc2_w 162, 3) := dk_20 0 162 (dk_at dksX4_meanFrom_2 10 rfl rfl)
theorem dX4_meanFrom_59 : decode cX4_meanFrom 59 = .ok (.ldiv, 1) := dk_109 (dk_at dksX4_meanFrom_2 13 rfl rfl)
theorem dX4_meanFrom_60 : decode cX4_meanFrom 60 = .ok (.ladd, 1) := dk_97 (dk_at dksX4_meanFrom_2 14 rfl rfl)
theorem dX4_meanFrom_61 : decode cX4_meanFrom 61 = .ok (.ldc2_w 209, 3) := dk_20 0 209 (dk_at dksX4_meanFrom_2 15 rfl rfl)
theorem dX4_meanFrom_64 : decode cX4_meanFrom 64 = .ok (.lload 5, 2) := dk_22 5 (dk_at dksX4_meanFrom_2 18 rfl rfl)
theorem dX4_meanFrom_66 : decode cX4_meanFrom 66 = .ok (.lmul, 1) := dk_105 (dk_at dksX4_meanFrom_2 20 rfl rfl)
theorem dX4_meanFrom_67 : decode cX4_meanFrom 67 = .ok (.iload 7, 2) := dk_21 7 (dk_at dksX4_meanFrom_2 21 rfl rfl)
theorem dX4_meanFrom_69 : decode cX4_meanFrom 69 = .ok (.i2l, 1) := dk_133 (dk_at dksX4_meanFrom_2 23 rfl rfl)
theorem dX4_meanFrom_70 : decode cX4_meanFrom 70 = .ok (.lmul, 1) := dk_105 (dk_at dksX4_meanFrom_3 0 rfl rfl)
theorem dX4_meanFrom_71 : decode cX4_meanFrom 71 = .ok (.ldc2_w 162, 3) := dk_20 0 162 (dk_at dksX4_meanFrom_3 1 rfl rfl)
theorem dX4_meanFrom_74 : decode cX4_meanFrom 74 = .ok (.ldiv, 1) := dk_109 (dk_at dksX4_meanFrom_3 4 rfl rfl)
theorem dX4_meanFrom_75 : decode cX4_meanFrom 75 = .ok (.ladd, 1) := dk_97 (dk_at dksX4_meanFrom_3 5 rfl rfl)
theorem dX4_meanFrom_76 : decode cX4_meanFrom 76 = .ok (.lreturn, 1) := dk_173 (dk_at dksX4_meanFrom_3 6 rfl rfl)
theorem dX4_meanFrom_77 : decode cX4_meanFrom 77 = .ok (.iload 4, 2) := dk_21 4 (dk_at dksX4_meanFrom_3 7 rfl rfl)
theorem dX4_meanFrom_79 : decode cX4_meanFrom 79 = .ok (.bipush 20, 2) := dk_16 20 (dk_at dksX4_meanFrom_3 9 rfl rfl)
theorem dX4_meanFrom_81 : decode cX4_meanFrom 81 = .ok (.if_icmp .eq 15, 3) := dk_159 0 15 (dk_at dksX4_meanFrom_3 11 rfl rfl)
theorem dX4_meanFrom_84 : decode cX4_meanFrom 84 = .ok (.aload_n 0, 1) := dk_42 (dk_at dksX4_meanFrom_3 14 rfl rfl)
theorem dX4_meanFrom_85 : decode cX4_meanFrom 85 = .ok (.iload_n 1, 1) := dk_27 (dk_at dksX4_meanFrom_3 15 rfl rfl)
theorem dX4_meanFrom_86 : decode cX4_meanFrom 86 = .ok (.iload_n 2, 1) := dk_28 (dk_at dksX4_meanFrom_3 16 rfl rfl)
theorem dX4_meanFrom_87 : decode cX4_meanFrom 87 = .ok (.iload_n 3, 1) := dk_29 (dk_at dksX4_meanFrom_3 17 rfl rfl)
theorem dX4_meanFrom_88 : decode cX4_meanFrom 88 = .ok (.iload 4, 2) := dk_21 4 (dk_at dksX4_meanFrom_3 18 rfl rfl)
theorem dX4_meanFrom_90 : decode cX4_meanFrom 90 = .ok (.invokevirtual 231, 3) := dk_182 0 231 (dk_at dksX4_meanFrom_3 20 rfl rfl)
theorem dX4_meanFrom_93 : decode cX4_meanFrom 93 = .ok (.ifCond .eq 9, 3) := dk_153 0 9 (dk_at dksX4_meanFrom_4 0 rfl rfl)
theorem dX4_meanFrom_96 : decode cX4_meanFrom 96 = .ok (.aload_n 0, 1) := dk_42 (dk_at dksX4_meanFrom_4 3 rfl rfl)
theorem dX4_meanFrom_97 : decode cX4_meanFrom 97 = .ok (.iconst 0, 1) := dk_3 (dk_at dksX4_meanFrom_4 4 rfl rfl)
theorem dX4_meanFrom_98 : decode cX4_meanFrom 98 = .ok (.invokevirtual 202, 3) := dk_182 0 202 (dk_at dksX4_meanFrom_4 5 rfl rfl)
theorem dX4_meanFrom_101 : decode cX4_meanFrom 101 = .ok (.lreturn, 1) := dk_173 (dk_at dksX4_meanFrom_4 8 rfl rfl)
theorem dX4_meanFrom_102 : decode cX4_meanFrom 102 = .ok (.aload_n 0, 1) := dk_42 (dk_at dksX4_meanFrom_4 9 rfl rfl)
theorem dX4_meanFrom_103 : decode cX4_meanFrom 103 = .ok (.iload 4, 2) := dk_21 4 (dk_at dksX4_meanFrom_4 10 rfl rfl)
theorem dX4_meanFrom_105 : decode cX4_meanFrom 105 = .ok (.invokevirtual 214, 3) := dk_182 0 214 (dk_at dksX4_meanFrom_4 12 rfl rfl)
theorem dX4_meanFrom_108 : decode cX4_meanFrom 108 = .ok (.lstore 5, 2) := dk_55 5 (dk_at dksX4_meanFrom_4 15 rfl rfl)
theorem dX4_meanFrom_110 : decode cX4_meanFrom 110 = .ok (.aload_n 0, 1) := dk_42 (dk_at dksX4_meanFrom_4 17 rfl rfl)
theorem dX4_meanFrom_111 : decode cX4_meanFrom 111 = .ok (.iconst 0, 1) := dk_3 (dk_at dksX4_meanFrom_4 18 rfl rfl)
theorem dX4_meanFrom_112 : decode cX4_meanFrom 112 = .ok (.invokevirtual 194, 3) := dk_182 0 194 (dk_at dksX4_meanFrom_4 19 rfl rfl)
theorem dX4_meanFrom_115 : decode cX4_meanFrom 115 = .ok (.istore 7, 2) := dk_54 7 (dk_at dksX4_meanFrom_4 22 rfl rfl)
theorem dX4_meanFrom_117 : decode cX4_meanFrom 117 = .ok (.lload 5, 2) := dk_22 5 (dk_at dksX4_meanFrom_5 0 rfl rfl)
theorem dX4_meanFrom_119 : decode cX4_meanFrom 119 = .ok (.aload_n 0, 1) := dk_42 (dk_at dksX4_meanFrom_5 2 rfl rfl)
theorem dX4_meanFrom_120 : decode cX4_meanFrom 120 = .ok (.iload_n 1, 1) := dk_27 (dk_at dksX4_meanFrom_5 3 rfl rfl)
theorem dX4_meanFrom_121 : decode cX4_meanFrom 121 = .ok (.iload_n 2, 1) := dk_28 (dk_at dksX4_meanFrom_5 4 rfl rfl)
theorem dX4_meanFrom_122 : decode cX4_meanFrom 122 = .ok (.iload_n 3, 1) := dk_29 (dk_at dksX4_meanFrom_5 5 rfl rfl)
theorem dX4_meanFrom_123 : decode cX4_meanFrom 123 = .ok (.iload 4, 2) := dk_21 4 (dk_at dksX4_meanFrom_5 6 rfl rfl)
theorem dX4_meanFrom_125 : decode cX4_meanFrom 125 = .ok (.iconst 1, 1) := dk_4 (dk_at dksX4_meanFrom_5 8 rfl rfl)
theorem dX4_meanFrom_126 : decode cX4_meanFrom 126 = .ok (.iadd, 1) := dk_96 (dk_at dksX4_meanFrom_5 9 rfl rfl)
theorem dX4_meanFrom_127 : decode cX4_meanFrom 127 = .ok (.invokevirtual 235, 3) := dk_182 0 235 (dk_at dksX4_meanFrom_5 10 rfl rfl)
theorem dX4_meanFrom_130 : decode cX4_meanFrom 130 = .ok (.iload 7, 2) := dk_21 7 (dk_at dksX4_meanFrom_5 13 rfl rfl)
theorem dX4_meanFrom_132 : decode cX4_meanFrom 132 = .ok (.invokestatic 221, 3) := dk_184 0 221 (dk_at dksX4_meanFrom_5 15 rfl rfl)
theorem dX4_meanFrom_135 : decode cX4_meanFrom 135 = .ok (.lreturn, 1) := dk_173 (dk_at dksX4_meanFrom_5 18 rfl rfl)
abbrev cX4_best : ByteArray := prog_21_method_55_code
def yX4_best : MethodName := ⟨RX4, "best", "(IIII)J"⟩
def dkwX4_best_3 : List UInt8 := [180, 0, 211, 153, 0, 7, 10, 167, 0, 4, 9, 173]
abbrev dktX4_best_3 : List UInt8 := dkwX4_best_3 ++ []
def dkwX4_best_2 : List UInt8 := [182, 0, 178, 42, 3, 28, 29, 182, 0, 217, 55, 5, 21, 4, 154, 0, 8, 22, 5, 167, 0, 15, 42]
abbrev dktX4_best_2 : List UInt8 := dkwX4_best_2 ++ dktX4_best_3
def dkwX4_best_1 : List UInt8 := [184, 0, 42, 153, 0, 13, 21, 4, 3, 4, 184, 0, 42, 154, 0, 7, 20, 0, 200, 173, 42, 27]
abbrev dktX4_best_1 : List UInt8 := dkwX4_best_1 ++ dktX4_best_2
def dkwX4_best_0 : List UInt8 := [42, 27, 182, 0, 191, 153, 0, 33, 28, 3, 16, 9, 184, 0, 42, 153, 0, 23, 29, 3, 16, 20]
abbrev dktX4_best_0 : List UInt8 := dkwX4_best_0 ++ dktX4_best_1
theorem dksX4_best_0 : cX4_best.data.toList.drop 0 = dktX4_best_0 := by decide +kernel
theorem dksX4_best_1 : cX4_best.data.toList.drop 22 = dktX4_best_1 := dk_seg dksX4_best_0 22 rfl rfl
theorem dksX4_best_2 : cX4_best.data.toList.drop 44 = dktX4_best_2 := dk_seg dksX4_best_1 22 rfl rfl
theorem dksX4_best_3 : cX4_best.data.toList.drop 67 = dktX4_best_3 := dk_seg dksX4_best_2 23 rfl rfl
theorem dX4_best_0 : decode cX4_best 0 = .ok (.aload_n 0, 1) := dk_42 (dk_at dksX4_best_0 0 rfl rfl)
theorem dX4_best_1 : decode cX4_best 1 = .ok (.iload_n 1, 1) := dk_27 (dk_at dksX4_best_0 1 rfl rfl)
theorem dX4_best_2 : decode cX4_best 2 = .ok (.invokevirtual 191, 3) := dk_182 0 191 (dk_at dksX4_best_0 2 rfl rfl)
theorem dX4_best_5 : decode cX4_best 5 = .ok (.ifCond .eq 33, 3) := dk_153 0 33 (dk_at dksX4_best_0 5 rfl rfl)
theorem dX4_best_8 : decode cX4_best 8 = .ok (.iload_n 2, 1) := dk_28 (dk_at dksX4_best_0 8 rfl rfl)
theorem dX4_best_9 : decode cX4_best 9 = .ok (.iconst 0, 1) := dk_3 (dk_at dksX4_best_0 9 rfl rfl)
theorem dX4_best_10 : decode cX4_best 10 = .ok (.bipush 9, 2) := dk_16 9 (dk_at dksX4_best_0 10 rfl rfl)
theorem dX4_best_12 : decode cX4_best 12 = .ok (.invokestatic 42, 3) := dk_184 0 42 (dk_at dksX4_best_0 12 rfl rfl)
theorem dX4_best_15 : decode cX4_best 15 = .ok (.ifCond .eq 23, 3) := dk_153 0 23 (dk_at dksX4_best_0 15 rfl rfl)
theorem dX4_best_18 : decode cX4_best 18 = .ok (.iload_n 3, 1) := dk_29 (dk_at dksX4_best_0 18 rfl rfl)
theorem dX4_best_19 : decode cX4_best 19 = .ok (.iconst 0, 1) := dk_3 (dk_at dksX4_best_0 19 rfl rfl)
theorem dX4_best_20 : decode cX4_best 20 = .ok (.bipush 20, 2) := dk_16 20 (dk_at dksX4_best_0 20 rfl rfl)
theorem dX4_best_22 : decode cX4_best 22 = .ok (.invokestatic 42, 3) := dk_184 0 42 (dk_at dksX4_best_1 0 rfl rfl)
theorem dX4_best_25 : decode cX4_best 25 = .ok (.ifCond .eq 13, 3) := dk_153 0 13 (dk_at dksX4_best_1 3 rfl rfl)
theorem dX4_best_28 : decode cX4_best 28 = .ok (.iload 4, 2) := dk_21 4 (dk_at dksX4_best_1 6 rfl rfl)
theorem dX4_best_30 : decode cX4_best 30 = .ok (.iconst 0, 1) := dk_3 (dk_at dksX4_best_1 8 rfl rfl)
theorem dX4_best_31 : decode cX4_best 31 = .ok (.iconst 1, 1) := dk_4 (dk_at dksX4_best_1 9 rfl rfl)
theorem dX4_best_32 : decode cX4_best 32 = .ok (.invokestatic 42, 3) := dk_184 0 42 (dk_at dksX4_best_1 10 rfl rfl)
theorem dX4_best_35 : decode cX4_best 35 = .ok (.ifCond .ne 7, 3) := dk_154 0 7 (dk_at dksX4_best_1 13 rfl rfl)
theorem dX4_best_38 : decode cX4_best 38 = .ok (.ldc2_w 200, 3) := dk_20 0 200 (dk_at dksX4_best_1 16 rfl rfl)
theorem dX4_best_41 : decode cX4_best 41 = .ok (.lreturn, 1) := dk_173 (dk_at dksX4_best_1 19 rfl rfl)
theorem dX4_best_42 : decode cX4_best 42 = .ok (.aload_n 0, 1) := dk_42 (dk_at dksX4_best_1 20 rfl rfl)
theorem dX4_best_43 : decode cX4_best 43 = .ok (.iload_n 1, 1) := dk_27 (dk_at dksX4_best_1 21 rfl rfl)
theorem dX4_best_44 : decode cX4_best 44 = .ok (.invokevirtual 178, 3) := dk_182 0 178 (dk_at dksX4_best_2 0 rfl rfl)
theorem dX4_best_47 : decode cX4_best 47 = .ok (.aload_n 0, 1) := dk_42 (dk_at dksX4_best_2 3 rfl rfl)
theorem dX4_best_48 : decode cX4_best 48 = .ok (.iconst 0, 1) := dk_3 (dk_at dksX4_best_2 4 rfl rfl)
theorem dX4_best_49 : decode cX4_best 49 = .ok (.iload_n 2, 1) := dk_28 (dk_at dksX4_best_2 5 rfl rfl)
theorem dX4_best_50 : decode cX4_best 50 = .ok (.iload_n 3, 1) := dk_29 (dk_at dksX4_best_2 6 rfl rfl)
theorem dX4_best_51 : decode cX4_best 51 = .ok (.invokevirtual 217, 3) := dk_182 0 217 (dk_at dksX4_best_2 7 rfl rfl)
theorem dX4_best_54 : decode cX4_best 54 = .ok (.lstore 5, 2) := dk_55 5 (dk_at dksX4_best_2 10 rfl rfl)
theorem dX4_best_56 : decode cX4_best 56 = .ok (.iload 4, 2) := dk_21 4 (dk_at dksX4_best_2 12 rfl rfl)
theorem dX4_best_58 : decode cX4_best 58 = .ok (.ifCond .ne 8, 3) := dk_154 0 8 (dk_at dksX4_best_2 14 rfl rfl)
theorem dX4_best_61 : decode cX4_best 61 = .ok (.lload 5, 2) := dk_22 5 (dk_at dksX4_best_2 17 rfl rfl)
theorem dX4_best_63 : decode cX4_best 63 = .ok (.goto 15, 3) := dk_167 0 15 (dk_at dksX4_best_2 19 rfl rfl)
theorem dX4_best_66 : decode cX4_best 66 = .ok (.aload_n 0, 1) := dk_42 (dk_at dksX4_best_2 22 rfl rfl)
theorem dX4_best_67 : decode cX4_best 67 = .ok (.getfield 211, 3) := dk_180 0 211 (dk_at dksX4_best_3 0 rfl rfl)
theorem dX4_best_70 : decode cX4_best 70 = .ok (.ifCond .eq 7, 3) := dk_153 0 7 (dk_at dksX4_best_3 3 rfl rfl)
theorem dX4_best_73 : decode cX4_best 73 = .ok (.lconst 1, 1) := dk_10 (dk_at dksX4_best_3 6 rfl rfl)
theorem dX4_best_74 : decode cX4_best 74 = .ok (.goto 4, 3) := dk_167 0 4 (dk_at dksX4_best_3 7 rfl rfl)
theorem dX4_best_77 : decode cX4_best 77 = .ok (.lconst 0, 1) := dk_9 (dk_at dksX4_best_3 10 rfl rfl)
theorem dX4_best_78 : decode cX4_best 78 = .ok (.lreturn, 1) := dk_173 (dk_at dksX4_best_3 11 rfl rfl)
abbrev cX4_plain : ByteArray := prog_21_method_57_code
def yX4_plain : MethodName := ⟨RX4, "plain", "(II)I"⟩
def dkwX4_plain_1 : List UInt8 := [27, 4, 16, 20, 3, 182, 0, 242, 167, 0, 12, 42, 27, 6, 16, 9, 3, 182, 0, 242, 172]
abbrev dktX4_plain_1 : List UInt8 := dkwX4_plain_1 ++ []
def dkwX4_plain_0 : List UInt8 := [42, 27, 182, 0, 191, 153, 0, 12, 28, 3, 4, 184, 0, 42, 154, 0, 5, 2, 172, 28, 154, 0, 15, 42]
abbrev dktX4_plain_0 : List UInt8 := dkwX4_plain_0 ++ dktX4_plain_1
theorem dksX4_plain_0 : cX4_plain.data.toList.drop 0 = dktX4_plain_0 := by decide +kernel
theorem dksX4_plain_1 : cX4_plain.data.toList.drop 24 = dktX4_plain_1 := dk_seg dksX4_plain_0 24 rfl rfl
theorem dX4_plain_0 : decode cX4_plain 0 = .ok (.aload_n 0, 1) := dk_42 (dk_at dksX4_plain_0 0 rfl rfl)
theorem dX4_plain_1 : decode cX4_plain 1 = .ok (.iload_n 1, 1) := dk_27 (dk_at dksX4_plain_0 1 rfl rfl)
theorem dX4_plain_2 : decode cX4_plain 2 = .ok (.invokevirtual 191, 3) := dk_182 0 191 (dk_at dksX4_plain_0 2 rfl rfl)
theorem dX4_plain_5 : decode cX4_plain 5 = .ok (.ifCond .eq 12, 3) := dk_153 0 12 (dk_at dksX4_plain_0 5 rfl rfl)
theorem dX4_plain_8 : decode cX4_plain 8 = .ok (.iload_n 2, 1) := dk_28 (dk_at dksX4_plain_0 8 rfl rfl)
theorem dX4_plain_9 : decode cX4_plain 9 = .ok (.iconst 0, 1) := dk_3 (dk_at dksX4_plain_0 9 rfl rfl)
theorem dX4_plain_10 : decode cX4_plain 10 = .ok (.iconst 1, 1) := dk_4 (dk_at dksX4_plain_0 10 rfl rfl)
theorem dX4_plain_11 : decode cX4_plain 11 = .ok (.invokestatic 42, 3) := dk_184 0 42 (dk_at dksX4_plain_0 11 rfl rfl)
theorem dX4_plain_14 : decode cX4_plain 14 = .ok (.ifCond .ne 5, 3) := dk_154 0 5 (dk_at dksX4_plain_0 14 rfl rfl)
theorem dX4_plain_17 : decode cX4_plain 17 = .ok (.iconst (-1), 1) := dk_2 (dk_at dksX4_plain_0 17 rfl rfl)
theorem dX4_plain_18 : decode cX4_plain 18 = .ok (.ireturn, 1) := dk_172 (dk_at dksX4_plain_0 18 rfl rfl)
theorem dX4_plain_19 : decode cX4_plain 19 = .ok (.iload_n 2, 1) := dk_28 (dk_at dksX4_plain_0 19 rfl rfl)
theorem dX4_plain_20 : decode cX4_plain 20 = .ok (.ifCond .ne 15, 3) := dk_154 0 15 (dk_at dksX4_plain_0 20 rfl rfl)
theorem dX4_plain_23 : decode cX4_plain 23 = .ok (.aload_n 0, 1) := dk_42 (dk_at dksX4_plain_0 23 rfl rfl)
theorem dX4_plain_24 : decode cX4_plain 24 = .ok (.iload_n 1, 1) := dk_27 (dk_at dksX4_plain_1 0 rfl rfl)
theorem dX4_plain_25 : decode cX4_plain 25 = .ok (.iconst 1, 1) := dk_4 (dk_at dksX4_plain_1 1 rfl rfl)
theorem dX4_plain_26 : decode cX4_plain 26 = .ok (.bipush 20, 2) := dk_16 20 (dk_at dksX4_plain_1 2 rfl rfl)
theorem dX4_plain_28 : decode cX4_plain 28 = .ok (.iconst 0, 1) := dk_3 (dk_at dksX4_plain_1 4 rfl rfl)
theorem dX4_plain_29 : decode cX4_plain 29 = .ok (.invokevirtual 242, 3) := dk_182 0 242 (dk_at dksX4_plain_1 5 rfl rfl)
theorem dX4_plain_32 : decode cX4_plain 32 = .ok (.goto 12, 3) := dk_167 0 12 (dk_at dksX4_plain_1 8 rfl rfl)
theorem dX4_plain_35 : decode cX4_plain 35 = .ok (.aload_n 0, 1) := dk_42 (dk_at dksX4_plain_1 11 rfl rfl)
theorem dX4_plain_36 : decode cX4_plain 36 = .ok (.iload_n 1, 1) := dk_27 (dk_at dksX4_plain_1 12 rfl rfl)
theorem dX4_plain_37 : decode cX4_plain 37 = .ok (.iconst 3, 1) := dk_6 (dk_at dksX4_plain_1 13 rfl rfl)
theorem dX4_plain_38 : decode cX4_plain 38 = .ok (.bipush 9, 2) := dk_16 9 (dk_at dksX4_plain_1 14 rfl rfl)
theorem dX4_plain_40 : decode cX4_plain 40 = .ok (.iconst 0, 1) := dk_3 (dk_at dksX4_plain_1 16 rfl rfl)
theorem dX4_plain_41 : decode cX4_plain 41 = .ok (.invokevirtual 242, 3) := dk_182 0 242 (dk_at dksX4_plain_1 17 rfl rfl)
theorem dX4_plain_44 : decode cX4_plain 44 = .ok (.ireturn, 1) := dk_172 (dk_at dksX4_plain_1 20 rfl rfl)
abbrev cX4_leastOf : ByteArray := prog_21_method_56_code
def yX4_leastOf : MethodName := ⟨RX4, "leastOf", "(IIII)I"⟩
def dkwX4_leastOf_3 : List UInt8 := [156, 0, 8, 22, 9, 167, 0, 5, 22, 6, 55, 6, 132, 8, 1, 167, 255, 181, 21, 5, 172]
abbrev dktX4_leastOf_3 : List UInt8 := dkwX4_leastOf_3 ++ []
def dkwX4_leastOf_2 : List UInt8 := [156, 0, 8, 21, 8, 167, 0, 5, 21, 5, 54, 5, 21, 8, 153, 0, 11, 22, 9, 22, 6, 148]
abbrev dktX4_leastOf_2 : List UInt8 := dkwX4_leastOf_2 ++ dktX4_leastOf_3
def dkwX4_leastOf_1 : List UInt8 := [181, 0, 145, 42, 28, 21, 8, 2, 3, 182, 0, 235, 55, 9, 21, 8, 153, 0, 11, 22, 9, 22, 6, 148]
abbrev dktX4_leastOf_1 : List UInt8 := dkwX4_leastOf_1 ++ dktX4_leastOf_2
def dkwX4_leastOf_0 : List UInt8 := [3, 54, 5, 9, 55, 6, 3, 54, 8, 21, 8, 29, 163, 0, 75, 42, 27, 182, 0, 178, 42, 21, 4]
abbrev dktX4_leastOf_0 : List UInt8 := dkwX4_leastOf_0 ++ dktX4_leastOf_1
theorem dksX4_leastOf_0 : cX4_leastOf.data.toList.drop 0 = dktX4_leastOf_0 := by decide +kernel
theorem dksX4_leastOf_1 : cX4_leastOf.data.toList.drop 23 = dktX4_leastOf_1 := dk_seg dksX4_leastOf_0 23 rfl rfl
theorem dksX4_leastOf_2 : cX4_leastOf.data.toList.drop 47 = dktX4_leastOf_2 := dk_seg dksX4_leastOf_1 24 rfl rfl
theorem dksX4_leastOf_3 : cX4_leastOf.data.toList.drop 69 = dktX4_leastOf_3 := dk_seg dksX4_leastOf_2 22 rfl rfl
theorem dX4_leastOf_0 : decode cX4_leastOf 0 = .ok (.iconst 0, 1) := dk_3 (dk_at dksX4_leastOf_0 0 rfl rfl)
theorem dX4_leastOf_1 : decode cX4_leastOf 1 = .ok (.istore 5, 2) := dk_54 5 (dk_at dksX4_leastOf_0 1 rfl rfl)
theorem dX4_leastOf_3 : decode cX4_leastOf 3 = .ok (.lconst 0, 1) := dk_9 (dk_at dksX4_leastOf_0 3 rfl rfl)
theorem dX4_leastOf_4 : decode cX4_leastOf 4 = .ok (.lstore 6, 2) := dk_55 6 (dk_at dksX4_leastOf_0 4 rfl rfl)
theorem dX4_leastOf_6 : decode cX4_leastOf 6 = .ok (.iconst 0, 1) := dk_3 (dk_at dksX4_leastOf_0 6 rfl rfl)
theorem dX4_leastOf_7 : decode cX4_leastOf 7 = .ok (.istore 8, 2) := dk_54 8 (dk_at dksX4_leastOf_0 7 rfl rfl)
theorem dX4_leastOf_9 : decode cX4_leastOf 9 = .ok (.iload 8, 2) := dk_21 8 (dk_at dksX4_leastOf_0 9 rfl rfl)
theorem dX4_leastOf_11 : decode cX4_leastOf 11 = .ok (.iload_n 3, 1) := dk_29 (dk_at dksX4_leastOf_0 11 rfl rfl)
theorem dX4_leastOf_12 : decode cX4_leastOf 12 = .ok (.if_icmp .gt 75, 3) := dk_163 0 75 (dk_at dksX4_leastOf_0 12 rfl rfl)
theorem dX4_leastOf_15 : decode cX4_leastOf 15 = .ok (.aload_n 0, 1) := dk_42 (dk_at dksX4_leastOf_0 15 rfl rfl)
theorem dX4_leastOf_16 : decode cX4_leastOf 16 = .ok (.iload_n 1, 1) := dk_27 (dk_at dksX4_leastOf_0 16 rfl rfl)
theorem dX4_leastOf_17 : decode cX4_leastOf 17 = .ok (.invokevirtual 178, 3) := dk_182 0 178 (dk_at dksX4_leastOf_0 17 rfl rfl)
theorem dX4_leastOf_20 : decode cX4_leastOf 20 = .ok (.aload_n 0, 1) := dk_42 (dk_at dksX4_leastOf_0 20 rfl rfl)
theorem dX4_leastOf_21 : decode cX4_leastOf 21 = .ok (.iload 4, 2) := dk_21 4 (dk_at dksX4_leastOf_0 21 rfl rfl)
theorem dX4_leastOf_23 : decode cX4_leastOf 23 = .ok (.putfield 145, 3) := dk_181 0 145 (dk_at dksX4_leastOf_1 0 rfl rfl)
theorem dX4_leastOf_26 : decode cX4_leastOf 26 = .ok (.aload_n 0, 1) := dk_42 (dk_at dksX4_leastOf_1 3 rfl rfl)
theorem dX4_leastOf_27 : decode cX4_leastOf 27 = .ok (.iload_n 2, 1) := dk_28 (dk_at dksX4_leastOf_1 4 rfl rfl)
theorem dX4_leastOf_28 : decode cX4_leastOf 28 = .ok (.iload 8, 2) := dk_21 8 (dk_at dksX4_leastOf_1 5 rfl rfl)
theorem dX4_leastOf_30 : decode cX4_leastOf 30 = .ok (.iconst (-1), 1) := dk_2 (dk_at dksX4_leastOf_1 7 rfl rfl)
theorem dX4_leastOf_31 : decode cX4_leastOf 31 = .ok (.iconst 0, 1) := dk_3 (dk_at dksX4_leastOf_1 8 rfl rfl)
theorem dX4_leastOf_32 : decode cX4_leastOf 32 = .ok (.invokevirtual 235, 3) := dk_182 0 235 (dk_at dksX4_leastOf_1 9 rfl rfl)
theorem dX4_leastOf_35 : decode cX4_leastOf 35 = .ok (.lstore 9, 2) := dk_55 9 (dk_at dksX4_leastOf_1 12 rfl rfl)
theorem dX4_leastOf_37 : decode cX4_leastOf 37 = .ok (.iload 8, 2) := dk_21 8 (dk_at dksX4_leastOf_1 14 rfl rfl)
theorem dX4_leastOf_39 : decode cX4_leastOf 39 = .ok (.ifCond .eq 11, 3) := dk_153 0 11 (dk_at dksX4_leastOf_1 16 rfl rfl)
theorem dX4_leastOf_42 : decode cX4_leastOf 42 = .ok (.lload 9, 2) := dk_22 9 (dk_at dksX4_leastOf_1 19 rfl rfl)
theorem dX4_leastOf_44 : decode cX4_leastOf 44 = .ok (.lload 6, 2) := dk_22 6 (dk_at dksX4_leastOf_1 21 rfl rfl)
theorem dX4_leastOf_46 : decode cX4_leastOf 46 = .ok (.lcmp, 1) := dk_148 (dk_at dksX4_leastOf_1 23 rfl rfl)
theorem dX4_leastOf_47 : decode cX4_leastOf 47 = .ok (.ifCond .ge 8, 3) := dk_156 0 8 (dk_at dksX4_leastOf_2 0 rfl rfl)
theorem dX4_leastOf_50 : decode cX4_leastOf 50 = .ok (.iload 8, 2) := dk_21 8 (dk_at dksX4_leastOf_2 3 rfl rfl)
theorem dX4_leastOf_52 : decode cX4_leastOf 52 = .ok (.goto 5, 3) := dk_167 0 5 (dk_at dksX4_leastOf_2 5 rfl rfl)
theorem dX4_leastOf_55 : decode cX4_leastOf 55 = .ok (.iload 5, 2) := dk_21 5 (dk_at dksX4_leastOf_2 8 rfl rfl)
theorem dX4_leastOf_57 : decode cX4_leastOf 57 = .ok (.istore 5, 2) := dk_54 5 (dk_at dksX4_leastOf_2 10 rfl rfl)
theorem dX4_leastOf_59 : decode cX4_leastOf 59 = .ok (.iload 8, 2) := dk_21 8 (dk_at dksX4_leastOf_2 12 rfl rfl)
theorem dX4_leastOf_61 : decode cX4_leastOf 61 = .ok (.ifCond .eq 11, 3) := dk_153 0 11 (dk_at dksX4_leastOf_2 14 rfl rfl)
theorem dX4_leastOf_64 : decode cX4_leastOf 64 = .ok (.lload 9, 2) := dk_22 9 (dk_at dksX4_leastOf_2 17 rfl rfl)
theorem dX4_leastOf_66 : decode cX4_leastOf 66 = .ok (.lload 6, 2) := dk_22 6 (dk_at dksX4_leastOf_2 19 rfl rfl)
theorem dX4_leastOf_68 : decode cX4_leastOf 68 = .ok (.lcmp, 1) := dk_148 (dk_at dksX4_leastOf_2 21 rfl rfl)
theorem dX4_leastOf_69 : decode cX4_leastOf 69 = .ok (.ifCond .ge 8, 3) := dk_156 0 8 (dk_at dksX4_leastOf_3 0 rfl rfl)
theorem dX4_leastOf_72 : decode cX4_leastOf 72 = .ok (.lload 9, 2) := dk_22 9 (dk_at dksX4_leastOf_3 3 rfl rfl)
theorem dX4_leastOf_74 : decode cX4_leastOf 74 = .ok (.goto 5, 3) := dk_167 0 5 (dk_at dksX4_leastOf_3 5 rfl rfl)
theorem dX4_leastOf_77 : decode cX4_leastOf 77 = .ok (.lload 6, 2) := dk_22 6 (dk_at dksX4_leastOf_3 8 rfl rfl)
theorem dX4_leastOf_79 : decode cX4_leastOf 79 = .ok (.lstore 6, 2) := dk_55 6 (dk_at dksX4_leastOf_3 10 rfl rfl)
theorem dX4_leastOf_81 : decode cX4_leastOf 81 = .ok (.iinc 8 1, 3) := dk_132 8 1 (dk_at dksX4_leastOf_3 12 rfl rfl)
theorem dX4_leastOf_84 : decode cX4_leastOf 84 = .ok (.goto (-75), 3) := dk_167 255 181 (dk_at dksX4_leastOf_3 15 rfl rfl)
theorem dX4_leastOf_87 : decode cX4_leastOf 87 = .ok (.iload 5, 2) := dk_21 5 (dk_at dksX4_leastOf_3 18 rfl rfl)
theorem dX4_leastOf_89 : decode cX4_leastOf 89 = .ok (.ireturn, 1) := dk_172 (dk_at dksX4_leastOf_3 20 rfl rfl)
abbrev cX4_loses : ByteArray := prog_21_method_58_code
def yX4_loses : MethodName := ⟨RX4, "loses", "(I)J"⟩
def dkwX4_loses_2 : List UInt8 := [182, 0, 217, 101, 173]
abbrev dktX4_loses_2 : List UInt8 := dkwX4_loses_2 ++ []
def dkwX4_loses_1 : List UInt8 := [182, 0, 178, 42, 4, 28, 2, 3, 182, 0, 235, 66, 42, 27, 182, 0, 178, 33, 42, 3, 16, 9, 3]
abbrev dktX4_loses_1 : List UInt8 := dkwX4_loses_1 ++ dktX4_loses_2
def dkwX4_loses_0 : List UInt8 := [42, 27, 182, 0, 191, 154, 0, 7, 20, 0, 200, 173, 42, 27, 4, 16, 20, 3, 182, 0, 242, 61, 42, 27]
abbrev dktX4_loses_0 : List UInt8 := dkwX4_loses_0 ++ dktX4_loses_1
theorem dksX4_loses_0 : cX4_loses.data.toList.drop 0 = dktX4_loses_0 := by decide +kernel
theorem dksX4_loses_1 : cX4_loses.data.toList.drop 24 = dktX4_loses_1 := dk_seg dksX4_loses_0 24 rfl rfl
theorem dksX4_loses_2 : cX4_loses.data.toList.drop 47 = dktX4_loses_2 := dk_seg dksX4_loses_1 23 rfl rfl
theorem dX4_loses_0 : decode cX4_loses 0 = .ok (.aload_n 0, 1) := dk_42 (dk_at dksX4_loses_0 0 rfl rfl)
theorem dX4_loses_1 : decode cX4_loses 1 = .ok (.iload_n 1, 1) := dk_27 (dk_at dksX4_loses_0 1 rfl rfl)
theorem dX4_loses_2 : decode cX4_loses 2 = .ok (.invokevirtual 191, 3) := dk_182 0 191 (dk_at dksX4_loses_0 2 rfl rfl)
theorem dX4_loses_5 : decode cX4_loses 5 = .ok (.ifCond .ne 7, 3) := dk_154 0 7 (dk_at dksX4_loses_0 5 rfl rfl)
theorem dX4_loses_8 : decode cX4_loses 8 = .ok (.ldc2_w 200, 3) := dk_20 0 200 (dk_at dksX4_loses_0 8 rfl rfl)
theorem dX4_loses_11 : decode cX4_loses 11 = .ok (.lreturn, 1) := dk_173 (dk_at dksX4_loses_0 11 rfl rfl)
theorem dX4_loses_12 : decode cX4_loses 12 = .ok (.aload_n 0, 1) := dk_42 (dk_at dksX4_loses_0 12 rfl rfl)
theorem dX4_loses_13 : decode cX4_loses 13 = .ok (.iload_n 1, 1) := dk_27 (dk_at dksX4_loses_0 13 rfl rfl)
theorem dX4_loses_14 : decode cX4_loses 14 = .ok (.iconst 1, 1) := dk_4 (dk_at dksX4_loses_0 14 rfl rfl)
theorem dX4_loses_15 : decode cX4_loses 15 = .ok (.bipush 20, 2) := dk_16 20 (dk_at dksX4_loses_0 15 rfl rfl)
theorem dX4_loses_17 : decode cX4_loses 17 = .ok (.iconst 0, 1) := dk_3 (dk_at dksX4_loses_0 17 rfl rfl)
theorem dX4_loses_18 : decode cX4_loses 18 = .ok (.invokevirtual 242, 3) := dk_182 0 242 (dk_at dksX4_loses_0 18 rfl rfl)
theorem dX4_loses_21 : decode cX4_loses 21 = .ok (.istore_n 2, 1) := dk_61 (dk_at dksX4_loses_0 21 rfl rfl)
theorem dX4_loses_22 : decode cX4_loses 22 = .ok (.aload_n 0, 1) := dk_42 (dk_at dksX4_loses_0 22 rfl rfl)
theorem dX4_loses_23 : decode cX4_loses 23 = .ok (.iload_n 1, 1) := dk_27 (dk_at dksX4_loses_0 23 rfl rfl)
theorem dX4_loses_24 : decode cX4_loses 24 = .ok (.invokevirtual 178, 3) := dk_182 0 178 (dk_at dksX4_loses_1 0 rfl rfl)
theorem dX4_loses_27 : decode cX4_loses 27 = .ok (.aload_n 0, 1) := dk_42 (dk_at dksX4_loses_1 3 rfl rfl)
theorem dX4_loses_28 : decode cX4_loses 28 = .ok (.iconst 1, 1) := dk_4 (dk_at dksX4_loses_1 4 rfl rfl)
theorem dX4_loses_29 : decode cX4_loses 29 = .ok (.iload_n 2, 1) := dk_28 (dk_at dksX4_loses_1 5 rfl rfl)
theorem dX4_loses_30 : decode cX4_loses 30 = .ok (.iconst (-1), 1) := dk_2 (dk_at dksX4_loses_1 6 rfl rfl)
theorem dX4_loses_31 : decode cX4_loses 31 = .ok (.iconst 0, 1) := dk_3 (dk_at dksX4_loses_1 7 rfl rfl)
theorem dX4_loses_32 : decode cX4_loses 32 = .ok (.invokevirtual 235, 3) := dk_182 0 235 (dk_at dksX4_loses_1 8 rfl rfl)
theorem dX4_loses_35 : decode cX4_loses 35 = .ok (.lstore_n 3, 1) := dk_66 (dk_at dksX4_loses_1 11 rfl rfl)
theorem dX4_loses_36 : decode cX4_loses 36 = .ok (.aload_n 0, 1) := dk_42 (dk_at dksX4_loses_1 12 rfl rfl)
theorem dX4_loses_37 : decode cX4_loses 37 = .ok (.iload_n 1, 1) := dk_27 (dk_at dksX4_loses_1 13 rfl rfl)
theorem dX4_loses_38 : decode cX4_loses 38 = .ok (.invokevirtual 178, 3) := dk_182 0 178 (dk_at dksX4_loses_1 14 rfl rfl)
theorem dX4_loses_41 : decode cX4_loses 41 = .ok (.lload_n 3, 1) := dk_33 (dk_at dksX4_loses_1 17 rfl rfl)
theorem dX4_loses_42 : decode cX4_loses 42 = .ok (.aload_n 0, 1) := dk_42 (dk_at dksX4_loses_1 18 rfl rfl)
theorem dX4_loses_43 : decode cX4_loses 43 = .ok (.iconst 0, 1) := dk_3 (dk_at dksX4_loses_1 19 rfl rfl)
theorem dX4_loses_44 : decode cX4_loses 44 = .ok (.bipush 9, 2) := dk_16 9 (dk_at dksX4_loses_1 20 rfl rfl)
theorem dX4_loses_46 : decode cX4_loses 46 = .ok (.iconst 0, 1) := dk_3 (dk_at dksX4_loses_1 22 rfl rfl)
theorem dX4_loses_47 : decode cX4_loses 47 = .ok (.invokevirtual 217, 3) := dk_182 0 217 (dk_at dksX4_loses_2 0 rfl rfl)
theorem dX4_loses_50 : decode cX4_loses 50 = .ok (.lsub, 1) := dk_101 (dk_at dksX4_loses_2 3 rfl rfl)
theorem dX4_loses_51 : decode cX4_loses 51 = .ok (.lreturn, 1) := dk_173 (dk_at dksX4_loses_2 4 rfl rfl)
abbrev cX4_judged : ByteArray := prog_21_method_59_code
def yX4_judged : MethodName := ⟨RX4, "judged", "(II)I"⟩
def dkwX4_judged_4 : List UInt8 := [54, 7, 132, 3, 1, 167, 255, 200, 16, 251, 172]
abbrev dktX4_judged_4 : List UInt8 := dkwX4_judged_4 ++ []
def dkwX4_judged_3 : List UInt8 := [21, 4, 42, 180, 0, 211, 159, 0, 5, 29, 172, 21, 4, 153, 0, 6, 16, 251, 172, 42, 3, 182, 0, 194]
abbrev dktX4_judged_3 : List UInt8 := dkwX4_judged_3 ++ dktX4_judged_4
def dkwX4_judged_2 : List UInt8 := [162, 0, 56, 42, 8, 3, 27, 29, 182, 0, 231, 54, 4, 42, 16, 9, 29, 100, 29, 182, 0, 228, 55, 5]
abbrev dktX4_judged_2 : List UInt8 := dkwX4_judged_2 ++ dktX4_judged_3
def dkwX4_judged_1 : List UInt8 := [17, 3, 232, 27, 96, 46, 8, 159, 0, 6, 16, 253, 172, 42, 28, 182, 0, 178, 3, 62, 29, 16, 10]
abbrev dktX4_judged_1 : List UInt8 := dkwX4_judged_1 ++ dktX4_judged_2
def dkwX4_judged_0 : List UInt8 := [42, 27, 182, 0, 206, 153, 0, 11, 42, 28, 182, 0, 191, 154, 0, 5, 2, 172, 42, 180, 0, 9]
abbrev dktX4_judged_0 : List UInt8 := dkwX4_judged_0 ++ dktX4_judged_1
theorem dksX4_judged_0 : cX4_judged.data.toList.drop 0 = dktX4_judged_0 := by decide +kernel
theorem dksX4_judged_1 : cX4_judged.data.toList.drop 22 = dktX4_judged_1 := dk_seg dksX4_judged_0 22 rfl rfl
theorem dksX4_judged_2 : cX4_judged.data.toList.drop 45 = dktX4_judged_2 := dk_seg dksX4_judged_1 23 rfl rfl
theorem dksX4_judged_3 : cX4_judged.data.toList.drop 69 = dktX4_judged_3 := dk_seg dksX4_judged_2 24 rfl rfl
theorem dksX4_judged_4 : cX4_judged.data.toList.drop 93 = dktX4_judged_4 := dk_seg dksX4_judged_3 24 rfl rfl
theorem dX4_judged_0 : decode cX4_judged 0 = .ok (.aload_n 0, 1) := dk_42 (dk_at dksX4_judged_0 0 rfl rfl)
theorem dX4_judged_1 : decode cX4_judged 1 = .ok (.iload_n 1, 1) := dk_27 (dk_at dksX4_judged_0 1 rfl rfl)
theorem dX4_judged_2 : decode cX4_judged 2 = .ok (.invokevirtual 206, 3) := dk_182 0 206 (dk_at dksX4_judged_0 2 rfl rfl)
theorem dX4_judged_5 : decode cX4_judged 5 = .ok (.ifCond .eq 11, 3) := dk_153 0 11 (dk_at dksX4_judged_0 5 rfl rfl)
theorem dX4_judged_8 : decode cX4_judged 8 = .ok (.aload_n 0, 1) := dk_42 (dk_at dksX4_judged_0 8 rfl rfl)
theorem dX4_judged_9 : decode cX4_judged 9 = .ok (.iload_n 2, 1) := dk_28 (dk_at dksX4_judged_0 9 rfl rfl)
theorem dX4_judged_10 : decode cX4_judged 10 = .ok (.invokevirtual 191, 3) := dk_182 0 191 (dk_at dksX4_judged_0 10 rfl rfl)
theorem dX4_judged_13 : decode cX4_judged 13 = .ok (.ifCond .ne 5, 3) := dk_154 0 5 (dk_at dksX4_judged_0 13 rfl rfl)
theorem dX4_judged_16 : decode cX4_judged 16 = .ok (.iconst (-1), 1) := dk_2 (dk_at dksX4_judged_0 16 rfl rfl)
theorem dX4_judged_17 : decode cX4_judged 17 = .ok (.ireturn, 1) := dk_172 (dk_at dksX4_judged_0 17 rfl rfl)
theorem dX4_judged_18 : decode cX4_judged 18 = .ok (.aload_n 0, 1) := dk_42 (dk_at dksX4_judged_0 18 rfl rfl)
theorem dX4_judged_19 : decode cX4_judged 19 = .ok (.getfield 9, 3) := dk_180 0 9 (dk_at dksX4_judged_0 19 rfl rfl)
theorem dX4_judged_22 : decode cX4_judged 22 = .ok (.sipush 1000, 3) := dk_17 3 232 (dk_at dksX4_judged_1 0 rfl rfl)
theorem dX4_judged_25 : decode cX4_judged 25 = .ok (.iload_n 1, 1) := dk_27 (dk_at dksX4_judged_1 3 rfl rfl)
theorem dX4_judged_26 : decode cX4_judged 26 = .ok (.iadd, 1) := dk_96 (dk_at dksX4_judged_1 4 rfl rfl)
theorem dX4_judged_27 : decode cX4_judged 27 = .ok (.iaload, 1) := dk_46 (dk_at dksX4_judged_1 5 rfl rfl)
theorem dX4_judged_28 : decode cX4_judged 28 = .ok (.iconst 5, 1) := dk_8 (dk_at dksX4_judged_1 6 rfl rfl)
theorem dX4_judged_29 : decode cX4_judged 29 = .ok (.if_icmp .eq 6, 3) := dk_159 0 6 (dk_at dksX4_judged_1 7 rfl rfl)
theorem dX4_judged_32 : decode cX4_judged 32 = .ok (.bipush (-3), 2) := dk_16 253 (dk_at dksX4_judged_1 10 rfl rfl)
theorem dX4_judged_34 : decode cX4_judged 34 = .ok (.ireturn, 1) := dk_172 (dk_at dksX4_judged_1 12 rfl rfl)
theorem dX4_judged_35 : decode cX4_judged 35 = .ok (.aload_n 0, 1) := dk_42 (dk_at dksX4_judged_1 13 rfl rfl)
theorem dX4_judged_36 : decode cX4_judged 36 = .ok (.iload_n 2, 1) := dk_28 (dk_at dksX4_judged_1 14 rfl rfl)
theorem dX4_judged_37 : decode cX4_judged 37 = .ok (.invokevirtual 178, 3) := dk_182 0 178 (dk_at dksX4_judged_1 15 rfl rfl)
theorem dX4_judged_40 : decode cX4_judged 40 = .ok (.iconst 0, 1) := dk_3 (dk_at dksX4_judged_1 18 rfl rfl)
theorem dX4_judged_41 : decode cX4_judged 41 = .ok (.istore_n 3, 1) := dk_62 (dk_at dksX4_judged_1 19 rfl rfl)
theorem dX4_judged_42 : decode cX4_judged 42 = .ok (.iload_n 3, 1) := dk_29 (dk_at dksX4_judged_1 20 rfl rfl)
theorem dX4_judged_43 : decode cX4_judged 43 = .ok (.bipush 10, 2) := dk_16 10 (dk_at dksX4_judged_1 21 rfl rfl)
theorem dX4_judged_45 : decode cX4_judged 45 = .ok (.if_icmp .ge 56, 3) := dk_162 0 56 (dk_at dksX4_judged_2 0 rfl rfl)
theorem dX4_judged_48 : decode cX4_judged 48 = .ok (.aload_n 0, 1) := dk_42 (dk_at dksX4_judged_2 3 rfl rfl)
theorem dX4_judged_49 : decode cX4_judged 49 = .ok (.iconst 5, 1) := dk_8 (dk_at dksX4_judged_2 4 rfl rfl)
theorem dX4_judged_50 : decode cX4_judged 50 = .ok (.iconst 0, 1) := dk_3 (dk_at dksX4_judged_2 5 rfl rfl)
theorem dX4_judged_51 : decode cX4_judged 51 = .ok (.iload_n 1, 1) := dk_27 (dk_at dksX4_judged_2 6 rfl rfl)
theorem dX4_judged_52 : decode cX4_judged 52 = .ok (.iload_n 3, 1) := dk_29 (dk_at dksX4_judged_2 7 rfl rfl)
theorem dX4_judged_53 : decode cX4_judged 53 = .ok (.invokevirtual 231, 3) := dk_182 0 231 (dk_at dksX4_judged_2 8 rfl rfl)
theorem dX4_judged_56 : decode cX4_judged 56 = .ok (.istore 4, 2) := dk_54 4 (dk_at dksX4_judged_2 11 rfl rfl)
theorem dX4_judged_58 : decode cX4_judged 58 = .ok (.aload_n 0, 1) := dk_42 (dk_at dksX4_judged_2 13 rfl rfl)
theorem dX4_judged_59 : decode cX4_judged 59 = .ok (.bipush 9, 2) := dk_16 9 (dk_at dksX4_judged_2 14 rfl rfl)
theorem dX4_judged_61 : decode cX4_judged 61 = .ok (.iload_n 3, 1) := dk_29 (dk_at dksX4_judged_2 16 rfl rfl)
theorem dX4_judged_62 : decode cX4_judged 62 = .ok (.isub, 1) := dk_100 (dk_at dksX4_judged_2 17 rfl rfl)
theorem dX4_judged_63 : decode cX4_judged 63 = .ok (.iload_n 3, 1) := dk_29 (dk_at dksX4_judged_2 18 rfl rfl)
theorem dX4_judged_64 : decode cX4_judged 64 = .ok (.invokevirtual 228, 3) := dk_182 0 228 (dk_at dksX4_judged_2 19 rfl rfl)
theorem dX4_judged_67 : decode cX4_judged 67 = .ok (.lstore 5, 2) := dk_55 5 (dk_at dksX4_judged_2 22 rfl rfl)
theorem dX4_judged_69 : decode cX4_judged 69 = .ok (.iload 4, 2) := dk_21 4 (dk_at dksX4_judged_3 0 rfl rfl)
theorem dX4_judged_71 : decode cX4_judged 71 = .ok (.aload_n 0, 1) := dk_42 (dk_at dksX4_judged_3 2 rfl rfl)
theorem dX4_judged_72 : decode cX4_judged 72 = .ok (.getfield 211, 3) := dk_180 0 211 (dk_at dksX4_judged_3 3 rfl rfl)
theorem dX4_judged_75 : decode cX4_judged 75 = .ok (.if_icmp .eq 5, 3) := dk_159 0 5 (dk_at dksX4_judged_3 6 rfl rfl)
theorem dX4_judged_78 : decode cX4_judged 78 = .ok (.iload_n 3, 1) := dk_29 (dk_at dksX4_judged_3 9 rfl rfl)
theorem dX4_judged_79 : decode cX4_judged 79 = .ok (.ireturn, 1) := dk_172 (dk_at dksX4_judged_3 10 rfl rfl)
theorem dX4_judged_80 : decode cX4_judged 80 = .ok (.iload 4, 2) := dk_21 4 (dk_at dksX4_judged_3 11 rfl rfl)
theorem dX4_judged_82 : decode cX4_judged 82 = .ok (.ifCond .eq 6, 3) := dk_153 0 6 (dk_at dksX4_judged_3 13 rfl rfl)
theorem dX4_judged_85 : decode cX4_judged 85 = .ok (.bipush (-5), 2) := dk_16 251 (dk_at dksX4_judged_3 16 rfl rfl)
theorem dX4_judged_87 : decode cX4_judged 87 = .ok (.ireturn, 1) := dk_172 (dk_at dksX4_judged_3 18 rfl rfl)
theorem dX4_judged_88 : decode cX4_judged 88 = .ok (.aload_n 0, 1) := dk_42 (dk_at dksX4_judged_3 19 rfl rfl)
theorem dX4_judged_89 : decode cX4_judged 89 = .ok (.iconst 0, 1) := dk_3 (dk_at dksX4_judged_3 20 rfl rfl)
theorem dX4_judged_90 : decode cX4_judged 90 = .ok (.invokevirtual 194, 3) := dk_182 0 194 (dk_at dksX4_judged_3 21 rfl rfl)
theorem dX4_judged_93 : decode cX4_judged 93 = .ok (.istore 7, 2) := dk_54 7 (dk_at dksX4_judged_4 0 rfl rfl)
theorem dX4_judged_95 : decode cX4_judged 95 = .ok (.iinc 3 1, 3) := dk_132 3 1 (dk_at dksX4_judged_4 2 rfl rfl)
theorem dX4_judged_98 : decode cX4_judged 98 = .ok (.goto (-56), 3) := dk_167 255 200 (dk_at dksX4_judged_4 5 rfl rfl)
theorem dX4_judged_101 : decode cX4_judged 101 = .ok (.bipush (-5), 2) := dk_16 251 (dk_at dksX4_judged_4 8 rfl rfl)
theorem dX4_judged_103 : decode cX4_judged 103 = .ok (.ireturn, 1) := dk_172 (dk_at dksX4_judged_4 10 rfl rfl)
abbrev cX4_room : ByteArray := prog_21_method_60_code
def yX4_room : MethodName := ⟨RX4, "room", "(II)I"⟩
def dkwX4_room_10 : List UInt8 := [167, 255, 101, 29, 172]
abbrev dktX4_room_10 : List UInt8 := dkwX4_room_10 ++ []
def dkwX4_room_9 : List UInt8 := [167, 0, 4, 29, 62, 21, 10, 153, 0, 8, 22, 7, 167, 0, 5, 22, 4, 55, 4, 132, 6, 1]
abbrev dktX4_room_9 : List UInt8 := dkwX4_room_9 ++ dktX4_room_10
def dkwX4_room_8 : List UInt8 := [22, 7, 22, 4, 148, 158, 0, 7, 4, 167, 0, 4, 3, 54, 10, 21, 10, 153, 0, 8, 21, 6]
abbrev dktX4_room_8 : List UInt8 := dkwX4_room_8 ++ dktX4_room_9
def dkwX4_room_7 : List UInt8 := [54, 9, 132, 10, 1, 167, 255, 178, 21, 6, 27, 2, 130, 126, 154, 0, 21, 21, 9, 28, 163, 0, 15]
abbrev dktX4_room_7 : List UInt8 := dkwX4_room_7 ++ dktX4_room_8
def dkwX4_room_6 : List UInt8 := [21, 9, 21, 11, 153, 0, 17, 42, 180, 0, 9, 17, 3, 158, 21, 10, 96, 46, 167, 0, 4, 3, 96]
abbrev dktX4_room_6 : List UInt8 := dkwX4_room_6 ++ dktX4_room_7
def dkwX4_room_5 : List UInt8 := [54, 11, 22, 7, 21, 11, 153, 0, 13, 42, 180, 0, 25, 21, 10, 47, 167, 0, 4, 9, 97, 55, 7]
abbrev dktX4_room_5 : List UInt8 := dkwX4_room_5 ++ dktX4_room_6
def dkwX4_room_4 : List UInt8 := [180, 0, 9, 4, 46, 162, 0, 73, 21, 6, 21, 10, 122, 4, 126, 4, 160, 0, 7, 4, 167, 0, 4, 3]
abbrev dktX4_room_4 : List UInt8 := dkwX4_room_4 ++ dktX4_room_5
def dkwX4_room_3 : List UInt8 := [55, 4, 4, 54, 6, 21, 6, 27, 163, 0, 155, 9, 55, 7, 3, 54, 9, 3, 54, 10, 21, 10, 42]
abbrev dktX4_room_3 : List UInt8 := dkwX4_room_3 ++ dktX4_room_4
def dkwX4_room_2 : List UInt8 := [182, 0, 178, 42, 180, 0, 25, 29, 42, 3, 182, 0, 202, 80, 132, 3, 1, 167, 255, 227, 3, 62, 9]
abbrev dktX4_room_2 : List UInt8 := dkwX4_room_2 ++ dktX4_room_3
def dkwX4_room_1 : List UInt8 := [184, 0, 42, 154, 0, 6, 16, 254, 172, 3, 62, 29, 42, 180, 0, 9, 4, 46, 162, 0, 25, 42, 29]
abbrev dktX4_room_1 : List UInt8 := dkwX4_room_1 ++ dktX4_room_2
def dkwX4_room_0 : List UInt8 := [27, 3, 4, 42, 180, 0, 9, 4, 46, 120, 4, 100, 184, 0, 42, 153, 0, 13, 28, 3, 16, 99]
abbrev dktX4_room_0 : List UInt8 := dkwX4_room_0 ++ dktX4_room_1
theorem dksX4_room_0 : cX4_room.data.toList.drop 0 = dktX4_room_0 := by decide +kernel
theorem dksX4_room_1 : cX4_room.data.toList.drop 22 = dktX4_room_1 := dk_seg dksX4_room_0 22 rfl rfl
theorem dksX4_room_2 : cX4_room.data.toList.drop 45 = dktX4_room_2 := dk_seg dksX4_room_1 23 rfl rfl
theorem dksX4_room_3 : cX4_room.data.toList.drop 68 = dktX4_room_3 := dk_seg dksX4_room_2 23 rfl rfl
theorem dksX4_room_4 : cX4_room.data.toList.drop 91 = dktX4_room_4 := dk_seg dksX4_room_3 23 rfl rfl
theorem dksX4_room_5 : cX4_room.data.toList.drop 115 = dktX4_room_5 := dk_seg dksX4_room_4 24 rfl rfl
theorem dksX4_room_6 : cX4_room.data.toList.drop 138 = dktX4_room_6 := dk_seg dksX4_room_5 23 rfl rfl
theorem dksX4_room_7 : cX4_room.data.toList.drop 161 = dktX4_room_7 := dk_seg dksX4_room_6 23 rfl rfl
theorem dksX4_room_8 : cX4_room.data.toList.drop 184 = dktX4_room_8 := dk_seg dksX4_room_7 23 rfl rfl
theorem dksX4_room_9 : cX4_room.data.toList.drop 206 = dktX4_room_9 := dk_seg dksX4_room_8 22 rfl rfl
theorem dksX4_room_10 : cX4_room.data.toList.drop 228 = dktX4_room_10 := dk_seg dksX4_room_9 22 rfl rfl
theorem dX4_room_0 : decode cX4_room 0 = .ok (.iload_n 1, 1) := dk_27 (dk_at dksX4_room_0 0 rfl rfl)
theorem dX4_room_1 : decode cX4_room 1 = .ok (.iconst 0, 1) := dk_3 (dk_at dksX4_room_0 1 rfl rfl)
theorem dX4_room_2 : decode cX4_room 2 = .ok (.iconst 1, 1) := dk_4 (dk_at dksX4_room_0 2 rfl rfl)
theorem dX4_room_3 : decode cX4_room 3 = .ok (.aload_n 0, 1) := dk_42 (dk_at dksX4_room_0 3 rfl rfl)
theorem dX4_room_4 : decode cX4_room 4 = .ok (.getfield 9, 3) := dk_180 0 9 (dk_at dksX4_room_0 4 rfl rfl)
theorem dX4_room_7 : decode cX4_room 7 = .ok (.iconst 1, 1) := dk_4 (dk_at dksX4_room_0 7 rfl rfl)
theorem dX4_room_8 : decode cX4_room 8 = .ok (.iaload, 1) := dk_46 (dk_at dksX4_room_0 8 rfl rfl)
theorem dX4_room_9 : decode cX4_room 9 = .ok (.ishl, 1) := dk_120 (dk_at dksX4_room_0 9 rfl rfl)
theorem dX4_room_10 : decode cX4_room 10 = .ok (.iconst 1, 1) := dk_4 (dk_at dksX4_room_0 10 rfl rfl)
theorem dX4_room_11 : decode cX4_room 11 = .ok (.isub, 1) := dk_100 (dk_at dksX4_room_0 11 rfl rfl)
theorem dX4_room_12 : decode cX4_room 12 = .ok (.invokestatic 42, 3) := dk_184 0 42 (dk_at dksX4_room_0 12 rfl rfl)
theorem dX4_room_15 : decode cX4_room 15 = .ok (.ifCond .eq 13, 3) := dk_153 0 13 (dk_at dksX4_room_0 15 rfl rfl)
theorem dX4_room_18 : decode cX4_room 18 = .ok (.iload_n 2, 1) := dk_28 (dk_at dksX4_room_0 18 rfl rfl)
theorem dX4_room_19 : decode cX4_room 19 = .ok (.iconst 0, 1) := dk_3 (dk_at dksX4_room_0 19 rfl rfl)
theorem dX4_room_20 : decode cX4_room 20 = .ok (.bipush 99, 2) := dk_16 99 (dk_at dksX4_room_0 20 rfl rfl)
theorem dX4_room_22 : decode cX4_room 22 = .ok (.invokestatic 42, 3) := dk_184 0 42 (dk_at dksX4_room_1 0 rfl rfl)
theorem dX4_room_25 : decode cX4_room 25 = .ok (.ifCond .ne 6, 3) := dk_154 0 6 (dk_at dksX4_room_1 3 rfl rfl)
theorem dX4_room_28 : decode cX4_room 28 = .ok (.bipush (-2), 2) := dk_16 254 (dk_at dksX4_room_1 6 rfl rfl)
theorem dX4_room_30 : decode cX4_room 30 = .ok (.ireturn, 1) := dk_172 (dk_at dksX4_room_1 8 rfl rfl)
theorem dX4_room_31 : decode cX4_room 31 = .ok (.iconst 0, 1) := dk_3 (dk_at dksX4_room_1 9 rfl rfl)
theorem dX4_room_32 : decode cX4_room 32 = .ok (.istore_n 3, 1) := dk_62 (dk_at dksX4_room_1 10 rfl rfl)
theorem dX4_room_33 : decode cX4_room 33 = .ok (.iload_n 3, 1) := dk_29 (dk_at dksX4_room_1 11 rfl rfl)
theorem dX4_room_34 : decode cX4_room 34 = .ok (.aload_n 0, 1) := dk_42 (dk_at dksX4_room_1 12 rfl rfl)
theorem dX4_room_35 : decode cX4_room 35 = .ok (.getfield 9, 3) := dk_180 0 9 (dk_at dksX4_room_1 13 rfl rfl)
theorem dX4_room_38 : decode cX4_room 38 = .ok (.iconst 1, 1) := dk_4 (dk_at dksX4_room_1 16 rfl rfl)
theorem dX4_room_39 : decode cX4_room 39 = .ok (.iaload, 1) := dk_46 (dk_at dksX4_room_1 17 rfl rfl)
theorem dX4_room_40 : decode cX4_room 40 = .ok (.if_icmp .ge 25, 3) := dk_162 0 25 (dk_at dksX4_room_1 18 rfl rfl)
theorem dX4_room_43 : decode cX4_room 43 = .ok (.aload_n 0, 1) := dk_42 (dk_at dksX4_room_1 21 rfl rfl)
theorem dX4_room_44 : decode cX4_room 44 = .ok (.iload_n 3, 1) := dk_29 (dk_at dksX4_room_1 22 rfl rfl)
theorem dX4_room_45 : decode cX4_room 45 = .ok (.invokevirtual 178, 3) := dk_182 0 178 (dk_at dksX4_room_2 0 rfl rfl)
theorem dX4_room_48 : decode cX4_room 48 = .ok (.aload_n 0, 1) := dk_42 (dk_at dksX4_room_2 3 rfl rfl)
theorem dX4_room_49 : decode cX4_room 49 = .ok (.getfield 25, 3) := dk_180 0 25 (dk_at dksX4_room_2 4 rfl rfl)
theorem dX4_room_52 : decode cX4_room 52 = .ok (.iload_n 3, 1) := dk_29 (dk_at dksX4_room_2 7 rfl rfl)
theorem dX4_room_53 : decode cX4_room 53 = .ok (.aload_n 0, 1) := dk_42 (dk_at dksX4_room_2 8 rfl rfl)
theorem dX4_room_54 : decode cX4_room 54 = .ok (.iconst 0, 1) := dk_3 (dk_at dksX4_room_2 9 rfl rfl)
theorem dX4_room_55 : decode cX4_room 55 = .ok (.invokevirtual 202, 3) := dk_182 0 202 (dk_at dksX4_room_2 10 rfl rfl)
theorem dX4_room_58 : decode cX4_room 58 = .ok (.lastore, 1) := dk_80 (dk_at dksX4_room_2 13 rfl rfl)
theorem dX4_room_59 : decode cX4_room 59 = .ok (.iinc 3 1, 3) := dk_132 3 1 (dk_at dksX4_room_2 14 rfl rfl)
theorem dX4_room_62 : decode cX4_room 62 = .ok (.goto (-29), 3) := dk_167 255 227 (dk_at dksX4_room_2 17 rfl rfl)
theorem dX4_room_65 : decode cX4_room 65 = .ok (.iconst 0, 1) := dk_3 (dk_at dksX4_room_2 20 rfl rfl)
theorem dX4_room_66 : decode cX4_room 66 = .ok (.istore_n 3, 1) := dk_62 (dk_at dksX4_room_2 21 rfl rfl)
theorem dX4_room_67 : decode cX4_room 67 = .ok (.lconst 0, 1) := dk_9 (dk_at dksX4_room_2 22 rfl rfl)
theorem dX4_room_68 : decode cX4_room 68 = .ok (.lstore 4, 2) := dk_55 4 (dk_at dksX4_room_3 0 rfl rfl)
theorem dX4_room_70 : decode cX4_room 70 = .ok (.iconst 1, 1) := dk_4 (dk_at dksX4_room_3 2 rfl rfl)
theorem dX4_room_71 : decode cX4_room 71 = .ok (.istore 6, 2) := dk_54 6 (dk_at dksX4_room_3 3 rfl rfl)
theorem dX4_room_73 : decode cX4_room 73 = .ok (.iload 6, 2) := dk_21 6 (dk_at dksX4_room_3 5 rfl rfl)
theorem dX4_room_75 : decode cX4_room 75 = .ok (.iload_n 1, 1) := dk_27 (dk_at dksX4_room_3 7 rfl rfl)
theorem dX4_room_76 : decode cX4_room 76 = .ok (.if_icmp .gt 155, 3) := dk_163 0 155 (dk_at dksX4_room_3 8 rfl rfl)
theorem dX4_room_79 : decode cX4_room 79 = .ok (.lconst 0, 1) := dk_9 (dk_at dksX4_room_3 11 rfl rfl)
theorem dX4_room_80 : decode cX4_room 80 = .ok (.lstore 7, 2) := dk_55 7 (dk_at dksX4_room_3 12 rfl rfl)
theorem dX4_room_82 : decode cX4_room 82 = .ok (.iconst 0, 1) := dk_3 (dk_at dksX4_room_3 14 rfl rfl)
theorem dX4_room_83 : decode cX4_room 83 = .ok (.istore 9, 2) := dk_54 9 (dk_at dksX4_room_3 15 rfl rfl)
theorem dX4_room_85 : decode cX4_room 85 = .ok (.iconst 0, 1) := dk_3 (dk_at dksX4_room_3 17 rfl rfl)
theorem dX4_room_86 : decode cX4_room 86 = .ok (.istore 10, 2) := dk_54 10 (dk_at dksX4_room_3 18 rfl rfl)
theorem dX4_room_88 : decode cX4_room 88 = .ok (.iload 10, 2) := dk_21 10 (dk_at dksX4_room_3 20 rfl rfl)
theorem dX4_room_90 : decode cX4_room 90 = .ok (.aload_n 0, 1) := dk_42 (dk_at dksX4_room_3 22 rfl rfl)
theorem dX4_room_91 : decode cX4_room 91 = .ok (.getfield 9, 3) := dk_180 0 9 (dk_at dksX4_room_4 0 rfl rfl)
theorem dX4_room_94 : decode cX4_room 94 = .ok (.iconst 1, 1) := dk_4 (dk_at dksX4_room_4 3 rfl rfl)
theorem dX4_room_95 : decode cX4_room 95 = .ok (.iaload, 1) := dk_46 (dk_at dksX4_room_4 4 rfl rfl)
theorem dX4_room_96 : decode cX4_room 96 = .ok (.if_icmp .ge 73, 3) := dk_162 0 73 (dk_at dksX4_room_4 5 rfl rfl)
theorem dX4_room_99 : decode cX4_room 99 = .ok (.iload 6, 2) := dk_21 6 (dk_at dksX4_room_4 8 rfl rfl)
theorem dX4_room_101 : decode cX4_room 101 = .ok (.iload 10, 2) := dk_21 10 (dk_at dksX4_room_4 10 rfl rfl)
theorem dX4_room_103 : decode cX4_room 103 = .ok (.ishr, 1) := dk_122 (dk_at dksX4_room_4 12 rfl rfl)
theorem dX4_room_104 : decode cX4_room 104 = .ok (.iconst 1, 1) := dk_4 (dk_at dksX4_room_4 13 rfl rfl)
theorem dX4_room_105 : decode cX4_room 105 = .ok (.iand, 1) := dk_126 (dk_at dksX4_room_4 14 rfl rfl)
theorem dX4_room_106 : decode cX4_room 106 = .ok (.iconst 1, 1) := dk_4 (dk_at dksX4_room_4 15 rfl rfl)
theorem dX4_room_107 : decode cX4_room 107 = .ok (.if_icmp .ne 7, 3) := dk_160 0 7 (dk_at dksX4_room_4 16 rfl rfl)
theorem dX4_room_110 : decode cX4_room 110 = .ok (.iconst 1, 1) := dk_4 (dk_at dksX4_room_4 19 rfl rfl)
theorem dX4_room_111 : decode cX4_room 111 = .ok (.goto 4, 3) := dk_167 0 4 (dk_at dksX4_room_4 20 rfl rfl)
theorem dX4_room_114 : decode cX4_room 114 = .ok (.iconst 0, 1) := dk_3 (dk_at dksX4_room_4 23 rfl rfl)
theorem dX4_room_115 : decode cX4_room 115 = .ok (.istore 11, 2) := dk_54 11 (dk_at dksX4_room_5 0 rfl rfl)
theorem dX4_room_117 : decode cX4_room 117 = .ok (.lload 7, 2) := dk_22 7 (dk_at dksX4_room_5 2 rfl rfl)
theorem dX4_room_119 : decode cX4_room 119 = .ok (.iload 11, 2) := dk_21 11 (dk_at dksX4_room_5 4 rfl rfl)
theorem dX4_room_121 : decode cX4_room 121 = .ok (.ifCond .eq 13, 3) := dk_153 0 13 (dk_at dksX4_room_5 6 rfl rfl)
theorem dX4_room_124 : decode cX4_room 124 = .ok (.aload_n 0, 1) := dk_42 (dk_at dksX4_room_5 9 rfl rfl)
theorem dX4_room_125 : decode cX4_room 125 = .ok (.getfield 25, 3) := dk_180 0 25 (dk_at dksX4_room_5 10 rfl rfl)
theorem dX4_room_128 : decode cX4_room 128 = .ok (.iload 10, 2) := dk_21 10 (dk_at dksX4_room_5 13 rfl rfl)
theorem dX4_room_130 : decode cX4_room 130 = .ok (.laload, 1) := dk_47 (dk_at dksX4_room_5 15 rfl rfl)
theorem dX4_room_131 : decode cX4_room 131 = .ok (.goto 4, 3) := dk_167 0 4 (dk_at dksX4_room_5 16 rfl rfl)
theorem dX4_room_134 : decode cX4_room 134 = .ok (.lconst 0, 1) := dk_9 (dk_at dksX4_room_5 19 rfl rfl)
theorem dX4_room_135 : decode cX4_room 135 = .ok (.ladd, 1) := dk_97 (dk_at dksX4_room_5 20 rfl rfl)
theorem dX4_room_136 : decode cX4_room 136 = .ok (.lstore 7, 2) := dk_55 7 (dk_at dksX4_room_5 21 rfl rfl)
theorem dX4_room_138 : decode cX4_room 138 = .ok (.iload 9, 2) := dk_21 9 (dk_at dksX4_room_6 0 rfl rfl)
theorem dX4_room_140 : decode cX4_room 140 = .ok (.iload 11, 2) := dk_21 11 (dk_at dksX4_room_6 2 rfl rfl)
theorem dX4_room_142 : decode cX4_room 142 = .ok (.ifCond .eq 17, 3) := dk_153 0 17 (dk_at dksX4_room_6 4 rfl rfl)
theorem dX4_room_145 : decode cX4_room 145 = .ok (.aload_n 0, 1) := dk_42 (dk_at dksX4_room_6 7 rfl rfl)
theorem dX4_room_146 : decode cX4_room 146 = .ok (.getfield 9, 3) := dk_180 0 9 (dk_at dksX4_room_6 8 rfl rfl)
theorem dX4_room_149 : decode cX4_room 149 = .ok (.sipush 926, 3) := dk_17 3 158 (dk_at dksX4_room_6 11 rfl rfl)
theorem dX4_room_152 : decode cX4_room 152 = .ok (.iload 10, 2) := dk_21 10 (dk_at dksX4_room_6 14 rfl rfl)
theorem dX4_room_154 : decode cX4_room 154 = .ok (.iadd, 1) := dk_96 (dk_at dksX4_room_6 16 rfl rfl)
theorem dX4_room_155 : decode cX4_room 155 = .ok (.iaload, 1) := dk_46 (dk_at dksX4_room_6 17 rfl rfl)
theorem dX4_room_156 : decode cX4_room 156 = .ok (.goto 4, 3) := dk_167 0 4 (dk_at dksX4_room_6 18 rfl rfl)
theorem dX4_room_159 : decode cX4_room 159 = .ok (.iconst 0, 1) := dk_3 (dk_at dksX4_room_6 21 rfl rfl)
theorem dX4_room_160 : decode cX4_room 160 = .ok (.iadd, 1) := dk_96 (dk_at dksX4_room_6 22 rfl rfl)
theorem dX4_room_161 : decode cX4_room 161 = .ok (.istore 9, 2) := dk_54 9 (dk_at dksX4_room_7 0 rfl rfl)
theorem dX4_room_163 : decode cX4_room 163 = .ok (.iinc 10 1, 3) := dk_132 10 1 (dk_at dksX4_room_7 2 rfl rfl)
theorem dX4_room_166 : decode cX4_room 166 = .ok (.goto (-78), 3) := dk_167 255 178 (dk_at dksX4_room_7 5 rfl rfl)
theorem dX4_room_169 : decode cX4_room 169 = .ok (.iload 6, 2) := dk_21 6 (dk_at dksX4_room_7 8 rfl rfl)
theorem dX4_room_171 : decode cX4_room 171 = .ok (.iload_n 1, 1) := dk_27 (dk_at dksX4_room_7 10 rfl rfl)
theorem dX4_room_172 : decode cX4_room 172 = .ok (.iconst (-1), 1) := dk_2 (dk_at dksX4_room_7 11 rfl rfl)
theorem dX4_room_173 : decode cX4_room 173 = .ok (.ixor, 1) := dk_130 (dk_at dksX4_room_7 12 rfl rfl)
theorem dX4_room_174 : decode cX4_room 174 = .ok (.iand, 1) := dk_126 (dk_at dksX4_room_7 13 rfl rfl)
theorem dX4_room_175 : decode cX4_room 175 = .ok (.ifCond .ne 21, 3) := dk_154 0 21 (dk_at dksX4_room_7 14 rfl rfl)
theorem dX4_room_178 : decode cX4_room 178 = .ok (.iload 9, 2) := dk_21 9 (dk_at dksX4_room_7 17 rfl rfl)
theorem dX4_room_180 : decode cX4_room 180 = .ok (.iload_n 2, 1) := dk_28 (dk_at dksX4_room_7 19 rfl rfl)
theorem dX4_room_181 : decode cX4_room 181 = .ok (.if_icmp .gt 15, 3) := dk_163 0 15 (dk_at dksX4_room_7 20 rfl rfl)
theorem dX4_room_184 : decode cX4_room 184 = .ok (.lload 7, 2) := dk_22 7 (dk_at dksX4_room_8 0 rfl rfl)
theorem dX4_room_186 : decode cX4_room 186 = .ok (.lload 4, 2) := dk_22 4 (dk_at dksX4_room_8 2 rfl rfl)
theorem dX4_room_188 : decode cX4_room 188 = .ok (.lcmp, 1) := dk_148 (dk_at dksX4_room_8 4 rfl rfl)
theorem dX4_room_189 : decode cX4_room 189 = .ok (.ifCond .le 7, 3) := dk_158 0 7 (dk_at dksX4_room_8 5 rfl rfl)
theorem dX4_room_192 : decode cX4_room 192 = .ok (.iconst 1, 1) := dk_4 (dk_at dksX4_room_8 8 rfl rfl)
theorem dX4_room_193 : decode cX4_room 193 = .ok (.goto 4, 3) := dk_167 0 4 (dk_at dksX4_room_8 9 rfl rfl)
theorem dX4_room_196 : decode cX4_room 196 = .ok (.iconst 0, 1) := dk_3 (dk_at dksX4_room_8 12 rfl rfl)
theorem dX4_room_197 : decode cX4_room 197 = .ok (.istore 10, 2) := dk_54 10 (dk_at dksX4_room_8 13 rfl rfl)
theorem dX4_room_199 : decode cX4_room 199 = .ok (.iload 10, 2) := dk_21 10 (dk_at dksX4_room_8 15 rfl rfl)
theorem dX4_room_201 : decode cX4_room 201 = .ok (.ifCond .eq 8, 3) := dk_153 0 8 (dk_at dksX4_room_8 17 rfl rfl)
theorem dX4_room_204 : decode cX4_room 204 = .ok (.iload 6, 2) := dk_21 6 (dk_at dksX4_room_8 20 rfl rfl)
theorem dX4_room_206 : decode cX4_room 206 = .ok (.goto 4, 3) := dk_167 0 4 (dk_at dksX4_room_9 0 rfl rfl)
theorem dX4_room_209 : decode cX4_room 209 = .ok (.iload_n 3, 1) := dk_29 (dk_at dksX4_room_9 3 rfl rfl)
theorem dX4_room_210 : decode cX4_room 210 = .ok (.istore_n 3, 1) := dk_62 (dk_at dksX4_room_9 4 rfl rfl)
theorem dX4_room_211 : decode cX4_room 211 = .ok (.iload 10, 2) := dk_21 10 (dk_at dksX4_room_9 5 rfl rfl)
theorem dX4_room_213 : decode cX4_room 213 = .ok (.ifCond .eq 8, 3) := dk_153 0 8 (dk_at dksX4_room_9 7 rfl rfl)
theorem dX4_room_216 : decode cX4_room 216 = .ok (.lload 7, 2) := dk_22 7 (dk_at dksX4_room_9 10 rfl rfl)
theorem dX4_room_218 : decode cX4_room 218 = .ok (.goto 5, 3) := dk_167 0 5 (dk_at dksX4_room_9 12 rfl rfl)
theorem dX4_room_221 : decode cX4_room 221 = .ok (.lload 4, 2) := dk_22 4 (dk_at dksX4_room_9 15 rfl rfl)
theorem dX4_room_223 : decode cX4_room 223 = .ok (.lstore 4, 2) := dk_55 4 (dk_at dksX4_room_9 17 rfl rfl)
theorem dX4_room_225 : decode cX4_room 225 = .ok (.iinc 6 1, 3) := dk_132 6 1 (dk_at dksX4_room_9 19 rfl rfl)
theorem dX4_room_228 : decode cX4_room 228 = .ok (.goto (-155), 3) := dk_167 255 101 (dk_at dksX4_room_10 0 rfl rfl)
theorem dX4_room_231 : decode cX4_room 231 = .ok (.iload_n 3, 1) := dk_29 (dk_at dksX4_room_10 3 rfl rfl)
theorem dX4_room_232 : decode cX4_room 232 = .ok (.ireturn, 1) := dk_172 (dk_at dksX4_room_10 4 rfl rfl)
abbrev cX4_lies : ByteArray := prog_21_method_62_code
def yX4_lies : MethodName := ⟨RX4, "lies", "(II)I"⟩
def dkwX4_lies_3 : List UInt8 := [148, 156, 0, 8, 22, 7, 167, 0, 5, 22, 4, 55, 4, 132, 6, 1, 167, 255, 195, 29, 172]
abbrev dktX4_lies_3 : List UInt8 := dkwX4_lies_3 ++ []
def dkwX4_lies_2 : List UInt8 := [22, 7, 22, 4, 148, 156, 0, 8, 21, 6, 167, 0, 4, 29, 62, 21, 6, 153, 0, 11, 22, 7, 22, 4]
abbrev dktX4_lies_2 : List UInt8 := dkwX4_lies_2 ++ dktX4_lies_3
def dkwX4_lies_1 : List UInt8 := [54, 6, 21, 6, 7, 162, 0, 61, 42, 27, 28, 21, 6, 182, 0, 245, 55, 7, 21, 6, 153, 0, 11]
abbrev dktX4_lies_1 : List UInt8 := dkwX4_lies_1 ++ dktX4_lies_2
def dkwX4_lies_0 : List UInt8 := [42, 27, 182, 0, 206, 153, 0, 11, 42, 28, 182, 0, 191, 154, 0, 5, 2, 172, 3, 62, 9, 55, 4, 3]
abbrev dktX4_lies_0 : List UInt8 := dkwX4_lies_0 ++ dktX4_lies_1
theorem dksX4_lies_0 : cX4_lies.data.toList.drop 0 = dktX4_lies_0 := by decide +kernel
theorem dksX4_lies_1 : cX4_lies.data.toList.drop 24 = dktX4_lies_1 := dk_seg dksX4_lies_0 24 rfl rfl
theorem dksX4_lies_2 : cX4_lies.data.toList.drop 47 = dktX4_lies_2 := dk_seg dksX4_lies_1 23 rfl rfl
theorem dksX4_lies_3 : cX4_lies.data.toList.drop 71 = dktX4_lies_3 := dk_seg dksX4_lies_2 24 rfl rfl
theorem dX4_lies_0 : decode cX4_lies 0 = .ok (.aload_n 0, 1) := dk_42 (dk_at dksX4_lies_0 0 rfl rfl)
theorem dX4_lies_1 : decode cX4_lies 1 = .ok (.iload_n 1, 1) := dk_27 (dk_at dksX4_lies_0 1 rfl rfl)
theorem dX4_lies_2 : decode cX4_lies 2 = .ok (.invokevirtual 206, 3) := dk_182 0 206 (dk_at dksX4_lies_0 2 rfl rfl)
theorem dX4_lies_5 : decode cX4_lies 5 = .ok (.ifCond .eq 11, 3) := dk_153 0 11 (dk_at dksX4_lies_0 5 rfl rfl)
theorem dX4_lies_8 : decode cX4_lies 8 = .ok (.aload_n 0, 1) := dk_42 (dk_at dksX4_lies_0 8 rfl rfl)
theorem dX4_lies_9 : decode cX4_lies 9 = .ok (.iload_n 2, 1) := dk_28 (dk_at dksX4_lies_0 9 rfl rfl)
theorem dX4_lies_10 : decode cX4_lies 10 = .ok (.invokevirtual 191, 3) := dk_182 0 191 (dk_at dksX4_lies_0 10 rfl rfl)
theorem dX4_lies_13 : decode cX4_lies 13 = .ok (.ifCond .ne 5, 3) := dk_154 0 5 (dk_at dksX4_lies_0 13 rfl rfl)
theorem dX4_lies_16 : decode cX4_lies 16 = .ok (.iconst (-1), 1) := dk_2 (dk_at dksX4_lies_0 16 rfl rfl)
theorem dX4_lies_17 : decode cX4_lies 17 = .ok (.ireturn, 1) := dk_172 (dk_at dksX4_lies_0 17 rfl rfl)
theorem dX4_lies_18 : decode cX4_lies 18 = .ok (.iconst 0, 1) := dk_3 (dk_at dksX4_lies_0 18 rfl rfl)
theorem dX4_lies_19 : decode cX4_lies 19 = .ok (.istore_n 3, 1) := dk_62 (dk_at dksX4_lies_0 19 rfl rfl)
theorem dX4_lies_20 : decode cX4_lies 20 = .ok (.lconst 0, 1) := dk_9 (dk_at dksX4_lies_0 20 rfl rfl)
theorem dX4_lies_21 : decode cX4_lies 21 = .ok (.lstore 4, 2) := dk_55 4 (dk_at dksX4_lies_0 21 rfl rfl)
theorem dX4_lies_23 : decode cX4_lies 23 = .ok (.iconst 0, 1) := dk_3 (dk_at dksX4_lies_0 23 rfl rfl)
theorem dX4_lies_24 : decode cX4_lies 24 = .ok (.istore 6, 2) := dk_54 6 (dk_at dksX4_lies_1 0 rfl rfl)
theorem dX4_lies_26 : decode cX4_lies 26 = .ok (.iload 6, 2) := dk_21 6 (dk_at dksX4_lies_1 2 rfl rfl)
theorem dX4_lies_28 : decode cX4_lies 28 = .ok (.iconst 4, 1) := dk_7 (dk_at dksX4_lies_1 4 rfl rfl)
theorem dX4_lies_29 : decode cX4_lies 29 = .ok (.if_icmp .ge 61, 3) := dk_162 0 61 (dk_at dksX4_lies_1 5 rfl rfl)
theorem dX4_lies_32 : decode cX4_lies 32 = .ok (.aload_n 0, 1) := dk_42 (dk_at dksX4_lies_1 8 rfl rfl)
theorem dX4_lies_33 : decode cX4_lies 33 = .ok (.iload_n 1, 1) := dk_27 (dk_at dksX4_lies_1 9 rfl rfl)
theorem dX4_lies_34 : decode cX4_lies 34 = .ok (.iload_n 2, 1) := dk_28 (dk_at dksX4_lies_1 10 rfl rfl)
theorem dX4_lies_35 : decode cX4_lies 35 = .ok (.iload 6, 2) := dk_21 6 (dk_at dksX4_lies_1 11 rfl rfl)
theorem dX4_lies_37 : decode cX4_lies 37 = .ok (.invokevirtual 245, 3) := dk_182 0 245 (dk_at dksX4_lies_1 13 rfl rfl)
theorem dX4_lies_40 : decode cX4_lies 40 = .ok (.lstore 7, 2) := dk_55 7 (dk_at dksX4_lies_1 16 rfl rfl)
theorem dX4_lies_42 : decode cX4_lies 42 = .ok (.iload 6, 2) := dk_21 6 (dk_at dksX4_lies_1 18 rfl rfl)
theorem dX4_lies_44 : decode cX4_lies 44 = .ok (.ifCond .eq 11, 3) := dk_153 0 11 (dk_at dksX4_lies_1 20 rfl rfl)
theorem dX4_lies_47 : decode cX4_lies 47 = .ok (.lload 7, 2) := dk_22 7 (dk_at dksX4_lies_2 0 rfl rfl)
theorem dX4_lies_49 : decode cX4_lies 49 = .ok (.lload 4, 2) := dk_22 4 (dk_at dksX4_lies_2 2 rfl rfl)
theorem dX4_lies_51 : decode cX4_lies 51 = .ok (.lcmp, 1) := dk_148 (dk_at dksX4_lies_2 4 rfl rfl)
theorem dX4_lies_52 : decode cX4_lies 52 = .ok (.ifCond .ge 8, 3) := dk_156 0 8 (dk_at dksX4_lies_2 5 rfl rfl)
theorem dX4_lies_55 : decode cX4_lies 55 = .ok (.iload 6, 2) := dk_21 6 (dk_at dksX4_lies_2 8 rfl rfl)
theorem dX4_lies_57 : decode cX4_lies 57 = .ok (.goto 4, 3) := dk_167 0 4 (dk_at dksX4_lies_2 10 rfl rfl)
theorem dX4_lies_60 : decode cX4_lies 60 = .ok (.iload_n 3, 1) := dk_29 (dk_at dksX4_lies_2 13 rfl rfl)
theorem dX4_lies_61 : decode cX4_lies 61 = .ok (.istore_n 3, 1) := dk_62 (dk_at dksX4_lies_2 14 rfl rfl)
theorem dX4_lies_62 : decode cX4_lies 62 = .ok (.iload 6, 2) := dk_21 6 (dk_at dksX4_lies_2 15 rfl rfl)
theorem dX4_lies_64 : decode cX4_lies 64 = .ok (.ifCond .eq 11, 3) := dk_153 0 11 (dk_at dksX4_lies_2 17 rfl rfl)
theorem dX4_lies_67 : decode cX4_lies 67 = .ok (.lload 7, 2) := dk_22 7 (dk_at dksX4_lies_2 20 rfl rfl)
theorem dX4_lies_69 : decode cX4_lies 69 = .ok (.lload 4, 2) := dk_22 4 (dk_at dksX4_lies_2 22 rfl rfl)
theorem dX4_lies_71 : decode cX4_lies 71 = .ok (.lcmp, 1) := dk_148 (dk_at dksX4_lies_3 0 rfl rfl)
theorem dX4_lies_72 : decode cX4_lies 72 = .ok (.ifCond .ge 8, 3) := dk_156 0 8 (dk_at dksX4_lies_3 1 rfl rfl)
theorem dX4_lies_75 : decode cX4_lies 75 = .ok (.lload 7, 2) := dk_22 7 (dk_at dksX4_lies_3 4 rfl rfl)
theorem dX4_lies_77 : decode cX4_lies 77 = .ok (.goto 5, 3) := dk_167 0 5 (dk_at dksX4_lies_3 6 rfl rfl)
theorem dX4_lies_80 : decode cX4_lies 80 = .ok (.lload 4, 2) := dk_22 4 (dk_at dksX4_lies_3 9 rfl rfl)
theorem dX4_lies_82 : decode cX4_lies 82 = .ok (.lstore 4, 2) := dk_55 4 (dk_at dksX4_lies_3 11 rfl rfl)
theorem dX4_lies_84 : decode cX4_lies 84 = .ok (.iinc 6 1, 3) := dk_132 6 1 (dk_at dksX4_lies_3 13 rfl rfl)
theorem dX4_lies_87 : decode cX4_lies 87 = .ok (.goto (-61), 3) := dk_167 255 195 (dk_at dksX4_lies_3 16 rfl rfl)
theorem dX4_lies_90 : decode cX4_lies 90 = .ok (.iload_n 3, 1) := dk_29 (dk_at dksX4_lies_3 19 rfl rfl)
theorem dX4_lies_91 : decode cX4_lies 91 = .ok (.ireturn, 1) := dk_172 (dk_at dksX4_lies_3 20 rfl rfl)
abbrev cX4_meanFromPlace : ByteArray := prog_21_method_61_code
def yX4_meanFromPlace : MethodName := ⟨RX4, "meanFromPlace", "(III)J"⟩
def dkwX4_meanFromPlace_0 : List UInt8 := [42, 28, 182, 0, 178, 42, 29, 181, 0, 175, 42, 3, 29, 3, 182, 0, 181, 42, 27, 182, 0, 239, 173]
abbrev dktX4_meanFromPlace_0 : List UInt8 := dkwX4_meanFromPlace_0 ++ []
theorem dksX4_meanFromPlace_0 : cX4_meanFromPlace.data.toList.drop 0 = dktX4_meanFromPlace_0 := by decide +kernel
theorem dX4_meanFromPlace_0 : decode cX4_meanFromPlace 0 = .ok (.aload_n 0, 1) := dk_42 (dk_at dksX4_meanFromPlace_0 0 rfl rfl)
theorem dX4_meanFromPlace_1 : decode cX4_meanFromPlace 1 = .ok (.iload_n 2, 1) := dk_28 (dk_at dksX4_meanFromPlace_0 1 rfl rfl)
theorem dX4_meanFromPlace_2 : decode cX4_meanFromPlace 2 = .ok (.invokevirtual 178, 3) := dk_182 0 178 (dk_at dksX4_meanFromPlace_0 2 rfl rfl)
theorem dX4_meanFromPlace_5 : decode cX4_meanFromPlace 5 = .ok (.aload_n 0, 1) := dk_42 (dk_at dksX4_meanFromPlace_0 5 rfl rfl)
theorem dX4_meanFromPlace_6 : decode cX4_meanFromPlace 6 = .ok (.iload_n 3, 1) := dk_29 (dk_at dksX4_meanFromPlace_0 6 rfl rfl)
theorem dX4_meanFromPlace_7 : decode cX4_meanFromPlace 7 = .ok (.putfield 175, 3) := dk_181 0 175 (dk_at dksX4_meanFromPlace_0 7 rfl rfl)
theorem dX4_meanFromPlace_10 : decode cX4_meanFromPlace 10 = .ok (.aload_n 0, 1) := dk_42 (dk_at dksX4_meanFromPlace_0 10 rfl rfl)
theorem dX4_meanFromPlace_11 : decode cX4_meanFromPlace 11 = .ok (.iconst 0, 1) := dk_3 (dk_at dksX4_meanFromPlace_0 11 rfl rfl)
theorem dX4_meanFromPlace_12 : decode cX4_meanFromPlace 12 = .ok (.iload_n 3, 1) := dk_29 (dk_at dksX4_meanFromPlace_0 12 rfl rfl)
theorem dX4_meanFromPlace_13 : decode cX4_meanFromPlace 13 = .ok (.iconst 0, 1) := dk_3 (dk_at dksX4_meanFromPlace_0 13 rfl rfl)
theorem dX4_meanFromPlace_14 : decode cX4_meanFromPlace 14 = .ok (.invokevirtual 181, 3) := dk_182 0 181 (dk_at dksX4_meanFromPlace_0 14 rfl rfl)
theorem dX4_meanFromPlace_17 : decode cX4_meanFromPlace 17 = .ok (.aload_n 0, 1) := dk_42 (dk_at dksX4_meanFromPlace_0 17 rfl rfl)
theorem dX4_meanFromPlace_18 : decode cX4_meanFromPlace 18 = .ok (.iload_n 1, 1) := dk_27 (dk_at dksX4_meanFromPlace_0 18 rfl rfl)
theorem dX4_meanFromPlace_19 : decode cX4_meanFromPlace 19 = .ok (.invokevirtual 239, 3) := dk_182 0 239 (dk_at dksX4_meanFromPlace_0 19 rfl rfl)
theorem dX4_meanFromPlace_22 : decode cX4_meanFromPlace 22 = .ok (.lreturn, 1) := dk_173 (dk_at dksX4_meanFromPlace_0 22 rfl rfl)
abbrev cX4_fine : ByteArray := prog_21_method_63_code
def yX4_fine : MethodName := ⟨RX4, "fine", "(II)I"⟩
def dkwX4_fine_4 : List UInt8 := [109, 55, 7, 22, 7, 20, 0, 252, 148, 158, 0, 8, 16, 251, 167, 0, 6, 22, 7, 136, 172]
abbrev dktX4_fine_4 : List UInt8 := dkwX4_fine_4 ++ []
def dkwX4_fine_3 : List UInt8 := [22, 8, 167, 0, 5, 22, 5, 55, 5, 132, 7, 1, 167, 255, 218, 22, 5, 20, 0, 248, 97, 20, 0, 250]
abbrev dktX4_fine_3 : List UInt8 := dkwX4_fine_3 ++ dktX4_fine_4
def dkwX4_fine_2 : List UInt8 := [162, 0, 38, 33, 42, 27, 28, 21, 7, 182, 0, 245, 101, 55, 8, 22, 8, 22, 5, 148, 158, 0, 8]
abbrev dktX4_fine_2 : List UInt8 := dkwX4_fine_2 ++ dktX4_fine_3
def dkwX4_fine_1 : List UInt8 := [180, 0, 9, 17, 3, 134, 28, 96, 46, 182, 0, 245, 66, 9, 55, 5, 3, 54, 7, 21, 7, 7]
abbrev dktX4_fine_1 : List UInt8 := dkwX4_fine_1 ++ dktX4_fine_2
def dkwX4_fine_0 : List UInt8 := [42, 27, 182, 0, 206, 153, 0, 11, 42, 28, 182, 0, 191, 154, 0, 5, 2, 172, 42, 27, 28, 42]
abbrev dktX4_fine_0 : List UInt8 := dkwX4_fine_0 ++ dktX4_fine_1
theorem dksX4_fine_0 : cX4_fine.data.toList.drop 0 = dktX4_fine_0 := by decide +kernel
theorem dksX4_fine_1 : cX4_fine.data.toList.drop 22 = dktX4_fine_1 := dk_seg dksX4_fine_0 22 rfl rfl
theorem dksX4_fine_2 : cX4_fine.data.toList.drop 44 = dktX4_fine_2 := dk_seg dksX4_fine_1 22 rfl rfl
theorem dksX4_fine_3 : cX4_fine.data.toList.drop 67 = dktX4_fine_3 := dk_seg dksX4_fine_2 23 rfl rfl
theorem dksX4_fine_4 : cX4_fine.data.toList.drop 91 = dktX4_fine_4 := dk_seg dksX4_fine_3 24 rfl rfl
theorem dX4_fine_0 : decode cX4_fine 0 = .ok (.aload_n 0, 1) := dk_42 (dk_at dksX4_fine_0 0 rfl rfl)
theorem dX4_fine_1 : decode cX4_fine 1 = .ok (.iload_n 1, 1) := dk_27 (dk_at dksX4_fine_0 1 rfl rfl)
theorem dX4_fine_2 : decode cX4_fine 2 = .ok (.invokevirtual 206, 3) := dk_182 0 206 (dk_at dksX4_fine_0 2 rfl rfl)
theorem dX4_fine_5 : decode cX4_fine 5 = .ok (.ifCond .eq 11, 3) := dk_153 0 11 (dk_at dksX4_fine_0 5 rfl rfl)
theorem dX4_fine_8 : decode cX4_fine 8 = .ok (.aload_n 0, 1) := dk_42 (dk_at dksX4_fine_0 8 rfl rfl)
theorem dX4_fine_9 : decode cX4_fine 9 = .ok (.iload_n 2, 1) := dk_28 (dk_at dksX4_fine_0 9 rfl rfl)
theorem dX4_fine_10 : decode cX4_fine 10 = .ok (.invokevirtual 191, 3) := dk_182 0 191 (dk_at dksX4_fine_0 10 rfl rfl)
theorem dX4_fine_13 : decode cX4_fine 13 = .ok (.ifCond .ne 5, 3) := dk_154 0 5 (dk_at dksX4_fine_0 13 rfl rfl)
theorem dX4_fine_16 : decode cX4_fine 16 = .ok (.iconst (-1), 1) := dk_2 (dk_at dksX4_fine_0 16 rfl rfl)
theorem dX4_fine_17 : decode cX4_fine 17 = .ok (.ireturn, 1) := dk_172 (dk_at dksX4_fine_0 17 rfl rfl)
theorem dX4_fine_18 : decode cX4_fine 18 = .ok (.aload_n 0, 1) := dk_42 (dk_at dksX4_fine_0 18 rfl rfl)
theorem dX4_fine_19 : decode cX4_fine 19 = .ok (.iload_n 1, 1) := dk_27 (dk_at dksX4_fine_0 19 rfl rfl)
theorem dX4_fine_20 : decode cX4_fine 20 = .ok (.iload_n 2, 1) := dk_28 (dk_at dksX4_fine_0 20 rfl rfl)
theorem dX4_fine_21 : decode cX4_fine 21 = .ok (.aload_n 0, 1) := dk_42 (dk_at dksX4_fine_0 21 rfl rfl)
theorem dX4_fine_22 : decode cX4_fine 22 = .ok (.getfield 9, 3) := dk_180 0 9 (dk_at dksX4_fine_1 0 rfl rfl)
theorem dX4_fine_25 : decode cX4_fine 25 = .ok (.sipush 902, 3) := dk_17 3 134 (dk_at dksX4_fine_1 3 rfl rfl)
theorem dX4_fine_28 : decode cX4_fine 28 = .ok (.iload_n 2, 1) := dk_28 (dk_at dksX4_fine_1 6 rfl rfl)
theorem dX4_fine_29 : decode cX4_fine 29 = .ok (.iadd, 1) := dk_96 (dk_at dksX4_fine_1 7 rfl rfl)
theorem dX4_fine_30 : decode cX4_fine 30 = .ok (.iaload, 1) := dk_46 (dk_at dksX4_fine_1 8 rfl rfl)
theorem dX4_fine_31 : decode cX4_fine 31 = .ok (.invokevirtual 245, 3) := dk_182 0 245 (dk_at dksX4_fine_1 9 rfl rfl)
theorem dX4_fine_34 : decode cX4_fine 34 = .ok (.lstore_n 3, 1) := dk_66 (dk_at dksX4_fine_1 12 rfl rfl)
theorem dX4_fine_35 : decode cX4_fine 35 = .ok (.lconst 0, 1) := dk_9 (dk_at dksX4_fine_1 13 rfl rfl)
theorem dX4_fine_36 : decode cX4_fine 36 = .ok (.lstore 5, 2) := dk_55 5 (dk_at dksX4_fine_1 14 rfl rfl)
theorem dX4_fine_38 : decode cX4_fine 38 = .ok (.iconst 0, 1) := dk_3 (dk_at dksX4_fine_1 16 rfl rfl)
theorem dX4_fine_39 : decode cX4_fine 39 = .ok (.istore 7, 2) := dk_54 7 (dk_at dksX4_fine_1 17 rfl rfl)
theorem dX4_fine_41 : decode cX4_fine 41 = .ok (.iload 7, 2) := dk_21 7 (dk_at dksX4_fine_1 19 rfl rfl)
theorem dX4_fine_43 : decode cX4_fine 43 = .ok (.iconst 4, 1) := dk_7 (dk_at dksX4_fine_1 21 rfl rfl)
theorem dX4_fine_44 : decode cX4_fine 44 = .ok (.if_icmp .ge 38, 3) := dk_162 0 38 (dk_at dksX4_fine_2 0 rfl rfl)
theorem dX4_fine_47 : decode cX4_fine 47 = .ok (.lload_n 3, 1) := dk_33 (dk_at dksX4_fine_2 3 rfl rfl)
theorem dX4_fine_48 : decode cX4_fine 48 = .ok (.aload_n 0, 1) := dk_42 (dk_at dksX4_fine_2 4 rfl rfl)
theorem dX4_fine_49 : decode cX4_fine 49 = .ok (.iload_n 1, 1) := dk_27 (dk_at dksX4_fine_2 5 rfl rfl)
theorem dX4_fine_50 : decode cX4_fine 50 = .ok (.iload_n 2, 1) := dk_28 (dk_at dksX4_fine_2 6 rfl rfl)
theorem dX4_fine_51 : decode cX4_fine 51 = .ok (.iload 7, 2) := dk_21 7 (dk_at dksX4_fine_2 7 rfl rfl)
theorem dX4_fine_53 : decode cX4_fine 53 = .ok (.invokevirtual 245, 3) := dk_182 0 245 (dk_at dksX4_fine_2 9 rfl rfl)
theorem dX4_fine_56 : decode cX4_fine 56 = .ok (.lsub, 1) := dk_101 (dk_at dksX4_fine_2 12 rfl rfl)
theorem dX4_fine_57 : decode cX4_fine 57 = .ok (.lstore 8, 2) := dk_55 8 (dk_at dksX4_fine_2 13 rfl rfl)
theorem dX4_fine_59 : decode cX4_fine 59 = .ok (.lload 8, 2) := dk_22 8 (dk_at dksX4_fine_2 15 rfl rfl)
theorem dX4_fine_61 : decode cX4_fine 61 = .ok (.lload 5, 2) := dk_22 5 (dk_at dksX4_fine_2 17 rfl rfl)
theorem dX4_fine_63 : decode cX4_fine 63 = .ok (.lcmp, 1) := dk_148 (dk_at dksX4_fine_2 19 rfl rfl)
theorem dX4_fine_64 : decode cX4_fine 64 = .ok (.ifCond .le 8, 3) := dk_158 0 8 (dk_at dksX4_fine_2 20 rfl rfl)
theorem dX4_fine_67 : decode cX4_fine 67 = .ok (.lload 8, 2) := dk_22 8 (dk_at dksX4_fine_3 0 rfl rfl)
theorem dX4_fine_69 : decode cX4_fine 69 = .ok (.goto 5, 3) := dk_167 0 5 (dk_at dksX4_fine_3 2 rfl rfl)
theorem dX4_fine_72 : decode cX4_fine 72 = .ok (.lload 5, 2) := dk_22 5 (dk_at dksX4_fine_3 5 rfl rfl)
theorem dX4_fine_74 : decode cX4_fine 74 = .ok (.lstore 5, 2) := dk_55 5 (dk_at dksX4_fine_3 7 rfl rfl)
theorem dX4_fine_76 : decode cX4_fine 76 = .ok (.iinc 7 1, 3) := dk_132 7 1 (dk_at dksX4_fine_3 9 rfl rfl)
theorem dX4_fine_79 : decode cX4_fine 79 = .ok (.goto (-38), 3) := dk_167 255 218 (dk_at dksX4_fine_3 12 rfl rfl)
theorem dX4_fine_82 : decode cX4_fine 82 = .ok (.lload 5, 2) := dk_22 5 (dk_at dksX4_fine_3 15 rfl rfl)
theorem dX4_fine_84 : decode cX4_fine 84 = .ok (.ldc2_w 248, 3) := dk_20 0 248 (dk_at dksX4_fine_3 17 rfl rfl)
theorem dX4_fine_87 : decode cX4_fine 87 = .ok (.ladd, 1) := dk_97 (dk_at dksX4_fine_3 20 rfl rfl)
theorem dX4_fine_88 : decode cX4_fine 88 = .ok (.ldc2_w 250, 3) := dk_20 0 250 (dk_at dksX4_fine_3 21 rfl rfl)
theorem dX4_fine_91 : decode cX4_fine 91 = .ok (.ldiv, 1) := dk_109 (dk_at dksX4_fine_4 0 rfl rfl)
theorem dX4_fine_92 : decode cX4_fine 92 = .ok (.lstore 7, 2) := dk_55 7 (dk_at dksX4_fine_4 1 rfl rfl)
theorem dX4_fine_94 : decode cX4_fine 94 = .ok (.lload 7, 2) := dk_22 7 (dk_at dksX4_fine_4 3 rfl rfl)
theorem dX4_fine_96 : decode cX4_fine 96 = .ok (.ldc2_w 252, 3) := dk_20 0 252 (dk_at dksX4_fine_4 5 rfl rfl)
theorem dX4_fine_99 : decode cX4_fine 99 = .ok (.lcmp, 1) := dk_148 (dk_at dksX4_fine_4 8 rfl rfl)
theorem dX4_fine_100 : decode cX4_fine 100 = .ok (.ifCond .le 8, 3) := dk_158 0 8 (dk_at dksX4_fine_4 9 rfl rfl)
theorem dX4_fine_103 : decode cX4_fine 103 = .ok (.bipush (-5), 2) := dk_16 251 (dk_at dksX4_fine_4 12 rfl rfl)
theorem dX4_fine_105 : decode cX4_fine 105 = .ok (.goto 6, 3) := dk_167 0 6 (dk_at dksX4_fine_4 14 rfl rfl)
theorem dX4_fine_108 : decode cX4_fine 108 = .ok (.lload 7, 2) := dk_22 7 (dk_at dksX4_fine_4 17 rfl rfl)
theorem dX4_fine_110 : decode cX4_fine 110 = .ok (.l2i, 1) := dk_136 (dk_at dksX4_fine_4 19 rfl rfl)
theorem dX4_fine_111 : decode cX4_fine 111 = .ok (.ireturn, 1) := dk_172 (dk_at dksX4_fine_4 20 rfl rfl)
abbrev cX4_rest : ByteArray := prog_21_method_67_code
def yX4_rest : MethodName := ⟨RX4, "rest", "(III)I"⟩
def dkwX4_rest_4 : List UInt8 := [167, 255, 226, 132, 4, 1, 167, 255, 210, 16, 251, 172]
abbrev dktX4_rest_4 : List UInt8 := dkwX4_rest_4 ++ []
def dkwX4_rest_3 : List UInt8 := [21, 4, 21, 5, 182, 1, 5, 153, 0, 12, 16, 10, 21, 4, 104, 21, 5, 96, 172, 132, 5, 1]
abbrev dktX4_rest_3 : List UInt8 := dkwX4_rest_3 ++ dktX4_rest_4
def dkwX4_rest_2 : List UInt8 := [182, 1, 1, 3, 54, 4, 21, 4, 16, 10, 162, 0, 45, 3, 54, 5, 21, 5, 16, 10, 162, 0, 29, 42]
abbrev dktX4_rest_2 : List UInt8 := dkwX4_rest_2 ++ dktX4_rest_3
def dkwX4_rest_1 : List UInt8 := [2, 172, 27, 28, 160, 0, 6, 16, 254, 172, 42, 29, 27, 28, 3, 182, 1, 1, 42, 29, 28, 27, 4]
abbrev dktX4_rest_1 : List UInt8 := dkwX4_rest_1 ++ dktX4_rest_2
def dkwX4_rest_0 : List UInt8 := [42, 27, 182, 0, 134, 153, 0, 19, 42, 28, 182, 0, 134, 153, 0, 11, 42, 29, 182, 0, 191, 154, 0, 5]
abbrev dktX4_rest_0 : List UInt8 := dkwX4_rest_0 ++ dktX4_rest_1
theorem dksX4_rest_0 : cX4_rest.data.toList.drop 0 = dktX4_rest_0 := by decide +kernel
theorem dksX4_rest_1 : cX4_rest.data.toList.drop 24 = dktX4_rest_1 := dk_seg dksX4_rest_0 24 rfl rfl
theorem dksX4_rest_2 : cX4_rest.data.toList.drop 47 = dktX4_rest_2 := dk_seg dksX4_rest_1 23 rfl rfl
theorem dksX4_rest_3 : cX4_rest.data.toList.drop 71 = dktX4_rest_3 := dk_seg dksX4_rest_2 24 rfl rfl
theorem dksX4_rest_4 : cX4_rest.data.toList.drop 93 = dktX4_rest_4 := dk_seg dksX4_rest_3 22 rfl rfl
theorem dX4_rest_0 : decode cX4_rest 0 = .ok (.aload_n 0, 1) := dk_42 (dk_at dksX4_rest_0 0 rfl rfl)
theorem dX4_rest_1 : decode cX4_rest 1 = .ok (.iload_n 1, 1) := dk_27 (dk_at dksX4_rest_0 1 rfl rfl)
theorem dX4_rest_2 : decode cX4_rest 2 = .ok (.invokevirtual 134, 3) := dk_182 0 134 (dk_at dksX4_rest_0 2 rfl rfl)
theorem dX4_rest_5 : decode cX4_rest 5 = .ok (.ifCond .eq 19, 3) := dk_153 0 19 (dk_at dksX4_rest_0 5 rfl rfl)
theorem dX4_rest_8 : decode cX4_rest 8 = .ok (.aload_n 0, 1) := dk_42 (dk_at dksX4_rest_0 8 rfl rfl)
theorem dX4_rest_9 : decode cX4_rest 9 = .ok (.iload_n 2, 1) := dk_28 (dk_at dksX4_rest_0 9 rfl rfl)
theorem dX4_rest_10 : decode cX4_rest 10 = .ok (.invokevirtual 134, 3) := dk_182 0 134 (dk_at dksX4_rest_0 10 rfl rfl)
theorem dX4_rest_13 : decode cX4_rest 13 = .ok (.ifCond .eq 11, 3) := dk_153 0 11 (dk_at dksX4_rest_0 13 rfl rfl)
theorem dX4_rest_16 : decode cX4_rest 16 = .ok (.aload_n 0, 1) := dk_42 (dk_at dksX4_rest_0 16 rfl rfl)
theorem dX4_rest_17 : decode cX4_rest 17 = .ok (.iload_n 3, 1) := dk_29 (dk_at dksX4_rest_0 17 rfl rfl)
theorem dX4_rest_18 : decode cX4_rest 18 = .ok (.invokevirtual 191, 3) := dk_182 0 191 (dk_at dksX4_rest_0 18 rfl rfl)
theorem dX4_rest_21 : decode cX4_rest 21 = .ok (.ifCond .ne 5, 3) := dk_154 0 5 (dk_at dksX4_rest_0 21 rfl rfl)
theorem dX4_rest_24 : decode cX4_rest 24 = .ok (.iconst (-1), 1) := dk_2 (dk_at dksX4_rest_1 0 rfl rfl)
theorem dX4_rest_25 : decode cX4_rest 25 = .ok (.ireturn, 1) := dk_172 (dk_at dksX4_rest_1 1 rfl rfl)
theorem dX4_rest_26 : decode cX4_rest 26 = .ok (.iload_n 1, 1) := dk_27 (dk_at dksX4_rest_1 2 rfl rfl)
theorem dX4_rest_27 : decode cX4_rest 27 = .ok (.iload_n 2, 1) := dk_28 (dk_at dksX4_rest_1 3 rfl rfl)
theorem dX4_rest_28 : decode cX4_rest 28 = .ok (.if_icmp .ne 6, 3) := dk_160 0 6 (dk_at dksX4_rest_1 4 rfl rfl)
theorem dX4_rest_31 : decode cX4_rest 31 = .ok (.bipush (-2), 2) := dk_16 254 (dk_at dksX4_rest_1 7 rfl rfl)
theorem dX4_rest_33 : decode cX4_rest 33 = .ok (.ireturn, 1) := dk_172 (dk_at dksX4_rest_1 9 rfl rfl)
theorem dX4_rest_34 : decode cX4_rest 34 = .ok (.aload_n 0, 1) := dk_42 (dk_at dksX4_rest_1 10 rfl rfl)
theorem dX4_rest_35 : decode cX4_rest 35 = .ok (.iload_n 3, 1) := dk_29 (dk_at dksX4_rest_1 11 rfl rfl)
theorem dX4_rest_36 : decode cX4_rest 36 = .ok (.iload_n 1, 1) := dk_27 (dk_at dksX4_rest_1 12 rfl rfl)
theorem dX4_rest_37 : decode cX4_rest 37 = .ok (.iload_n 2, 1) := dk_28 (dk_at dksX4_rest_1 13 rfl rfl)
theorem dX4_rest_38 : decode cX4_rest 38 = .ok (.iconst 0, 1) := dk_3 (dk_at dksX4_rest_1 14 rfl rfl)
theorem dX4_rest_39 : decode cX4_rest 39 = .ok (.invokevirtual 257, 3) := dk_182 1 1 (dk_at dksX4_rest_1 15 rfl rfl)
theorem dX4_rest_42 : decode cX4_rest 42 = .ok (.aload_n 0, 1) := dk_42 (dk_at dksX4_rest_1 18 rfl rfl)
theorem dX4_rest_43 : decode cX4_rest 43 = .ok (.iload_n 3, 1) := dk_29 (dk_at dksX4_rest_1 19 rfl rfl)
theorem dX4_rest_44 : decode cX4_rest 44 = .ok (.iload_n 2, 1) := dk_28 (dk_at dksX4_rest_1 20 rfl rfl)
theorem dX4_rest_45 : decode cX4_rest 45 = .ok (.iload_n 1, 1) := dk_27 (dk_at dksX4_rest_1 21 rfl rfl)
theorem dX4_rest_46 : decode cX4_rest 46 = .ok (.iconst 1, 1) := dk_4 (dk_at dksX4_rest_1 22 rfl rfl)
theorem dX4_rest_47 : decode cX4_rest 47 = .ok (.invokevirtual 257, 3) := dk_182 1 1 (dk_at dksX4_rest_2 0 rfl rfl)
theorem dX4_rest_50 : decode cX4_rest 50 = .ok (.iconst 0, 1) := dk_3 (dk_at dksX4_rest_2 3 rfl rfl)
theorem dX4_rest_51 : decode cX4_rest 51 = .ok (.istore 4, 2) := dk_54 4 (dk_at dksX4_rest_2 4 rfl rfl)
theorem dX4_rest_53 : decode cX4_rest 53 = .ok (.iload 4, 2) := dk_21 4 (dk_at dksX4_rest_2 6 rfl rfl)
theorem dX4_rest_55 : decode cX4_rest 55 = .ok (.bipush 10, 2) := dk_16 10 (dk_at dksX4_rest_2 8 rfl rfl)
theorem dX4_rest_57 : decode cX4_rest 57 = .ok (.if_icmp .ge 45, 3) := dk_162 0 45 (dk_at dksX4_rest_2 10 rfl rfl)
theorem dX4_rest_60 : decode cX4_rest 60 = .ok (.iconst 0, 1) := dk_3 (dk_at dksX4_rest_2 13 rfl rfl)
theorem dX4_rest_61 : decode cX4_rest 61 = .ok (.istore 5, 2) := dk_54 5 (dk_at dksX4_rest_2 14 rfl rfl)
theorem dX4_rest_63 : decode cX4_rest 63 = .ok (.iload 5, 2) := dk_21 5 (dk_at dksX4_rest_2 16 rfl rfl)
theorem dX4_rest_65 : decode cX4_rest 65 = .ok (.bipush 10, 2) := dk_16 10 (dk_at dksX4_rest_2 18 rfl rfl)
theorem dX4_rest_67 : decode cX4_rest 67 = .ok (.if_icmp .ge 29, 3) := dk_162 0 29 (dk_at dksX4_rest_2 20 rfl rfl)
theorem dX4_rest_70 : decode cX4_rest 70 = .ok (.aload_n 0, 1) := dk_42 (dk_at dksX4_rest_2 23 rfl rfl)
theorem dX4_rest_71 : decode cX4_rest 71 = .ok (.iload 4, 2) := dk_21 4 (dk_at dksX4_rest_3 0 rfl rfl)
theorem dX4_rest_73 : decode cX4_rest 73 = .ok (.iload 5, 2) := dk_21 5 (dk_at dksX4_rest_3 2 rfl rfl)
theorem dX4_rest_75 : decode cX4_rest 75 = .ok (.invokevirtual 261, 3) := dk_182 1 5 (dk_at dksX4_rest_3 4 rfl rfl)
theorem dX4_rest_78 : decode cX4_rest 78 = .ok (.ifCond .eq 12, 3) := dk_153 0 12 (dk_at dksX4_rest_3 7 rfl rfl)
theorem dX4_rest_81 : decode cX4_rest 81 = .ok (.bipush 10, 2) := dk_16 10 (dk_at dksX4_rest_3 10 rfl rfl)
theorem dX4_rest_83 : decode cX4_rest 83 = .ok (.iload 4, 2) := dk_21 4 (dk_at dksX4_rest_3 12 rfl rfl)
theorem dX4_rest_85 : decode cX4_rest 85 = .ok (.imul, 1) := dk_104 (dk_at dksX4_rest_3 14 rfl rfl)
theorem dX4_rest_86 : decode cX4_rest 86 = .ok (.iload 5, 2) := dk_21 5 (dk_at dksX4_rest_3 15 rfl rfl)
theorem dX4_rest_88 : decode cX4_rest 88 = .ok (.iadd, 1) := dk_96 (dk_at dksX4_rest_3 17 rfl rfl)
theorem dX4_rest_89 : decode cX4_rest 89 = .ok (.ireturn, 1) := dk_172 (dk_at dksX4_rest_3 18 rfl rfl)
theorem dX4_rest_90 : decode cX4_rest 90 = .ok (.iinc 5 1, 3) := dk_132 5 1 (dk_at dksX4_rest_3 19 rfl rfl)
theorem dX4_rest_93 : decode cX4_rest 93 = .ok (.goto (-30), 3) := dk_167 255 226 (dk_at dksX4_rest_4 0 rfl rfl)
theorem dX4_rest_96 : decode cX4_rest 96 = .ok (.iinc 4 1, 3) := dk_132 4 1 (dk_at dksX4_rest_4 3 rfl rfl)
theorem dX4_rest_99 : decode cX4_rest 99 = .ok (.goto (-46), 3) := dk_167 255 210 (dk_at dksX4_rest_4 6 rfl rfl)
theorem dX4_rest_102 : decode cX4_rest 102 = .ok (.bipush (-5), 2) := dk_16 251 (dk_at dksX4_rest_4 9 rfl rfl)
theorem dX4_rest_104 : decode cX4_rest 104 = .ok (.ireturn, 1) := dk_172 (dk_at dksX4_rest_4 11 rfl rfl)
abbrev cX4_sides : ByteArray := prog_21_method_64_code
def yX4_sides : MethodName := ⟨RX4, "sides", "(IIII)V"⟩
def dkwX4_sides_5 : List UInt8 := [167, 255, 144, 177]
abbrev dktX4_sides_5 : List UInt8 := dkwX4_sides_5 ++ []
def dkwX4_sides_4 : List UInt8 := [180, 0, 32, 16, 10, 21, 4, 104, 21, 5, 96, 42, 3, 182, 0, 202, 20, 0, 171, 109, 80, 132, 5, 1]
abbrev dktX4_sides_4 : List UInt8 := dkwX4_sides_4 ++ dktX4_sides_5
def dkwX4_sides_3 : List UInt8 := [162, 0, 16, 42, 3, 182, 0, 194, 54, 7, 132, 6, 1, 167, 255, 239, 42, 29, 181, 0, 142, 42]
abbrev dktX4_sides_3 : List UInt8 := dkwX4_sides_3 ++ dktX4_sides_4
def dkwX4_sides_2 : List UInt8 := [3, 182, 0, 235, 80, 42, 3, 42, 180, 0, 175, 3, 182, 0, 181, 3, 54, 6, 21, 6, 21, 5]
abbrev dktX4_sides_2 : List UInt8 := dkwX4_sides_2 ++ dktX4_sides_3
def dkwX4_sides_1 : List UInt8 := [180, 0, 175, 3, 182, 0, 181, 42, 180, 0, 29, 16, 10, 21, 4, 104, 21, 5, 96, 42, 4, 21, 5, 2]
abbrev dktX4_sides_1 : List UInt8 := dkwX4_sides_1 ++ dktX4_sides_2
def dkwX4_sides_0 : List UInt8 := [3, 54, 5, 21, 5, 16, 10, 162, 0, 111, 42, 27, 182, 0, 178, 42, 28, 181, 0, 142, 42, 3, 42]
abbrev dktX4_sides_0 : List UInt8 := dkwX4_sides_0 ++ dktX4_sides_1
theorem dksX4_sides_0 : cX4_sides.data.toList.drop 0 = dktX4_sides_0 := by decide +kernel
theorem dksX4_sides_1 : cX4_sides.data.toList.drop 23 = dktX4_sides_1 := dk_seg dksX4_sides_0 23 rfl rfl
theorem dksX4_sides_2 : cX4_sides.data.toList.drop 47 = dktX4_sides_2 := dk_seg dksX4_sides_1 24 rfl rfl
theorem dksX4_sides_3 : cX4_sides.data.toList.drop 69 = dktX4_sides_3 := dk_seg dksX4_sides_2 22 rfl rfl
theorem dksX4_sides_4 : cX4_sides.data.toList.drop 91 = dktX4_sides_4 := dk_seg dksX4_sides_3 22 rfl rfl
theorem dksX4_sides_5 : cX4_sides.data.toList.drop 115 = dktX4_sides_5 := dk_seg dksX4_sides_4 24 rfl rfl
theorem dX4_sides_0 : decode cX4_sides 0 = .ok (.iconst 0, 1) := dk_3 (dk_at dksX4_sides_0 0 rfl rfl)
theorem dX4_sides_1 : decode cX4_sides 1 = .ok (.istore 5, 2) := dk_54 5 (dk_at dksX4_sides_0 1 rfl rfl)
theorem dX4_sides_3 : decode cX4_sides 3 = .ok (.iload 5, 2) := dk_21 5 (dk_at dksX4_sides_0 3 rfl rfl)
theorem dX4_sides_5 : decode cX4_sides 5 = .ok (.bipush 10, 2) := dk_16 10 (dk_at dksX4_sides_0 5 rfl rfl)
theorem dX4_sides_7 : decode cX4_sides 7 = .ok (.if_icmp .ge 111, 3) := dk_162 0 111 (dk_at dksX4_sides_0 7 rfl rfl)
theorem dX4_sides_10 : decode cX4_sides 10 = .ok (.aload_n 0, 1) := dk_42 (dk_at dksX4_sides_0 10 rfl rfl)
theorem dX4_sides_11 : decode cX4_sides 11 = .ok (.iload_n 1, 1) := dk_27 (dk_at dksX4_sides_0 11 rfl rfl)
theorem dX4_sides_12 : decode cX4_sides 12 = .ok (.invokevirtual 178, 3) := dk_182 0 178 (dk_at dksX4_sides_0 12 rfl rfl)
theorem dX4_sides_15 : decode cX4_sides 15 = .ok (.aload_n 0, 1) := dk_42 (dk_at dksX4_sides_0 15 rfl rfl)
theorem dX4_sides_16 : decode cX4_sides 16 = .ok (.iload_n 2, 1) := dk_28 (dk_at dksX4_sides_0 16 rfl rfl)
theorem dX4_sides_17 : decode cX4_sides 17 = .ok (.putfield 142, 3) := dk_181 0 142 (dk_at dksX4_sides_0 17 rfl rfl)
theorem dX4_sides_20 : decode cX4_sides 20 = .ok (.aload_n 0, 1) := dk_42 (dk_at dksX4_sides_0 20 rfl rfl)
theorem dX4_sides_21 : decode cX4_sides 21 = .ok (.iconst 0, 1) := dk_3 (dk_at dksX4_sides_0 21 rfl rfl)
theorem dX4_sides_22 : decode cX4_sides 22 = .ok (.aload_n 0, 1) := dk_42 (dk_at dksX4_sides_0 22 rfl rfl)
theorem dX4_sides_23 : decode cX4_sides 23 = .ok (.getfield 175, 3) := dk_180 0 175 (dk_at dksX4_sides_1 0 rfl rfl)
theorem dX4_sides_26 : decode cX4_sides 26 = .ok (.iconst 0, 1) := dk_3 (dk_at dksX4_sides_1 3 rfl rfl)
theorem dX4_sides_27 : decode cX4_sides 27 = .ok (.invokevirtual 181, 3) := dk_182 0 181 (dk_at dksX4_sides_1 4 rfl rfl)
theorem dX4_sides_30 : decode cX4_sides 30 = .ok (.aload_n 0, 1) := dk_42 (dk_at dksX4_sides_1 7 rfl rfl)
theorem dX4_sides_31 : decode cX4_sides 31 = .ok (.getfield 29, 3) := dk_180 0 29 (dk_at dksX4_sides_1 8 rfl rfl)
theorem dX4_sides_34 : decode cX4_sides 34 = .ok (.bipush 10, 2) := dk_16 10 (dk_at dksX4_sides_1 11 rfl rfl)
theorem dX4_sides_36 : decode cX4_sides 36 = .ok (.iload 4, 2) := dk_21 4 (dk_at dksX4_sides_1 13 rfl rfl)
theorem dX4_sides_38 : decode cX4_sides 38 = .ok (.imul, 1) := dk_104 (dk_at dksX4_sides_1 15 rfl rfl)
theorem dX4_sides_39 : decode cX4_sides 39 = .ok (.iload 5, 2) := dk_21 5 (dk_at dksX4_sides_1 16 rfl rfl)
theorem dX4_sides_41 : decode cX4_sides 41 = .ok (.iadd, 1) := dk_96 (dk_at dksX4_sides_1 18 rfl rfl)
theorem dX4_sides_42 : decode cX4_sides 42 = .ok (.aload_n 0, 1) := dk_42 (dk_at dksX4_sides_1 19 rfl rfl)
theorem dX4_sides_43 : decode cX4_sides 43 = .ok (.iconst 1, 1) := dk_4 (dk_at dksX4_sides_1 20 rfl rfl)
theorem dX4_sides_44 : decode cX4_sides 44 = .ok (.iload 5, 2) := dk_21 5 (dk_at dksX4_sides_1 21 rfl rfl)
theorem dX4_sides_46 : decode cX4_sides 46 = .ok (.iconst (-1), 1) := dk_2 (dk_at dksX4_sides_1 23 rfl rfl)
theorem dX4_sides_47 : decode cX4_sides 47 = .ok (.iconst 0, 1) := dk_3 (dk_at dksX4_sides_2 0 rfl rfl)
theorem dX4_sides_48 : decode cX4_sides 48 = .ok (.invokevirtual 235, 3) := dk_182 0 235 (dk_at dksX4_sides_2 1 rfl rfl)
theorem dX4_sides_51 : decode cX4_sides 51 = .ok (.lastore, 1) := dk_80 (dk_at dksX4_sides_2 4 rfl rfl)
theorem dX4_sides_52 : decode cX4_sides 52 = .ok (.aload_n 0, 1) := dk_42 (dk_at dksX4_sides_2 5 rfl rfl)
theorem dX4_sides_53 : decode cX4_sides 53 = .ok (.iconst 0, 1) := dk_3 (dk_at dksX4_sides_2 6 rfl rfl)
theorem dX4_sides_54 : decode cX4_sides 54 = .ok (.aload_n 0, 1) := dk_42 (dk_at dksX4_sides_2 7 rfl rfl)
theorem dX4_sides_55 : decode cX4_sides 55 = .ok (.getfield 175, 3) := dk_180 0 175 (dk_at dksX4_sides_2 8 rfl rfl)
theorem dX4_sides_58 : decode cX4_sides 58 = .ok (.iconst 0, 1) := dk_3 (dk_at dksX4_sides_2 11 rfl rfl)
theorem dX4_sides_59 : decode cX4_sides 59 = .ok (.invokevirtual 181, 3) := dk_182 0 181 (dk_at dksX4_sides_2 12 rfl rfl)
theorem dX4_sides_62 : decode cX4_sides 62 = .ok (.iconst 0, 1) := dk_3 (dk_at dksX4_sides_2 15 rfl rfl)
theorem dX4_sides_63 : decode cX4_sides 63 = .ok (.istore 6, 2) := dk_54 6 (dk_at dksX4_sides_2 16 rfl rfl)
theorem dX4_sides_65 : decode cX4_sides 65 = .ok (.iload 6, 2) := dk_21 6 (dk_at dksX4_sides_2 18 rfl rfl)
theorem dX4_sides_67 : decode cX4_sides 67 = .ok (.iload 5, 2) := dk_21 5 (dk_at dksX4_sides_2 20 rfl rfl)
theorem dX4_sides_69 : decode cX4_sides 69 = .ok (.if_icmp .ge 16, 3) := dk_162 0 16 (dk_at dksX4_sides_3 0 rfl rfl)
theorem dX4_sides_72 : decode cX4_sides 72 = .ok (.aload_n 0, 1) := dk_42 (dk_at dksX4_sides_3 3 rfl rfl)
theorem dX4_sides_73 : decode cX4_sides 73 = .ok (.iconst 0, 1) := dk_3 (dk_at dksX4_sides_3 4 rfl rfl)
theorem dX4_sides_74 : decode cX4_sides 74 = .ok (.invokevirtual 194, 3) := dk_182 0 194 (dk_at dksX4_sides_3 5 rfl rfl)
theorem dX4_sides_77 : decode cX4_sides 77 = .ok (.istore 7, 2) := dk_54 7 (dk_at dksX4_sides_3 8 rfl rfl)
theorem dX4_sides_79 : decode cX4_sides 79 = .ok (.iinc 6 1, 3) := dk_132 6 1 (dk_at dksX4_sides_3 10 rfl rfl)
theorem dX4_sides_82 : decode cX4_sides 82 = .ok (.goto (-17), 3) := dk_167 255 239 (dk_at dksX4_sides_3 13 rfl rfl)
theorem dX4_sides_85 : decode cX4_sides 85 = .ok (.aload_n 0, 1) := dk_42 (dk_at dksX4_sides_3 16 rfl rfl)
theorem dX4_sides_86 : decode cX4_sides 86 = .ok (.iload_n 3, 1) := dk_29 (dk_at dksX4_sides_3 17 rfl rfl)
theorem dX4_sides_87 : decode cX4_sides 87 = .ok (.putfield 142, 3) := dk_181 0 142 (dk_at dksX4_sides_3 18 rfl rfl)
theorem dX4_sides_90 : decode cX4_sides 90 = .ok (.aload_n 0, 1) := dk_42 (dk_at dksX4_sides_3 21 rfl rfl)
theorem dX4_sides_91 : decode cX4_sides 91 = .ok (.getfield 32, 3) := dk_180 0 32 (dk_at dksX4_sides_4 0 rfl rfl)
theorem dX4_sides_94 : decode cX4_sides 94 = .ok (.bipush 10, 2) := dk_16 10 (dk_at dksX4_sides_4 3 rfl rfl)
theorem dX4_sides_96 : decode cX4_sides 96 = .ok (.iload 4, 2) := dk_21 4 (dk_at dksX4_sides_4 5 rfl rfl)
theorem dX4_sides_98 : decode cX4_sides 98 = .ok (.imul, 1) := dk_104 (dk_at dksX4_sides_4 7 rfl rfl)
theorem dX4_sides_99 : decode cX4_sides 99 = .ok (.iload 5, 2) := dk_21 5 (dk_at dksX4_sides_4 8 rfl rfl)
theorem dX4_sides_101 : decode cX4_sides 101 = .ok (.iadd, 1) := dk_96 (dk_at dksX4_sides_4 10 rfl rfl)
theorem dX4_sides_102 : decode cX4_sides 102 = .ok (.aload_n 0, 1) := dk_42 (dk_at dksX4_sides_4 11 rfl rfl)
theorem dX4_sides_103 : decode cX4_sides 103 = .ok (.iconst 0, 1) := dk_3 (dk_at dksX4_sides_4 12 rfl rfl)
theorem dX4_sides_104 : decode cX4_sides 104 = .ok (.invokevirtual 202, 3) := dk_182 0 202 (dk_at dksX4_sides_4 13 rfl rfl)
theorem dX4_sides_107 : decode cX4_sides 107 = .ok (.ldc2_w 171, 3) := dk_20 0 171 (dk_at dksX4_sides_4 16 rfl rfl)
theorem dX4_sides_110 : decode cX4_sides 110 = .ok (.ldiv, 1) := dk_109 (dk_at dksX4_sides_4 19 rfl rfl)
theorem dX4_sides_111 : decode cX4_sides 111 = .ok (.lastore, 1) := dk_80 (dk_at dksX4_sides_4 20 rfl rfl)
theorem dX4_sides_112 : decode cX4_sides 112 = .ok (.iinc 5 1, 3) := dk_132 5 1 (dk_at dksX4_sides_4 21 rfl rfl)
theorem dX4_sides_115 : decode cX4_sides 115 = .ok (.goto (-112), 3) := dk_167 255 144 (dk_at dksX4_sides_5 0 rfl rfl)
theorem dX4_sides_118 : decode cX4_sides 118 = .ok (.return_, 1) := dk_177 (dk_at dksX4_sides_5 3 rfl rfl)
abbrev cX4_isRest : ByteArray := prog_21_method_66_code
def yX4_isRest : MethodName := ⟨RX4, "isRest", "(II)Z"⟩
def dkwX4_isRest_2 : List UInt8 := [182, 0, 254, 148, 155, 0, 7, 4, 167, 0, 4, 3, 62, 132, 4, 1, 167, 255, 198, 29, 172]
abbrev dktX4_isRest_2 : List UInt8 := dkwX4_isRest_2 ++ []
def dkwX4_isRest_1 : List UInt8 := [42, 3, 27, 28, 182, 0, 254, 148, 155, 0, 26, 42, 4, 27, 21, 4, 182, 0, 254, 42, 4, 27, 28]
abbrev dktX4_isRest_1 : List UInt8 := dkwX4_isRest_1 ++ dktX4_isRest_2
def dkwX4_isRest_0 : List UInt8 := [4, 62, 3, 54, 4, 21, 4, 16, 10, 162, 0, 57, 29, 153, 0, 45, 42, 3, 21, 4, 28, 182, 0, 254]
abbrev dktX4_isRest_0 : List UInt8 := dkwX4_isRest_0 ++ dktX4_isRest_1
theorem dksX4_isRest_0 : cX4_isRest.data.toList.drop 0 = dktX4_isRest_0 := by decide +kernel
theorem dksX4_isRest_1 : cX4_isRest.data.toList.drop 24 = dktX4_isRest_1 := dk_seg dksX4_isRest_0 24 rfl rfl
theorem dksX4_isRest_2 : cX4_isRest.data.toList.drop 47 = dktX4_isRest_2 := dk_seg dksX4_isRest_1 23 rfl rfl
theorem dX4_isRest_0 : decode cX4_isRest 0 = .ok (.iconst 1, 1) := dk_4 (dk_at dksX4_isRest_0 0 rfl rfl)
theorem dX4_isRest_1 : decode cX4_isRest 1 = .ok (.istore_n 3, 1) := dk_62 (dk_at dksX4_isRest_0 1 rfl rfl)
theorem dX4_isRest_2 : decode cX4_isRest 2 = .ok (.iconst 0, 1) := dk_3 (dk_at dksX4_isRest_0 2 rfl rfl)
theorem dX4_isRest_3 : decode cX4_isRest 3 = .ok (.istore 4, 2) := dk_54 4 (dk_at dksX4_isRest_0 3 rfl rfl)
theorem dX4_isRest_5 : decode cX4_isRest 5 = .ok (.iload 4, 2) := dk_21 4 (dk_at dksX4_isRest_0 5 rfl rfl)
theorem dX4_isRest_7 : decode cX4_isRest 7 = .ok (.bipush 10, 2) := dk_16 10 (dk_at dksX4_isRest_0 7 rfl rfl)
theorem dX4_isRest_9 : decode cX4_isRest 9 = .ok (.if_icmp .ge 57, 3) := dk_162 0 57 (dk_at dksX4_isRest_0 9 rfl rfl)
theorem dX4_isRest_12 : decode cX4_isRest 12 = .ok (.iload_n 3, 1) := dk_29 (dk_at dksX4_isRest_0 12 rfl rfl)
theorem dX4_isRest_13 : decode cX4_isRest 13 = .ok (.ifCond .eq 45, 3) := dk_153 0 45 (dk_at dksX4_isRest_0 13 rfl rfl)
theorem dX4_isRest_16 : decode cX4_isRest 16 = .ok (.aload_n 0, 1) := dk_42 (dk_at dksX4_isRest_0 16 rfl rfl)
theorem dX4_isRest_17 : decode cX4_isRest 17 = .ok (.iconst 0, 1) := dk_3 (dk_at dksX4_isRest_0 17 rfl rfl)
theorem dX4_isRest_18 : decode cX4_isRest 18 = .ok (.iload 4, 2) := dk_21 4 (dk_at dksX4_isRest_0 18 rfl rfl)
theorem dX4_isRest_20 : decode cX4_isRest 20 = .ok (.iload_n 2, 1) := dk_28 (dk_at dksX4_isRest_0 20 rfl rfl)
theorem dX4_isRest_21 : decode cX4_isRest 21 = .ok (.invokevirtual 254, 3) := dk_182 0 254 (dk_at dksX4_isRest_0 21 rfl rfl)
theorem dX4_isRest_24 : decode cX4_isRest 24 = .ok (.aload_n 0, 1) := dk_42 (dk_at dksX4_isRest_1 0 rfl rfl)
theorem dX4_isRest_25 : decode cX4_isRest 25 = .ok (.iconst 0, 1) := dk_3 (dk_at dksX4_isRest_1 1 rfl rfl)
theorem dX4_isRest_26 : decode cX4_isRest 26 = .ok (.iload_n 1, 1) := dk_27 (dk_at dksX4_isRest_1 2 rfl rfl)
theorem dX4_isRest_27 : decode cX4_isRest 27 = .ok (.iload_n 2, 1) := dk_28 (dk_at dksX4_isRest_1 3 rfl rfl)
theorem dX4_isRest_28 : decode cX4_isRest 28 = .ok (.invokevirtual 254, 3) := dk_182 0 254 (dk_at dksX4_isRest_1 4 rfl rfl)
theorem dX4_isRest_31 : decode cX4_isRest 31 = .ok (.lcmp, 1) := dk_148 (dk_at dksX4_isRest_1 7 rfl rfl)
theorem dX4_isRest_32 : decode cX4_isRest 32 = .ok (.ifCond .lt 26, 3) := dk_155 0 26 (dk_at dksX4_isRest_1 8 rfl rfl)
theorem dX4_isRest_35 : decode cX4_isRest 35 = .ok (.aload_n 0, 1) := dk_42 (dk_at dksX4_isRest_1 11 rfl rfl)
theorem dX4_isRest_36 : decode cX4_isRest 36 = .ok (.iconst 1, 1) := dk_4 (dk_at dksX4_isRest_1 12 rfl rfl)
theorem dX4_isRest_37 : decode cX4_isRest 37 = .ok (.iload_n 1, 1) := dk_27 (dk_at dksX4_isRest_1 13 rfl rfl)
theorem dX4_isRest_38 : decode cX4_isRest 38 = .ok (.iload 4, 2) := dk_21 4 (dk_at dksX4_isRest_1 14 rfl rfl)
theorem dX4_isRest_40 : decode cX4_isRest 40 = .ok (.invokevirtual 254, 3) := dk_182 0 254 (dk_at dksX4_isRest_1 16 rfl rfl)
theorem dX4_isRest_43 : decode cX4_isRest 43 = .ok (.aload_n 0, 1) := dk_42 (dk_at dksX4_isRest_1 19 rfl rfl)
theorem dX4_isRest_44 : decode cX4_isRest 44 = .ok (.iconst 1, 1) := dk_4 (dk_at dksX4_isRest_1 20 rfl rfl)
theorem dX4_isRest_45 : decode cX4_isRest 45 = .ok (.iload_n 1, 1) := dk_27 (dk_at dksX4_isRest_1 21 rfl rfl)
theorem dX4_isRest_46 : decode cX4_isRest 46 = .ok (.iload_n 2, 1) := dk_28 (dk_at dksX4_isRest_1 22 rfl rfl)
theorem dX4_isRest_47 : decode cX4_isRest 47 = .ok (.invokevirtual 254, 3) := dk_182 0 254 (dk_at dksX4_isRest_2 0 rfl rfl)
theorem dX4_isRest_50 : decode cX4_isRest 50 = .ok (.lcmp, 1) := dk_148 (dk_at dksX4_isRest_2 3 rfl rfl)
theorem dX4_isRest_51 : decode cX4_isRest 51 = .ok (.ifCond .lt 7, 3) := dk_155 0 7 (dk_at dksX4_isRest_2 4 rfl rfl)
theorem dX4_isRest_54 : decode cX4_isRest 54 = .ok (.iconst 1, 1) := dk_4 (dk_at dksX4_isRest_2 7 rfl rfl)
theorem dX4_isRest_55 : decode cX4_isRest 55 = .ok (.goto 4, 3) := dk_167 0 4 (dk_at dksX4_isRest_2 8 rfl rfl)
theorem dX4_isRest_58 : decode cX4_isRest 58 = .ok (.iconst 0, 1) := dk_3 (dk_at dksX4_isRest_2 11 rfl rfl)
theorem dX4_isRest_59 : decode cX4_isRest 59 = .ok (.istore_n 3, 1) := dk_62 (dk_at dksX4_isRest_2 12 rfl rfl)
theorem dX4_isRest_60 : decode cX4_isRest 60 = .ok (.iinc 4 1, 3) := dk_132 4 1 (dk_at dksX4_isRest_2 13 rfl rfl)
theorem dX4_isRest_63 : decode cX4_isRest 63 = .ok (.goto (-58), 3) := dk_167 255 198 (dk_at dksX4_isRest_2 16 rfl rfl)
theorem dX4_isRest_66 : decode cX4_isRest 66 = .ok (.iload_n 3, 1) := dk_29 (dk_at dksX4_isRest_2 19 rfl rfl)
theorem dX4_isRest_67 : decode cX4_isRest 67 = .ok (.ireturn, 1) := dk_172 (dk_at dksX4_isRest_2 20 rfl rfl)
abbrev cX4_sideOf : ByteArray := prog_21_method_65_code
def yX4_sideOf : MethodName := ⟨RX4, "sideOf", "(III)J"⟩
def dkwX4_sideOf_2 : List UInt8 := [167, 0, 21, 42, 180, 0, 32, 21, 4, 153, 0, 7, 28, 167, 0, 7, 16, 10, 29, 96, 47, 173]
abbrev dktX4_sideOf_2 : List UInt8 := dkwX4_sideOf_2 ++ []
def dkwX4_sideOf_1 : List UInt8 := [160, 0, 25, 42, 180, 0, 29, 16, 10, 27, 104, 27, 154, 0, 7, 28, 167, 0, 4, 29, 96, 47]
abbrev dktX4_sideOf_1 : List UInt8 := dkwX4_sideOf_1 ++ dktX4_sideOf_2
def dkwX4_sideOf_0 : List UInt8 := [28, 29, 163, 0, 7, 4, 167, 0, 4, 3, 54, 4, 21, 4, 27, 154, 0, 7, 4, 167, 0, 4, 3]
abbrev dktX4_sideOf_0 : List UInt8 := dkwX4_sideOf_0 ++ dktX4_sideOf_1
theorem dksX4_sideOf_0 : cX4_sideOf.data.toList.drop 0 = dktX4_sideOf_0 := by decide +kernel
theorem dksX4_sideOf_1 : cX4_sideOf.data.toList.drop 23 = dktX4_sideOf_1 := dk_seg dksX4_sideOf_0 23 rfl rfl
theorem dksX4_sideOf_2 : cX4_sideOf.data.toList.drop 45 = dktX4_sideOf_2 := dk_seg dksX4_sideOf_1 22 rfl rfl
theorem dX4_sideOf_0 : decode cX4_sideOf 0 = .ok (.iload_n 2, 1) := dk_28 (dk_at dksX4_sideOf_0 0 rfl rfl)
theorem dX4_sideOf_1 : decode cX4_sideOf 1 = .ok (.iload_n 3, 1) := dk_29 (dk_at dksX4_sideOf_0 1 rfl rfl)
theorem dX4_sideOf_2 : decode cX4_sideOf 2 = .ok (.if_icmp .gt 7, 3) := dk_163 0 7 (dk_at dksX4_sideOf_0 2 rfl rfl)
theorem dX4_sideOf_5 : decode cX4_sideOf 5 = .ok (.iconst 1, 1) := dk_4 (dk_at dksX4_sideOf_0 5 rfl rfl)
theorem dX4_sideOf_6 : decode cX4_sideOf 6 = .ok (.goto 4, 3) := dk_167 0 4 (dk_at dksX4_sideOf_0 6 rfl rfl)
theorem dX4_sideOf_9 : decode cX4_sideOf 9 = .ok (.iconst 0, 1) := dk_3 (dk_at dksX4_sideOf_0 9 rfl rfl)
theorem dX4_sideOf_10 : decode cX4_sideOf 10 = .ok (.istore 4, 2) := dk_54 4 (dk_at dksX4_sideOf_0 10 rfl rfl)
theorem dX4_sideOf_12 : decode cX4_sideOf 12 = .ok (.iload 4, 2) := dk_21 4 (dk_at dksX4_sideOf_0 12 rfl rfl)
theorem dX4_sideOf_14 : decode cX4_sideOf 14 = .ok (.iload_n 1, 1) := dk_27 (dk_at dksX4_sideOf_0 14 rfl rfl)
theorem dX4_sideOf_15 : decode cX4_sideOf 15 = .ok (.ifCond .ne 7, 3) := dk_154 0 7 (dk_at dksX4_sideOf_0 15 rfl rfl)
theorem dX4_sideOf_18 : decode cX4_sideOf 18 = .ok (.iconst 1, 1) := dk_4 (dk_at dksX4_sideOf_0 18 rfl rfl)
theorem dX4_sideOf_19 : decode cX4_sideOf 19 = .ok (.goto 4, 3) := dk_167 0 4 (dk_at dksX4_sideOf_0 19 rfl rfl)
theorem dX4_sideOf_22 : decode cX4_sideOf 22 = .ok (.iconst 0, 1) := dk_3 (dk_at dksX4_sideOf_0 22 rfl rfl)
theorem dX4_sideOf_23 : decode cX4_sideOf 23 = .ok (.if_icmp .ne 25, 3) := dk_160 0 25 (dk_at dksX4_sideOf_1 0 rfl rfl)
theorem dX4_sideOf_26 : decode cX4_sideOf 26 = .ok (.aload_n 0, 1) := dk_42 (dk_at dksX4_sideOf_1 3 rfl rfl)
theorem dX4_sideOf_27 : decode cX4_sideOf 27 = .ok (.getfield 29, 3) := dk_180 0 29 (dk_at dksX4_sideOf_1 4 rfl rfl)
theorem dX4_sideOf_30 : decode cX4_sideOf 30 = .ok (.bipush 10, 2) := dk_16 10 (dk_at dksX4_sideOf_1 7 rfl rfl)
theorem dX4_sideOf_32 : decode cX4_sideOf 32 = .ok (.iload_n 1, 1) := dk_27 (dk_at dksX4_sideOf_1 9 rfl rfl)
theorem dX4_sideOf_33 : decode cX4_sideOf 33 = .ok (.imul, 1) := dk_104 (dk_at dksX4_sideOf_1 10 rfl rfl)
theorem dX4_sideOf_34 : decode cX4_sideOf 34 = .ok (.iload_n 1, 1) := dk_27 (dk_at dksX4_sideOf_1 11 rfl rfl)
theorem dX4_sideOf_35 : decode cX4_sideOf 35 = .ok (.ifCond .ne 7, 3) := dk_154 0 7 (dk_at dksX4_sideOf_1 12 rfl rfl)
theorem dX4_sideOf_38 : decode cX4_sideOf 38 = .ok (.iload_n 2, 1) := dk_28 (dk_at dksX4_sideOf_1 15 rfl rfl)
theorem dX4_sideOf_39 : decode cX4_sideOf 39 = .ok (.goto 4, 3) := dk_167 0 4 (dk_at dksX4_sideOf_1 16 rfl rfl)
theorem dX4_sideOf_42 : decode cX4_sideOf 42 = .ok (.iload_n 3, 1) := dk_29 (dk_at dksX4_sideOf_1 19 rfl rfl)
theorem dX4_sideOf_43 : decode cX4_sideOf 43 = .ok (.iadd, 1) := dk_96 (dk_at dksX4_sideOf_1 20 rfl rfl)
theorem dX4_sideOf_44 : decode cX4_sideOf 44 = .ok (.laload, 1) := dk_47 (dk_at dksX4_sideOf_1 21 rfl rfl)
theorem dX4_sideOf_45 : decode cX4_sideOf 45 = .ok (.goto 21, 3) := dk_167 0 21 (dk_at dksX4_sideOf_2 0 rfl rfl)
theorem dX4_sideOf_48 : decode cX4_sideOf 48 = .ok (.aload_n 0, 1) := dk_42 (dk_at dksX4_sideOf_2 3 rfl rfl)
theorem dX4_sideOf_49 : decode cX4_sideOf 49 = .ok (.getfield 32, 3) := dk_180 0 32 (dk_at dksX4_sideOf_2 4 rfl rfl)
theorem dX4_sideOf_52 : decode cX4_sideOf 52 = .ok (.iload 4, 2) := dk_21 4 (dk_at dksX4_sideOf_2 7 rfl rfl)
theorem dX4_sideOf_54 : decode cX4_sideOf 54 = .ok (.ifCond .eq 7, 3) := dk_153 0 7 (dk_at dksX4_sideOf_2 9 rfl rfl)
theorem dX4_sideOf_57 : decode cX4_sideOf 57 = .ok (.iload_n 2, 1) := dk_28 (dk_at dksX4_sideOf_2 12 rfl rfl)
theorem dX4_sideOf_58 : decode cX4_sideOf 58 = .ok (.goto 7, 3) := dk_167 0 7 (dk_at dksX4_sideOf_2 13 rfl rfl)
theorem dX4_sideOf_61 : decode cX4_sideOf 61 = .ok (.bipush 10, 2) := dk_16 10 (dk_at dksX4_sideOf_2 16 rfl rfl)
theorem dX4_sideOf_63 : decode cX4_sideOf 63 = .ok (.iload_n 3, 1) := dk_29 (dk_at dksX4_sideOf_2 18 rfl rfl)
theorem dX4_sideOf_64 : decode cX4_sideOf 64 = .ok (.iadd, 1) := dk_96 (dk_at dksX4_sideOf_2 19 rfl rfl)
theorem dX4_sideOf_65 : decode cX4_sideOf 65 = .ok (.laload, 1) := dk_47 (dk_at dksX4_sideOf_2 20 rfl rfl)
theorem dX4_sideOf_66 : decode cX4_sideOf 66 = .ok (.lreturn, 1) := dk_173 (dk_at dksX4_sideOf_2 21 rfl rfl)
abbrev cX4_matter : ByteArray := prog_21_method_68_code
def yX4_matter : MethodName := ⟨RX4, "matter", "(I)I"⟩
def dkwX4_matter_2 : List UInt8 := [16, 7, 182, 0, 164, 133, 105, 32, 148, 155, 0, 6, 21, 4, 172, 132, 4, 1, 167, 255, 223, 16, 251, 172]
abbrev dktX4_matter_2 : List UInt8 := dkwX4_matter_2 ++ []
def dkwX4_matter_1 : List UInt8 := [182, 0, 228, 101, 65, 3, 54, 4, 21, 4, 16, 20, 163, 0, 32, 20, 0, 148, 21, 4, 133, 105, 42]
abbrev dktX4_matter_1 : List UInt8 := dkwX4_matter_1 ++ dktX4_matter_2
def dkwX4_matter_0 : List UInt8 := [42, 27, 182, 0, 191, 154, 0, 5, 2, 172, 42, 27, 182, 0, 178, 42, 3, 182, 0, 202, 42, 16, 9, 3]
abbrev dktX4_matter_0 : List UInt8 := dkwX4_matter_0 ++ dktX4_matter_1
theorem dksX4_matter_0 : cX4_matter.data.toList.drop 0 = dktX4_matter_0 := by decide +kernel
theorem dksX4_matter_1 : cX4_matter.data.toList.drop 24 = dktX4_matter_1 := dk_seg dksX4_matter_0 24 rfl rfl
theorem dksX4_matter_2 : cX4_matter.data.toList.drop 47 = dktX4_matter_2 := dk_seg dksX4_matter_1 23 rfl rfl
theorem dX4_matter_0 : decode cX4_matter 0 = .ok (.aload_n 0, 1) := dk_42 (dk_at dksX4_matter_0 0 rfl rfl)
theorem dX4_matter_1 : decode cX4_matter 1 = .ok (.iload_n 1, 1) := dk_27 (dk_at dksX4_matter_0 1 rfl rfl)
theorem dX4_matter_2 : decode cX4_matter 2 = .ok (.invokevirtual 191, 3) := dk_182 0 191 (dk_at dksX4_matter_0 2 rfl rfl)
theorem dX4_matter_5 : decode cX4_matter 5 = .ok (.ifCond .ne 5, 3) := dk_154 0 5 (dk_at dksX4_matter_0 5 rfl rfl)
theorem dX4_matter_8 : decode cX4_matter 8 = .ok (.iconst (-1), 1) := dk_2 (dk_at dksX4_matter_0 8 rfl rfl)
theorem dX4_matter_9 : decode cX4_matter 9 = .ok (.ireturn, 1) := dk_172 (dk_at dksX4_matter_0 9 rfl rfl)
theorem dX4_matter_10 : decode cX4_matter 10 = .ok (.aload_n 0, 1) := dk_42 (dk_at dksX4_matter_0 10 rfl rfl)
theorem dX4_matter_11 : decode cX4_matter 11 = .ok (.iload_n 1, 1) := dk_27 (dk_at dksX4_matter_0 11 rfl rfl)
theorem dX4_matter_12 : decode cX4_matter 12 = .ok (.invokevirtual 178, 3) := dk_182 0 178 (dk_at dksX4_matter_0 12 rfl rfl)
theorem dX4_matter_15 : decode cX4_matter 15 = .ok (.aload_n 0, 1) := dk_42 (dk_at dksX4_matter_0 15 rfl rfl)
theorem dX4_matter_16 : decode cX4_matter 16 = .ok (.iconst 0, 1) := dk_3 (dk_at dksX4_matter_0 16 rfl rfl)
theorem dX4_matter_17 : decode cX4_matter 17 = .ok (.invokevirtual 202, 3) := dk_182 0 202 (dk_at dksX4_matter_0 17 rfl rfl)
theorem dX4_matter_20 : decode cX4_matter 20 = .ok (.aload_n 0, 1) := dk_42 (dk_at dksX4_matter_0 20 rfl rfl)
theorem dX4_matter_21 : decode cX4_matter 21 = .ok (.bipush 9, 2) := dk_16 9 (dk_at dksX4_matter_0 21 rfl rfl)
theorem dX4_matter_23 : decode cX4_matter 23 = .ok (.iconst 0, 1) := dk_3 (dk_at dksX4_matter_0 23 rfl rfl)
theorem dX4_matter_24 : decode cX4_matter 24 = .ok (.invokevirtual 228, 3) := dk_182 0 228 (dk_at dksX4_matter_1 0 rfl rfl)
theorem dX4_matter_27 : decode cX4_matter 27 = .ok (.lsub, 1) := dk_101 (dk_at dksX4_matter_1 3 rfl rfl)
theorem dX4_matter_28 : decode cX4_matter 28 = .ok (.lstore_n 2, 1) := dk_65 (dk_at dksX4_matter_1 4 rfl rfl)
theorem dX4_matter_29 : decode cX4_matter 29 = .ok (.iconst 0, 1) := dk_3 (dk_at dksX4_matter_1 5 rfl rfl)
theorem dX4_matter_30 : decode cX4_matter 30 = .ok (.istore 4, 2) := dk_54 4 (dk_at dksX4_matter_1 6 rfl rfl)
theorem dX4_matter_32 : decode cX4_matter 32 = .ok (.iload 4, 2) := dk_21 4 (dk_at dksX4_matter_1 8 rfl rfl)
theorem dX4_matter_34 : decode cX4_matter 34 = .ok (.bipush 20, 2) := dk_16 20 (dk_at dksX4_matter_1 10 rfl rfl)
theorem dX4_matter_36 : decode cX4_matter 36 = .ok (.if_icmp .gt 32, 3) := dk_163 0 32 (dk_at dksX4_matter_1 12 rfl rfl)
theorem dX4_matter_39 : decode cX4_matter 39 = .ok (.ldc2_w 148, 3) := dk_20 0 148 (dk_at dksX4_matter_1 15 rfl rfl)
theorem dX4_matter_42 : decode cX4_matter 42 = .ok (.iload 4, 2) := dk_21 4 (dk_at dksX4_matter_1 18 rfl rfl)
theorem dX4_matter_44 : decode cX4_matter 44 = .ok (.i2l, 1) := dk_133 (dk_at dksX4_matter_1 20 rfl rfl)
theorem dX4_matter_45 : decode cX4_matter 45 = .ok (.lmul, 1) := dk_105 (dk_at dksX4_matter_1 21 rfl rfl)
theorem dX4_matter_46 : decode cX4_matter 46 = .ok (.aload_n 0, 1) := dk_42 (dk_at dksX4_matter_1 22 rfl rfl)
theorem dX4_matter_47 : decode cX4_matter 47 = .ok (.bipush 7, 2) := dk_16 7 (dk_at dksX4_matter_2 0 rfl rfl)
theorem dX4_matter_49 : decode cX4_matter 49 = .ok (.invokevirtual 164, 3) := dk_182 0 164 (dk_at dksX4_matter_2 2 rfl rfl)
theorem dX4_matter_52 : decode cX4_matter 52 = .ok (.i2l, 1) := dk_133 (dk_at dksX4_matter_2 5 rfl rfl)
theorem dX4_matter_53 : decode cX4_matter 53 = .ok (.lmul, 1) := dk_105 (dk_at dksX4_matter_2 6 rfl rfl)
theorem dX4_matter_54 : decode cX4_matter 54 = .ok (.lload_n 2, 1) := dk_32 (dk_at dksX4_matter_2 7 rfl rfl)
theorem dX4_matter_55 : decode cX4_matter 55 = .ok (.lcmp, 1) := dk_148 (dk_at dksX4_matter_2 8 rfl rfl)
theorem dX4_matter_56 : decode cX4_matter 56 = .ok (.ifCond .lt 6, 3) := dk_155 0 6 (dk_at dksX4_matter_2 9 rfl rfl)
theorem dX4_matter_59 : decode cX4_matter 59 = .ok (.iload 4, 2) := dk_21 4 (dk_at dksX4_matter_2 12 rfl rfl)
theorem dX4_matter_61 : decode cX4_matter 61 = .ok (.ireturn, 1) := dk_172 (dk_at dksX4_matter_2 14 rfl rfl)
theorem dX4_matter_62 : decode cX4_matter 62 = .ok (.iinc 4 1, 3) := dk_132 4 1 (dk_at dksX4_matter_2 15 rfl rfl)
theorem dX4_matter_65 : decode cX4_matter 65 = .ok (.goto (-33), 3) := dk_167 255 223 (dk_at dksX4_matter_2 18 rfl rfl)
theorem dX4_matter_68 : decode cX4_matter 68 = .ok (.bipush (-5), 2) := dk_16 251 (dk_at dksX4_matter_2 21 rfl rfl)
theorem dX4_matter_70 : decode cX4_matter 70 = .ok (.ireturn, 1) := dk_172 (dk_at dksX4_matter_2 23 rfl rfl)
abbrev cX4_edge : ByteArray := prog_21_method_69_code
def yX4_edge : MethodName := ⟨RX4, "edge", "(I)I"⟩
def dkwX4_edge_4 : List UInt8 := [16, 20, 21, 4, 182, 0, 242, 28, 159, 0, 6, 21, 4, 172, 132, 4, 1, 167, 255, 193, 3, 172]
abbrev dktX4_edge_4 : List UInt8 := dkwX4_edge_4 ++ []
def dkwX4_edge_3 : List UInt8 := [182, 0, 242, 28, 159, 0, 7, 21, 4, 116, 172, 29, 21, 4, 96, 17, 3, 232, 163, 0, 20, 42, 27, 4]
abbrev dktX4_edge_3 : List UInt8 := dkwX4_edge_3 ++ dktX4_edge_4
def dkwX4_edge_2 : List UInt8 := [21, 4, 16, 50, 163, 0, 62, 29, 21, 4, 100, 155, 0, 22, 42, 27, 4, 16, 20, 21, 4, 116]
abbrev dktX4_edge_2 : List UInt8 := dkwX4_edge_2 ++ dktX4_edge_3
def dkwX4_edge_1 : List UInt8 := [17, 0, 130, 16, 10, 42, 180, 0, 9, 17, 3, 122, 27, 96, 46, 104, 96, 7, 96, 46, 62, 4, 54, 4]
abbrev dktX4_edge_1 : List UInt8 := dkwX4_edge_1 ++ dktX4_edge_2
def dkwX4_edge_0 : List UInt8 := [42, 27, 182, 0, 191, 154, 0, 5, 2, 172, 42, 27, 4, 16, 20, 3, 182, 0, 242, 61, 42, 180, 0, 9]
abbrev dktX4_edge_0 : List UInt8 := dkwX4_edge_0 ++ dktX4_edge_1
theorem dksX4_edge_0 : cX4_edge.data.toList.drop 0 = dktX4_edge_0 := by decide +kernel
theorem dksX4_edge_1 : cX4_edge.data.toList.drop 24 = dktX4_edge_1 := dk_seg dksX4_edge_0 24 rfl rfl
theorem dksX4_edge_2 : cX4_edge.data.toList.drop 48 = dktX4_edge_2 := dk_seg dksX4_edge_1 24 rfl rfl
theorem dksX4_edge_3 : cX4_edge.data.toList.drop 70 = dktX4_edge_3 := dk_seg dksX4_edge_2 22 rfl rfl
theorem dksX4_edge_4 : cX4_edge.data.toList.drop 94 = dktX4_edge_4 := dk_seg dksX4_edge_3 24 rfl rfl
theorem dX4_edge_0 : decode cX4_edge 0 = .ok (.aload_n 0, 1) := dk_42 (dk_at dksX4_edge_0 0 rfl rfl)
theorem dX4_edge_1 : decode cX4_edge 1 = .ok (.iload_n 1, 1) := dk_27 (dk_at dksX4_edge_0 1 rfl rfl)
theorem dX4_edge_2 : decode cX4_edge 2 = .ok (.invokevirtual 191, 3) := dk_182 0 191 (dk_at dksX4_edge_0 2 rfl rfl)
theorem dX4_edge_5 : decode cX4_edge 5 = .ok (.ifCond .ne 5, 3) := dk_154 0 5 (dk_at dksX4_edge_0 5 rfl rfl)
theorem dX4_edge_8 : decode cX4_edge 8 = .ok (.iconst (-1), 1) := dk_2 (dk_at dksX4_edge_0 8 rfl rfl)
theorem dX4_edge_9 : decode cX4_edge 9 = .ok (.ireturn, 1) := dk_172 (dk_at dksX4_edge_0 9 rfl rfl)
theorem dX4_edge_10 : decode cX4_edge 10 = .ok (.aload_n 0, 1) := dk_42 (dk_at dksX4_edge_0 10 rfl rfl)
theorem dX4_edge_11 : decode cX4_edge 11 = .ok (.iload_n 1, 1) := dk_27 (dk_at dksX4_edge_0 11 rfl rfl)
theorem dX4_edge_12 : decode cX4_edge 12 = .ok (.iconst 1, 1) := dk_4 (dk_at dksX4_edge_0 12 rfl rfl)
theorem dX4_edge_13 : decode cX4_edge 13 = .ok (.bipush 20, 2) := dk_16 20 (dk_at dksX4_edge_0 13 rfl rfl)
theorem dX4_edge_15 : decode cX4_edge 15 = .ok (.iconst 0, 1) := dk_3 (dk_at dksX4_edge_0 15 rfl rfl)
theorem dX4_edge_16 : decode cX4_edge 16 = .ok (.invokevirtual 242, 3) := dk_182 0 242 (dk_at dksX4_edge_0 16 rfl rfl)
theorem dX4_edge_19 : decode cX4_edge 19 = .ok (.istore_n 2, 1) := dk_61 (dk_at dksX4_edge_0 19 rfl rfl)
theorem dX4_edge_20 : decode cX4_edge 20 = .ok (.aload_n 0, 1) := dk_42 (dk_at dksX4_edge_0 20 rfl rfl)
theorem dX4_edge_21 : decode cX4_edge 21 = .ok (.getfield 9, 3) := dk_180 0 9 (dk_at dksX4_edge_0 21 rfl rfl)
theorem dX4_edge_24 : decode cX4_edge 24 = .ok (.sipush 130, 3) := dk_17 0 130 (dk_at dksX4_edge_1 0 rfl rfl)
theorem dX4_edge_27 : decode cX4_edge 27 = .ok (.bipush 10, 2) := dk_16 10 (dk_at dksX4_edge_1 3 rfl rfl)
theorem dX4_edge_29 : decode cX4_edge 29 = .ok (.aload_n 0, 1) := dk_42 (dk_at dksX4_edge_1 5 rfl rfl)
theorem dX4_edge_30 : decode cX4_edge 30 = .ok (.getfield 9, 3) := dk_180 0 9 (dk_at dksX4_edge_1 6 rfl rfl)
theorem dX4_edge_33 : decode cX4_edge 33 = .ok (.sipush 890, 3) := dk_17 3 122 (dk_at dksX4_edge_1 9 rfl rfl)
theorem dX4_edge_36 : decode cX4_edge 36 = .ok (.iload_n 1, 1) := dk_27 (dk_at dksX4_edge_1 12 rfl rfl)
theorem dX4_edge_37 : decode cX4_edge 37 = .ok (.iadd, 1) := dk_96 (dk_at dksX4_edge_1 13 rfl rfl)
theorem dX4_edge_38 : decode cX4_edge 38 = .ok (.iaload, 1) := dk_46 (dk_at dksX4_edge_1 14 rfl rfl)
theorem dX4_edge_39 : decode cX4_edge 39 = .ok (.imul, 1) := dk_104 (dk_at dksX4_edge_1 15 rfl rfl)
theorem dX4_edge_40 : decode cX4_edge 40 = .ok (.iadd, 1) := dk_96 (dk_at dksX4_edge_1 16 rfl rfl)
theorem dX4_edge_41 : decode cX4_edge 41 = .ok (.iconst 4, 1) := dk_7 (dk_at dksX4_edge_1 17 rfl rfl)
theorem dX4_edge_42 : decode cX4_edge 42 = .ok (.iadd, 1) := dk_96 (dk_at dksX4_edge_1 18 rfl rfl)
theorem dX4_edge_43 : decode cX4_edge 43 = .ok (.iaload, 1) := dk_46 (dk_at dksX4_edge_1 19 rfl rfl)
theorem dX4_edge_44 : decode cX4_edge 44 = .ok (.istore_n 3, 1) := dk_62 (dk_at dksX4_edge_1 20 rfl rfl)
theorem dX4_edge_45 : decode cX4_edge 45 = .ok (.iconst 1, 1) := dk_4 (dk_at dksX4_edge_1 21 rfl rfl)
theorem dX4_edge_46 : decode cX4_edge 46 = .ok (.istore 4, 2) := dk_54 4 (dk_at dksX4_edge_1 22 rfl rfl)
theorem dX4_edge_48 : decode cX4_edge 48 = .ok (.iload 4, 2) := dk_21 4 (dk_at dksX4_edge_2 0 rfl rfl)
theorem dX4_edge_50 : decode cX4_edge 50 = .ok (.bipush 50, 2) := dk_16 50 (dk_at dksX4_edge_2 2 rfl rfl)
theorem dX4_edge_52 : decode cX4_edge 52 = .ok (.if_icmp .gt 62, 3) := dk_163 0 62 (dk_at dksX4_edge_2 4 rfl rfl)
theorem dX4_edge_55 : decode cX4_edge 55 = .ok (.iload_n 3, 1) := dk_29 (dk_at dksX4_edge_2 7 rfl rfl)
theorem dX4_edge_56 : decode cX4_edge 56 = .ok (.iload 4, 2) := dk_21 4 (dk_at dksX4_edge_2 8 rfl rfl)
theorem dX4_edge_58 : decode cX4_edge 58 = .ok (.isub, 1) := dk_100 (dk_at dksX4_edge_2 10 rfl rfl)
theorem dX4_edge_59 : decode cX4_edge 59 = .ok (.ifCond .lt 22, 3) := dk_155 0 22 (dk_at dksX4_edge_2 11 rfl rfl)
theorem dX4_edge_62 : decode cX4_edge 62 = .ok (.aload_n 0, 1) := dk_42 (dk_at dksX4_edge_2 14 rfl rfl)
theorem dX4_edge_63 : decode cX4_edge 63 = .ok (.iload_n 1, 1) := dk_27 (dk_at dksX4_edge_2 15 rfl rfl)
theorem dX4_edge_64 : decode cX4_edge 64 = .ok (.iconst 1, 1) := dk_4 (dk_at dksX4_edge_2 16 rfl rfl)
theorem dX4_edge_65 : decode cX4_edge 65 = .ok (.bipush 20, 2) := dk_16 20 (dk_at dksX4_edge_2 17 rfl rfl)
theorem dX4_edge_67 : decode cX4_edge 67 = .ok (.iload 4, 2) := dk_21 4 (dk_at dksX4_edge_2 19 rfl rfl)
theorem dX4_edge_69 : decode cX4_edge 69 = .ok (.ineg, 1) := dk_116 (dk_at dksX4_edge_2 21 rfl rfl)
theorem dX4_edge_70 : decode cX4_edge 70 = .ok (.invokevirtual 242, 3) := dk_182 0 242 (dk_at dksX4_edge_3 0 rfl rfl)
theorem dX4_edge_73 : decode cX4_edge 73 = .ok (.iload_n 2, 1) := dk_28 (dk_at dksX4_edge_3 3 rfl rfl)
theorem dX4_edge_74 : decode cX4_edge 74 = .ok (.if_icmp .eq 7, 3) := dk_159 0 7 (dk_at dksX4_edge_3 4 rfl rfl)
theorem dX4_edge_77 : decode cX4_edge 77 = .ok (.iload 4, 2) := dk_21 4 (dk_at dksX4_edge_3 7 rfl rfl)
theorem dX4_edge_79 : decode cX4_edge 79 = .ok (.ineg, 1) := dk_116 (dk_at dksX4_edge_3 9 rfl rfl)
theorem dX4_edge_80 : decode cX4_edge 80 = .ok (.ireturn, 1) := dk_172 (dk_at dksX4_edge_3 10 rfl rfl)
theorem dX4_edge_81 : decode cX4_edge 81 = .ok (.iload_n 3, 1) := dk_29 (dk_at dksX4_edge_3 11 rfl rfl)
theorem dX4_edge_82 : decode cX4_edge 82 = .ok (.iload 4, 2) := dk_21 4 (dk_at dksX4_edge_3 12 rfl rfl)
theorem dX4_edge_84 : decode cX4_edge 84 = .ok (.iadd, 1) := dk_96 (dk_at dksX4_edge_3 14 rfl rfl)
theorem dX4_edge_85 : decode cX4_edge 85 = .ok (.sipush 1000, 3) := dk_17 3 232 (dk_at dksX4_edge_3 15 rfl rfl)
theorem dX4_edge_88 : decode cX4_edge 88 = .ok (.if_icmp .gt 20, 3) := dk_163 0 20 (dk_at dksX4_edge_3 18 rfl rfl)
theorem dX4_edge_91 : decode cX4_edge 91 = .ok (.aload_n 0, 1) := dk_42 (dk_at dksX4_edge_3 21 rfl rfl)
theorem dX4_edge_92 : decode cX4_edge 92 = .ok (.iload_n 1, 1) := dk_27 (dk_at dksX4_edge_3 22 rfl rfl)
theorem dX4_edge_93 : decode cX4_edge 93 = .ok (.iconst 1, 1) := dk_4 (dk_at dksX4_edge_3 23 rfl rfl)
theorem dX4_edge_94 : decode cX4_edge 94 = .ok (.bipush 20, 2) := dk_16 20 (dk_at dksX4_edge_4 0 rfl rfl)
theorem dX4_edge_96 : decode cX4_edge 96 = .ok (.iload 4, 2) := dk_21 4 (dk_at dksX4_edge_4 2 rfl rfl)
theorem dX4_edge_98 : decode cX4_edge 98 = .ok (.invokevirtual 242, 3) := dk_182 0 242 (dk_at dksX4_edge_4 4 rfl rfl)
theorem dX4_edge_101 : decode cX4_edge 101 = .ok (.iload_n 2, 1) := dk_28 (dk_at dksX4_edge_4 7 rfl rfl)
theorem dX4_edge_102 : decode cX4_edge 102 = .ok (.if_icmp .eq 6, 3) := dk_159 0 6 (dk_at dksX4_edge_4 8 rfl rfl)
theorem dX4_edge_105 : decode cX4_edge 105 = .ok (.iload 4, 2) := dk_21 4 (dk_at dksX4_edge_4 11 rfl rfl)
theorem dX4_edge_107 : decode cX4_edge 107 = .ok (.ireturn, 1) := dk_172 (dk_at dksX4_edge_4 13 rfl rfl)
theorem dX4_edge_108 : decode cX4_edge 108 = .ok (.iinc 4 1, 3) := dk_132 4 1 (dk_at dksX4_edge_4 14 rfl rfl)
theorem dX4_edge_111 : decode cX4_edge 111 = .ok (.goto (-63), 3) := dk_167 255 193 (dk_at dksX4_edge_4 17 rfl rfl)
theorem dX4_edge_114 : decode cX4_edge 114 = .ok (.iconst 0, 1) := dk_3 (dk_at dksX4_edge_4 20 rfl rfl)
theorem dX4_edge_115 : decode cX4_edge 115 = .ok (.ireturn, 1) := dk_172 (dk_at dksX4_edge_4 21 rfl rfl)
abbrev cX4_run : ByteArray := prog_21_method_70_code
def yX4_run : MethodName := ⟨RX4, "run", "(III)I"⟩
def dkwX4_run_12 : List UInt8 := [16, 100, 21, 5, 104, 96, 21, 7, 153, 0, 9, 17, 39, 16, 167, 0, 4, 3, 96, 172]
abbrev dktX4_run_12 : List UInt8 := dkwX4_run_12 ++ []
def dkwX4_run_11 : List UInt8 := [4, 167, 0, 4, 3, 96, 54, 5, 42, 3, 182, 0, 194, 54, 9, 132, 6, 1, 167, 255, 107, 21, 6]
abbrev dktX4_run_11 : List UInt8 := dkwX4_run_11 ++ dktX4_run_12
def dkwX4_run_10 : List UInt8 := [17, 3, 232, 112, 21, 8, 42, 7, 182, 0, 164, 104, 162, 0, 16, 21, 5, 42, 180, 0, 155, 162, 0, 7]
abbrev dktX4_run_10 : List UInt8 := dkwX4_run_10 ++ dktX4_run_11
def dkwX4_run_9 : List UInt8 := [167, 0, 4, 3, 54, 7, 21, 7, 154, 0, 57, 21, 5, 16, 7, 29, 104, 16, 11, 21, 6, 104, 96]
abbrev dktX4_run_9 : List UInt8 := dkwX4_run_9 ++ dktX4_run_10
def dkwX4_run_8 : List UInt8 := [16, 29, 21, 6, 104, 96, 6, 104, 17, 3, 232, 112, 21, 8, 42, 8, 182, 0, 164, 104, 162, 0, 7, 4]
abbrev dktX4_run_8 : List UInt8 := dkwX4_run_8 ++ dktX4_run_9
def dkwX4_run_7 : List UInt8 := [182, 0, 231, 154, 0, 113, 21, 5, 6, 162, 0, 8, 21, 5, 167, 0, 4, 6, 54, 8, 16, 13, 29, 104]
abbrev dktX4_run_7 : List UInt8 := dkwX4_run_7 ++ dktX4_run_8
def dkwX4_run_6 : List UInt8 := [180, 0, 9, 17, 3, 232, 27, 96, 46, 42, 180, 0, 9, 17, 3, 244, 27, 96, 46, 27, 21, 6]
abbrev dktX4_run_6 : List UInt8 := dkwX4_run_6 ++ dktX4_run_7
def dkwX4_run_5 : List UInt8 := [167, 255, 212, 3, 54, 6, 3, 54, 7, 21, 7, 154, 0, 150, 21, 6, 16, 20, 162, 0, 143, 42, 42]
abbrev dktX4_run_5 : List UInt8 := dkwX4_run_5 ++ dktX4_run_6
def dkwX4_run_4 : List UInt8 := [16, 7, 104, 17, 3, 232, 112, 21, 4, 162, 0, 7, 4, 167, 0, 4, 3, 96, 54, 5, 132, 6, 1]
abbrev dktX4_run_4 : List UInt8 := dkwX4_run_4 ++ dktX4_run_5
def dkwX4_run_3 : List UInt8 := [54, 6, 21, 6, 42, 180, 0, 155, 162, 0, 41, 21, 5, 16, 31, 29, 104, 16, 17, 21, 6, 104, 96]
abbrev dktX4_run_3 : List UInt8 := dkwX4_run_3 ++ dktX4_run_4
def dkwX4_run_2 : List UInt8 := [180, 0, 142, 104, 96, 42, 180, 0, 9, 17, 3, 134, 28, 96, 46, 96, 46, 54, 4, 3, 54, 5, 3]
abbrev dktX4_run_2 : List UInt8 := dkwX4_run_2 ++ dktX4_run_3
def dkwX4_run_1 : List UInt8 := [184, 0, 42, 154, 0, 6, 16, 254, 172, 42, 28, 182, 0, 178, 42, 180, 0, 9, 17, 0, 130, 16, 10, 42]
abbrev dktX4_run_1 : List UInt8 := dkwX4_run_1 ++ dktX4_run_2
def dkwX4_run_0 : List UInt8 := [42, 27, 182, 0, 206, 153, 0, 11, 42, 28, 182, 0, 191, 154, 0, 5, 2, 172, 29, 3, 17, 3, 231]
abbrev dktX4_run_0 : List UInt8 := dkwX4_run_0 ++ dktX4_run_1
theorem dksX4_run_0 : cX4_run.data.toList.drop 0 = dktX4_run_0 := by decide +kernel
theorem dksX4_run_1 : cX4_run.data.toList.drop 23 = dktX4_run_1 := dk_seg dksX4_run_0 23 rfl rfl
theorem dksX4_run_2 : cX4_run.data.toList.drop 47 = dktX4_run_2 := dk_seg dksX4_run_1 24 rfl rfl
theorem dksX4_run_3 : cX4_run.data.toList.drop 70 = dktX4_run_3 := dk_seg dksX4_run_2 23 rfl rfl
theorem dksX4_run_4 : cX4_run.data.toList.drop 93 = dktX4_run_4 := dk_seg dksX4_run_3 23 rfl rfl
theorem dksX4_run_5 : cX4_run.data.toList.drop 116 = dktX4_run_5 := dk_seg dksX4_run_4 23 rfl rfl
theorem dksX4_run_6 : cX4_run.data.toList.drop 139 = dktX4_run_6 := dk_seg dksX4_run_5 23 rfl rfl
theorem dksX4_run_7 : cX4_run.data.toList.drop 161 = dktX4_run_7 := dk_seg dksX4_run_6 22 rfl rfl
theorem dksX4_run_8 : cX4_run.data.toList.drop 185 = dktX4_run_8 := dk_seg dksX4_run_7 24 rfl rfl
theorem dksX4_run_9 : cX4_run.data.toList.drop 209 = dktX4_run_9 := dk_seg dksX4_run_8 24 rfl rfl
theorem dksX4_run_10 : cX4_run.data.toList.drop 232 = dktX4_run_10 := dk_seg dksX4_run_9 23 rfl rfl
theorem dksX4_run_11 : cX4_run.data.toList.drop 256 = dktX4_run_11 := dk_seg dksX4_run_10 24 rfl rfl
theorem dksX4_run_12 : cX4_run.data.toList.drop 279 = dktX4_run_12 := dk_seg dksX4_run_11 23 rfl rfl
theorem dX4_run_0 : decode cX4_run 0 = .ok (.aload_n 0, 1) := dk_42 (dk_at dksX4_run_0 0 rfl rfl)
theorem dX4_run_1 : decode cX4_run 1 = .ok (.iload_n 1, 1) := dk_27 (dk_at dksX4_run_0 1 rfl rfl)
theorem dX4_run_2 : decode cX4_run 2 = .ok (.invokevirtual 206, 3) := dk_182 0 206 (dk_at dksX4_run_0 2 rfl rfl)
theorem dX4_run_5 : decode cX4_run 5 = .ok (.ifCond .eq 11, 3) := dk_153 0 11 (dk_at dksX4_run_0 5 rfl rfl)
theorem dX4_run_8 : decode cX4_run 8 = .ok (.aload_n 0, 1) := dk_42 (dk_at dksX4_run_0 8 rfl rfl)
theorem dX4_run_9 : decode cX4_run 9 = .ok (.iload_n 2, 1) := dk_28 (dk_at dksX4_run_0 9 rfl rfl)
theorem dX4_run_10 : decode cX4_run 10 = .ok (.invokevirtual 191, 3) := dk_182 0 191 (dk_at dksX4_run_0 10 rfl rfl)
theorem dX4_run_13 : decode cX4_run 13 = .ok (.ifCond .ne 5, 3) := dk_154 0 5 (dk_at dksX4_run_0 13 rfl rfl)
theorem dX4_run_16 : decode cX4_run 16 = .ok (.iconst (-1), 1) := dk_2 (dk_at dksX4_run_0 16 rfl rfl)
theorem dX4_run_17 : decode cX4_run 17 = .ok (.ireturn, 1) := dk_172 (dk_at dksX4_run_0 17 rfl rfl)
theorem dX4_run_18 : decode cX4_run 18 = .ok (.iload_n 3, 1) := dk_29 (dk_at dksX4_run_0 18 rfl rfl)
theorem dX4_run_19 : decode cX4_run 19 = .ok (.iconst 0, 1) := dk_3 (dk_at dksX4_run_0 19 rfl rfl)
theorem dX4_run_20 : decode cX4_run 20 = .ok (.sipush 999, 3) := dk_17 3 231 (dk_at dksX4_run_0 20 rfl rfl)
theorem dX4_run_23 : decode cX4_run 23 = .ok (.invokestatic 42, 3) := dk_184 0 42 (dk_at dksX4_run_1 0 rfl rfl)
theorem dX4_run_26 : decode cX4_run 26 = .ok (.ifCond .ne 6, 3) := dk_154 0 6 (dk_at dksX4_run_1 3 rfl rfl)
theorem dX4_run_29 : decode cX4_run 29 = .ok (.bipush (-2), 2) := dk_16 254 (dk_at dksX4_run_1 6 rfl rfl)
theorem dX4_run_31 : decode cX4_run 31 = .ok (.ireturn, 1) := dk_172 (dk_at dksX4_run_1 8 rfl rfl)
theorem dX4_run_32 : decode cX4_run 32 = .ok (.aload_n 0, 1) := dk_42 (dk_at dksX4_run_1 9 rfl rfl)
theorem dX4_run_33 : decode cX4_run 33 = .ok (.iload_n 2, 1) := dk_28 (dk_at dksX4_run_1 10 rfl rfl)
theorem dX4_run_34 : decode cX4_run 34 = .ok (.invokevirtual 178, 3) := dk_182 0 178 (dk_at dksX4_run_1 11 rfl rfl)
theorem dX4_run_37 : decode cX4_run 37 = .ok (.aload_n 0, 1) := dk_42 (dk_at dksX4_run_1 14 rfl rfl)
theorem dX4_run_38 : decode cX4_run 38 = .ok (.getfield 9, 3) := dk_180 0 9 (dk_at dksX4_run_1 15 rfl rfl)
theorem dX4_run_41 : decode cX4_run 41 = .ok (.sipush 130, 3) := dk_17 0 130 (dk_at dksX4_run_1 18 rfl rfl)
theorem dX4_run_44 : decode cX4_run 44 = .ok (.bipush 10, 2) := dk_16 10 (dk_at dksX4_run_1 21 rfl rfl)
theorem dX4_run_46 : decode cX4_run 46 = .ok (.aload_n 0, 1) := dk_42 (dk_at dksX4_run_1 23 rfl rfl)
theorem dX4_run_47 : decode cX4_run 47 = .ok (.getfield 142, 3) := dk_180 0 142 (dk_at dksX4_run_2 0 rfl rfl)
theorem dX4_run_50 : decode cX4_run 50 = .ok (.imul, 1) := dk_104 (dk_at dksX4_run_2 3 rfl rfl)
theorem dX4_run_51 : decode cX4_run 51 = .ok (.iadd, 1) := dk_96 (dk_at dksX4_run_2 4 rfl rfl)
theorem dX4_run_52 : decode cX4_run 52 = .ok (.aload_n 0, 1) := dk_42 (dk_at dksX4_run_2 5 rfl rfl)
theorem dX4_run_53 : decode cX4_run 53 = .ok (.getfield 9, 3) := dk_180 0 9 (dk_at dksX4_run_2 6 rfl rfl)
theorem dX4_run_56 : decode cX4_run 56 = .ok (.sipush 902, 3) := dk_17 3 134 (dk_at dksX4_run_2 9 rfl rfl)
theorem dX4_run_59 : decode cX4_run 59 = .ok (.iload_n 2, 1) := dk_28 (dk_at dksX4_run_2 12 rfl rfl)
theorem dX4_run_60 : decode cX4_run 60 = .ok (.iadd, 1) := dk_96 (dk_at dksX4_run_2 13 rfl rfl)
theorem dX4_run_61 : decode cX4_run 61 = .ok (.iaload, 1) := dk_46 (dk_at dksX4_run_2 14 rfl rfl)
theorem dX4_run_62 : decode cX4_run 62 = .ok (.iadd, 1) := dk_96 (dk_at dksX4_run_2 15 rfl rfl)
theorem dX4_run_63 : decode cX4_run 63 = .ok (.iaload, 1) := dk_46 (dk_at dksX4_run_2 16 rfl rfl)
theorem dX4_run_64 : decode cX4_run 64 = .ok (.istore 4, 2) := dk_54 4 (dk_at dksX4_run_2 17 rfl rfl)
theorem dX4_run_66 : decode cX4_run 66 = .ok (.iconst 0, 1) := dk_3 (dk_at dksX4_run_2 19 rfl rfl)
theorem dX4_run_67 : decode cX4_run 67 = .ok (.istore 5, 2) := dk_54 5 (dk_at dksX4_run_2 20 rfl rfl)
theorem dX4_run_69 : decode cX4_run 69 = .ok (.iconst 0, 1) := dk_3 (dk_at dksX4_run_2 22 rfl rfl)
theorem dX4_run_70 : decode cX4_run 70 = .ok (.istore 6, 2) := dk_54 6 (dk_at dksX4_run_3 0 rfl rfl)
theorem dX4_run_72 : decode cX4_run 72 = .ok (.iload 6, 2) := dk_21 6 (dk_at dksX4_run_3 2 rfl rfl)
theorem dX4_run_74 : decode cX4_run 74 = .ok (.aload_n 0, 1) := dk_42 (dk_at dksX4_run_3 4 rfl rfl)
theorem dX4_run_75 : decode cX4_run 75 = .ok (.getfield 155, 3) := dk_180 0 155 (dk_at dksX4_run_3 5 rfl rfl)
theorem dX4_run_78 : decode cX4_run 78 = .ok (.if_icmp .ge 41, 3) := dk_162 0 41 (dk_at dksX4_run_3 8 rfl rfl)
theorem dX4_run_81 : decode cX4_run 81 = .ok (.iload 5, 2) := dk_21 5 (dk_at dksX4_run_3 11 rfl rfl)
theorem dX4_run_83 : decode cX4_run 83 = .ok (.bipush 31, 2) := dk_16 31 (dk_at dksX4_run_3 13 rfl rfl)
theorem dX4_run_85 : decode cX4_run 85 = .ok (.iload_n 3, 1) := dk_29 (dk_at dksX4_run_3 15 rfl rfl)
theorem dX4_run_86 : decode cX4_run 86 = .ok (.imul, 1) := dk_104 (dk_at dksX4_run_3 16 rfl rfl)
theorem dX4_run_87 : decode cX4_run 87 = .ok (.bipush 17, 2) := dk_16 17 (dk_at dksX4_run_3 17 rfl rfl)
theorem dX4_run_89 : decode cX4_run 89 = .ok (.iload 6, 2) := dk_21 6 (dk_at dksX4_run_3 19 rfl rfl)
theorem dX4_run_91 : decode cX4_run 91 = .ok (.imul, 1) := dk_104 (dk_at dksX4_run_3 21 rfl rfl)
theorem dX4_run_92 : decode cX4_run 92 = .ok (.iadd, 1) := dk_96 (dk_at dksX4_run_3 22 rfl rfl)
theorem dX4_run_93 : decode cX4_run 93 = .ok (.bipush 7, 2) := dk_16 7 (dk_at dksX4_run_4 0 rfl rfl)
theorem dX4_run_95 : decode cX4_run 95 = .ok (.imul, 1) := dk_104 (dk_at dksX4_run_4 2 rfl rfl)
theorem dX4_run_96 : decode cX4_run 96 = .ok (.sipush 1000, 3) := dk_17 3 232 (dk_at dksX4_run_4 3 rfl rfl)
theorem dX4_run_99 : decode cX4_run 99 = .ok (.irem, 1) := dk_112 (dk_at dksX4_run_4 6 rfl rfl)
theorem dX4_run_100 : decode cX4_run 100 = .ok (.iload 4, 2) := dk_21 4 (dk_at dksX4_run_4 7 rfl rfl)
theorem dX4_run_102 : decode cX4_run 102 = .ok (.if_icmp .ge 7, 3) := dk_162 0 7 (dk_at dksX4_run_4 9 rfl rfl)
theorem dX4_run_105 : decode cX4_run 105 = .ok (.iconst 1, 1) := dk_4 (dk_at dksX4_run_4 12 rfl rfl)
theorem dX4_run_106 : decode cX4_run 106 = .ok (.goto 4, 3) := dk_167 0 4 (dk_at dksX4_run_4 13 rfl rfl)
theorem dX4_run_109 : decode cX4_run 109 = .ok (.iconst 0, 1) := dk_3 (dk_at dksX4_run_4 16 rfl rfl)
theorem dX4_run_110 : decode cX4_run 110 = .ok (.iadd, 1) := dk_96 (dk_at dksX4_run_4 17 rfl rfl)
theorem dX4_run_111 : decode cX4_run 111 = .ok (.istore 5, 2) := dk_54 5 (dk_at dksX4_run_4 18 rfl rfl)
theorem dX4_run_113 : decode cX4_run 113 = .ok (.iinc 6 1, 3) := dk_132 6 1 (dk_at dksX4_run_4 20 rfl rfl)
theorem dX4_run_116 : decode cX4_run 116 = .ok (.goto (-44), 3) := dk_167 255 212 (dk_at dksX4_run_5 0 rfl rfl)
theorem dX4_run_119 : decode cX4_run 119 = .ok (.iconst 0, 1) := dk_3 (dk_at dksX4_run_5 3 rfl rfl)
theorem dX4_run_120 : decode cX4_run 120 = .ok (.istore 6, 2) := dk_54 6 (dk_at dksX4_run_5 4 rfl rfl)
theorem dX4_run_122 : decode cX4_run 122 = .ok (.iconst 0, 1) := dk_3 (dk_at dksX4_run_5 6 rfl rfl)
theorem dX4_run_123 : decode cX4_run 123 = .ok (.istore 7, 2) := dk_54 7 (dk_at dksX4_run_5 7 rfl rfl)
theorem dX4_run_125 : decode cX4_run 125 = .ok (.iload 7, 2) := dk_21 7 (dk_at dksX4_run_5 9 rfl rfl)
theorem dX4_run_127 : decode cX4_run 127 = .ok (.ifCond .ne 150, 3) := dk_154 0 150 (dk_at dksX4_run_5 11 rfl rfl)
theorem dX4_run_130 : decode cX4_run 130 = .ok (.iload 6, 2) := dk_21 6 (dk_at dksX4_run_5 14 rfl rfl)
theorem dX4_run_132 : decode cX4_run 132 = .ok (.bipush 20, 2) := dk_16 20 (dk_at dksX4_run_5 16 rfl rfl)
theorem dX4_run_134 : decode cX4_run 134 = .ok (.if_icmp .ge 143, 3) := dk_162 0 143 (dk_at dksX4_run_5 18 rfl rfl)
theorem dX4_run_137 : decode cX4_run 137 = .ok (.aload_n 0, 1) := dk_42 (dk_at dksX4_run_5 21 rfl rfl)
theorem dX4_run_138 : decode cX4_run 138 = .ok (.aload_n 0, 1) := dk_42 (dk_at dksX4_run_5 22 rfl rfl)
theorem dX4_run_139 : decode cX4_run 139 = .ok (.getfield 9, 3) := dk_180 0 9 (dk_at dksX4_run_6 0 rfl rfl)
theorem dX4_run_142 : decode cX4_run 142 = .ok (.sipush 1000, 3) := dk_17 3 232 (dk_at dksX4_run_6 3 rfl rfl)
theorem dX4_run_145 : decode cX4_run 145 = .ok (.iload_n 1, 1) := dk_27 (dk_at dksX4_run_6 6 rfl rfl)
theorem dX4_run_146 : decode cX4_run 146 = .ok (.iadd, 1) := dk_96 (dk_at dksX4_run_6 7 rfl rfl)
theorem dX4_run_147 : decode cX4_run 147 = .ok (.iaload, 1) := dk_46 (dk_at dksX4_run_6 8 rfl rfl)
theorem dX4_run_148 : decode cX4_run 148 = .ok (.aload_n 0, 1) := dk_42 (dk_at dksX4_run_6 9 rfl rfl)
theorem dX4_run_149 : decode cX4_run 149 = .ok (.getfield 9, 3) := dk_180 0 9 (dk_at dksX4_run_6 10 rfl rfl)
theorem dX4_run_152 : decode cX4_run 152 = .ok (.sipush 1012, 3) := dk_17 3 244 (dk_at dksX4_run_6 13 rfl rfl)
theorem dX4_run_155 : decode cX4_run 155 = .ok (.iload_n 1, 1) := dk_27 (dk_at dksX4_run_6 16 rfl rfl)
theorem dX4_run_156 : decode cX4_run 156 = .ok (.iadd, 1) := dk_96 (dk_at dksX4_run_6 17 rfl rfl)
theorem dX4_run_157 : decode cX4_run 157 = .ok (.iaload, 1) := dk_46 (dk_at dksX4_run_6 18 rfl rfl)
theorem dX4_run_158 : decode cX4_run 158 = .ok (.iload_n 1, 1) := dk_27 (dk_at dksX4_run_6 19 rfl rfl)
theorem dX4_run_159 : decode cX4_run 159 = .ok (.iload 6, 2) := dk_21 6 (dk_at dksX4_run_6 20 rfl rfl)
theorem dX4_run_161 : decode cX4_run 161 = .ok (.invokevirtual 231, 3) := dk_182 0 231 (dk_at dksX4_run_7 0 rfl rfl)
theorem dX4_run_164 : decode cX4_run 164 = .ok (.ifCond .ne 113, 3) := dk_154 0 113 (dk_at dksX4_run_7 3 rfl rfl)
theorem dX4_run_167 : decode cX4_run 167 = .ok (.iload 5, 2) := dk_21 5 (dk_at dksX4_run_7 6 rfl rfl)
theorem dX4_run_169 : decode cX4_run 169 = .ok (.iconst 3, 1) := dk_6 (dk_at dksX4_run_7 8 rfl rfl)
theorem dX4_run_170 : decode cX4_run 170 = .ok (.if_icmp .ge 8, 3) := dk_162 0 8 (dk_at dksX4_run_7 9 rfl rfl)
theorem dX4_run_173 : decode cX4_run 173 = .ok (.iload 5, 2) := dk_21 5 (dk_at dksX4_run_7 12 rfl rfl)
theorem dX4_run_175 : decode cX4_run 175 = .ok (.goto 4, 3) := dk_167 0 4 (dk_at dksX4_run_7 14 rfl rfl)
theorem dX4_run_178 : decode cX4_run 178 = .ok (.iconst 3, 1) := dk_6 (dk_at dksX4_run_7 17 rfl rfl)
theorem dX4_run_179 : decode cX4_run 179 = .ok (.istore 8, 2) := dk_54 8 (dk_at dksX4_run_7 18 rfl rfl)
theorem dX4_run_181 : decode cX4_run 181 = .ok (.bipush 13, 2) := dk_16 13 (dk_at dksX4_run_7 20 rfl rfl)
theorem dX4_run_183 : decode cX4_run 183 = .ok (.iload_n 3, 1) := dk_29 (dk_at dksX4_run_7 22 rfl rfl)
theorem dX4_run_184 : decode cX4_run 184 = .ok (.imul, 1) := dk_104 (dk_at dksX4_run_7 23 rfl rfl)
theorem dX4_run_185 : decode cX4_run 185 = .ok (.bipush 29, 2) := dk_16 29 (dk_at dksX4_run_8 0 rfl rfl)
theorem dX4_run_187 : decode cX4_run 187 = .ok (.iload 6, 2) := dk_21 6 (dk_at dksX4_run_8 2 rfl rfl)
theorem dX4_run_189 : decode cX4_run 189 = .ok (.imul, 1) := dk_104 (dk_at dksX4_run_8 4 rfl rfl)
theorem dX4_run_190 : decode cX4_run 190 = .ok (.iadd, 1) := dk_96 (dk_at dksX4_run_8 5 rfl rfl)
theorem dX4_run_191 : decode cX4_run 191 = .ok (.iconst 3, 1) := dk_6 (dk_at dksX4_run_8 6 rfl rfl)
theorem dX4_run_192 : decode cX4_run 192 = .ok (.imul, 1) := dk_104 (dk_at dksX4_run_8 7 rfl rfl)
theorem dX4_run_193 : decode cX4_run 193 = .ok (.sipush 1000, 3) := dk_17 3 232 (dk_at dksX4_run_8 8 rfl rfl)
theorem dX4_run_196 : decode cX4_run 196 = .ok (.irem, 1) := dk_112 (dk_at dksX4_run_8 11 rfl rfl)
theorem dX4_run_197 : decode cX4_run 197 = .ok (.iload 8, 2) := dk_21 8 (dk_at dksX4_run_8 12 rfl rfl)
theorem dX4_run_199 : decode cX4_run 199 = .ok (.aload_n 0, 1) := dk_42 (dk_at dksX4_run_8 14 rfl rfl)
theorem dX4_run_200 : decode cX4_run 200 = .ok (.iconst 5, 1) := dk_8 (dk_at dksX4_run_8 15 rfl rfl)
theorem dX4_run_201 : decode cX4_run 201 = .ok (.invokevirtual 164, 3) := dk_182 0 164 (dk_at dksX4_run_8 16 rfl rfl)
theorem dX4_run_204 : decode cX4_run 204 = .ok (.imul, 1) := dk_104 (dk_at dksX4_run_8 19 rfl rfl)
theorem dX4_run_205 : decode cX4_run 205 = .ok (.if_icmp .ge 7, 3) := dk_162 0 7 (dk_at dksX4_run_8 20 rfl rfl)
theorem dX4_run_208 : decode cX4_run 208 = .ok (.iconst 1, 1) := dk_4 (dk_at dksX4_run_8 23 rfl rfl)
theorem dX4_run_209 : decode cX4_run 209 = .ok (.goto 4, 3) := dk_167 0 4 (dk_at dksX4_run_9 0 rfl rfl)
theorem dX4_run_212 : decode cX4_run 212 = .ok (.iconst 0, 1) := dk_3 (dk_at dksX4_run_9 3 rfl rfl)
theorem dX4_run_213 : decode cX4_run 213 = .ok (.istore 7, 2) := dk_54 7 (dk_at dksX4_run_9 4 rfl rfl)
theorem dX4_run_215 : decode cX4_run 215 = .ok (.iload 7, 2) := dk_21 7 (dk_at dksX4_run_9 6 rfl rfl)
theorem dX4_run_217 : decode cX4_run 217 = .ok (.ifCond .ne 57, 3) := dk_154 0 57 (dk_at dksX4_run_9 8 rfl rfl)
theorem dX4_run_220 : decode cX4_run 220 = .ok (.iload 5, 2) := dk_21 5 (dk_at dksX4_run_9 11 rfl rfl)
theorem dX4_run_222 : decode cX4_run 222 = .ok (.bipush 7, 2) := dk_16 7 (dk_at dksX4_run_9 13 rfl rfl)
theorem dX4_run_224 : decode cX4_run 224 = .ok (.iload_n 3, 1) := dk_29 (dk_at dksX4_run_9 15 rfl rfl)
theorem dX4_run_225 : decode cX4_run 225 = .ok (.imul, 1) := dk_104 (dk_at dksX4_run_9 16 rfl rfl)
theorem dX4_run_226 : decode cX4_run 226 = .ok (.bipush 11, 2) := dk_16 11 (dk_at dksX4_run_9 17 rfl rfl)
theorem dX4_run_228 : decode cX4_run 228 = .ok (.iload 6, 2) := dk_21 6 (dk_at dksX4_run_9 19 rfl rfl)
theorem dX4_run_230 : decode cX4_run 230 = .ok (.imul, 1) := dk_104 (dk_at dksX4_run_9 21 rfl rfl)
theorem dX4_run_231 : decode cX4_run 231 = .ok (.iadd, 1) := dk_96 (dk_at dksX4_run_9 22 rfl rfl)
theorem dX4_run_232 : decode cX4_run 232 = .ok (.sipush 1000, 3) := dk_17 3 232 (dk_at dksX4_run_10 0 rfl rfl)
theorem dX4_run_235 : decode cX4_run 235 = .ok (.irem, 1) := dk_112 (dk_at dksX4_run_10 3 rfl rfl)
theorem dX4_run_236 : decode cX4_run 236 = .ok (.iload 8, 2) := dk_21 8 (dk_at dksX4_run_10 4 rfl rfl)
theorem dX4_run_238 : decode cX4_run 238 = .ok (.aload_n 0, 1) := dk_42 (dk_at dksX4_run_10 6 rfl rfl)
theorem dX4_run_239 : decode cX4_run 239 = .ok (.iconst 4, 1) := dk_7 (dk_at dksX4_run_10 7 rfl rfl)
theorem dX4_run_240 : decode cX4_run 240 = .ok (.invokevirtual 164, 3) := dk_182 0 164 (dk_at dksX4_run_10 8 rfl rfl)
theorem dX4_run_243 : decode cX4_run 243 = .ok (.imul, 1) := dk_104 (dk_at dksX4_run_10 11 rfl rfl)
theorem dX4_run_244 : decode cX4_run 244 = .ok (.if_icmp .ge 16, 3) := dk_162 0 16 (dk_at dksX4_run_10 12 rfl rfl)
theorem dX4_run_247 : decode cX4_run 247 = .ok (.iload 5, 2) := dk_21 5 (dk_at dksX4_run_10 15 rfl rfl)
theorem dX4_run_249 : decode cX4_run 249 = .ok (.aload_n 0, 1) := dk_42 (dk_at dksX4_run_10 17 rfl rfl)
theorem dX4_run_250 : decode cX4_run 250 = .ok (.getfield 155, 3) := dk_180 0 155 (dk_at dksX4_run_10 18 rfl rfl)
theorem dX4_run_253 : decode cX4_run 253 = .ok (.if_icmp .ge 7, 3) := dk_162 0 7 (dk_at dksX4_run_10 21 rfl rfl)
theorem dX4_run_256 : decode cX4_run 256 = .ok (.iconst 1, 1) := dk_4 (dk_at dksX4_run_11 0 rfl rfl)
theorem dX4_run_257 : decode cX4_run 257 = .ok (.goto 4, 3) := dk_167 0 4 (dk_at dksX4_run_11 1 rfl rfl)
theorem dX4_run_260 : decode cX4_run 260 = .ok (.iconst 0, 1) := dk_3 (dk_at dksX4_run_11 4 rfl rfl)
theorem dX4_run_261 : decode cX4_run 261 = .ok (.iadd, 1) := dk_96 (dk_at dksX4_run_11 5 rfl rfl)
theorem dX4_run_262 : decode cX4_run 262 = .ok (.istore 5, 2) := dk_54 5 (dk_at dksX4_run_11 6 rfl rfl)
theorem dX4_run_264 : decode cX4_run 264 = .ok (.aload_n 0, 1) := dk_42 (dk_at dksX4_run_11 8 rfl rfl)
theorem dX4_run_265 : decode cX4_run 265 = .ok (.iconst 0, 1) := dk_3 (dk_at dksX4_run_11 9 rfl rfl)
theorem dX4_run_266 : decode cX4_run 266 = .ok (.invokevirtual 194, 3) := dk_182 0 194 (dk_at dksX4_run_11 10 rfl rfl)
theorem dX4_run_269 : decode cX4_run 269 = .ok (.istore 9, 2) := dk_54 9 (dk_at dksX4_run_11 13 rfl rfl)
theorem dX4_run_271 : decode cX4_run 271 = .ok (.iinc 6 1, 3) := dk_132 6 1 (dk_at dksX4_run_11 15 rfl rfl)
theorem dX4_run_274 : decode cX4_run 274 = .ok (.goto (-149), 3) := dk_167 255 107 (dk_at dksX4_run_11 18 rfl rfl)
theorem dX4_run_277 : decode cX4_run 277 = .ok (.iload 6, 2) := dk_21 6 (dk_at dksX4_run_11 21 rfl rfl)
theorem dX4_run_279 : decode cX4_run 279 = .ok (.bipush 100, 2) := dk_16 100 (dk_at dksX4_run_12 0 rfl rfl)
theorem dX4_run_281 : decode cX4_run 281 = .ok (.iload 5, 2) := dk_21 5 (dk_at dksX4_run_12 2 rfl rfl)
theorem dX4_run_283 : decode cX4_run 283 = .ok (.imul, 1) := dk_104 (dk_at dksX4_run_12 4 rfl rfl)
theorem dX4_run_284 : decode cX4_run 284 = .ok (.iadd, 1) := dk_96 (dk_at dksX4_run_12 5 rfl rfl)
theorem dX4_run_285 : decode cX4_run 285 = .ok (.iload 7, 2) := dk_21 7 (dk_at dksX4_run_12 6 rfl rfl)
theorem dX4_run_287 : decode cX4_run 287 = .ok (.ifCond .eq 9, 3) := dk_153 0 9 (dk_at dksX4_run_12 8 rfl rfl)
theorem dX4_run_290 : decode cX4_run 290 = .ok (.sipush 10000, 3) := dk_17 39 16 (dk_at dksX4_run_12 11 rfl rfl)
theorem dX4_run_293 : decode cX4_run 293 = .ok (.goto 4, 3) := dk_167 0 4 (dk_at dksX4_run_12 14 rfl rfl)
theorem dX4_run_296 : decode cX4_run 296 = .ok (.iconst 0, 1) := dk_3 (dk_at dksX4_run_12 17 rfl rfl)
theorem dX4_run_297 : decode cX4_run 297 = .ok (.iadd, 1) := dk_96 (dk_at dksX4_run_12 18 rfl rfl)
theorem dX4_run_298 : decode cX4_run 298 = .ok (.ireturn, 1) := dk_172 (dk_at dksX4_run_12 19 rfl rfl)
abbrev cX4_act : ByteArray := prog_21_method_79_code
def yX4_act : MethodName := ⟨RX4, "act", "(III)I"⟩
def dkwX4_act_3 : List UInt8 := [160, 0, 11, 42, 29, 182, 1, 36, 167, 0, 8, 42, 29, 182, 1, 42, 172]
abbrev dktX4_act_3 : List UInt8 := dkwX4_act_3 ++ []
def dkwX4_act_2 : List UInt8 := [17, 3, 244, 27, 96, 46, 181, 1, 27, 28, 154, 0, 11, 42, 29, 182, 1, 24, 167, 0, 21, 28, 4]
abbrev dktX4_act_2 : List UInt8 := dkwX4_act_2 ++ dktX4_act_3
def dkwX4_act_1 : List UInt8 := [42, 42, 180, 0, 9, 17, 3, 232, 27, 96, 46, 181, 1, 18, 42, 27, 181, 1, 15, 42, 42, 180, 0, 9]
abbrev dktX4_act_1 : List UInt8 := dkwX4_act_1 ++ dktX4_act_2
def dkwX4_act_0 : List UInt8 := [42, 3, 181, 1, 9, 42, 27, 182, 0, 206, 153, 0, 12, 28, 3, 5, 184, 0, 42, 154, 0, 5, 3, 172]
abbrev dktX4_act_0 : List UInt8 := dkwX4_act_0 ++ dktX4_act_1
theorem dksX4_act_0 : cX4_act.data.toList.drop 0 = dktX4_act_0 := by decide +kernel
theorem dksX4_act_1 : cX4_act.data.toList.drop 24 = dktX4_act_1 := dk_seg dksX4_act_0 24 rfl rfl
theorem dksX4_act_2 : cX4_act.data.toList.drop 48 = dktX4_act_2 := dk_seg dksX4_act_1 24 rfl rfl
theorem dksX4_act_3 : cX4_act.data.toList.drop 71 = dktX4_act_3 := dk_seg dksX4_act_2 23 rfl rfl
theorem dX4_act_0 : decode cX4_act 0 = .ok (.aload_n 0, 1) := dk_42 (dk_at dksX4_act_0 0 rfl rfl)
theorem dX4_act_1 : decode cX4_act 1 = .ok (.iconst 0, 1) := dk_3 (dk_at dksX4_act_0 1 rfl rfl)
theorem dX4_act_2 : decode cX4_act 2 = .ok (.putfield 265, 3) := dk_181 1 9 (dk_at dksX4_act_0 2 rfl rfl)
theorem dX4_act_5 : decode cX4_act 5 = .ok (.aload_n 0, 1) := dk_42 (dk_at dksX4_act_0 5 rfl rfl)
theorem dX4_act_6 : decode cX4_act 6 = .ok (.iload_n 1, 1) := dk_27 (dk_at dksX4_act_0 6 rfl rfl)
theorem dX4_act_7 : decode cX4_act 7 = .ok (.invokevirtual 206, 3) := dk_182 0 206 (dk_at dksX4_act_0 7 rfl rfl)
theorem dX4_act_10 : decode cX4_act 10 = .ok (.ifCond .eq 12, 3) := dk_153 0 12 (dk_at dksX4_act_0 10 rfl rfl)
theorem dX4_act_13 : decode cX4_act 13 = .ok (.iload_n 2, 1) := dk_28 (dk_at dksX4_act_0 13 rfl rfl)
theorem dX4_act_14 : decode cX4_act 14 = .ok (.iconst 0, 1) := dk_3 (dk_at dksX4_act_0 14 rfl rfl)
theorem dX4_act_15 : decode cX4_act 15 = .ok (.iconst 2, 1) := dk_5 (dk_at dksX4_act_0 15 rfl rfl)
theorem dX4_act_16 : decode cX4_act 16 = .ok (.invokestatic 42, 3) := dk_184 0 42 (dk_at dksX4_act_0 16 rfl rfl)
theorem dX4_act_19 : decode cX4_act 19 = .ok (.ifCond .ne 5, 3) := dk_154 0 5 (dk_at dksX4_act_0 19 rfl rfl)
theorem dX4_act_22 : decode cX4_act 22 = .ok (.iconst 0, 1) := dk_3 (dk_at dksX4_act_0 22 rfl rfl)
theorem dX4_act_23 : decode cX4_act 23 = .ok (.ireturn, 1) := dk_172 (dk_at dksX4_act_0 23 rfl rfl)
theorem dX4_act_24 : decode cX4_act 24 = .ok (.aload_n 0, 1) := dk_42 (dk_at dksX4_act_1 0 rfl rfl)
theorem dX4_act_25 : decode cX4_act 25 = .ok (.aload_n 0, 1) := dk_42 (dk_at dksX4_act_1 1 rfl rfl)
theorem dX4_act_26 : decode cX4_act 26 = .ok (.getfield 9, 3) := dk_180 0 9 (dk_at dksX4_act_1 2 rfl rfl)
theorem dX4_act_29 : decode cX4_act 29 = .ok (.sipush 1000, 3) := dk_17 3 232 (dk_at dksX4_act_1 5 rfl rfl)
theorem dX4_act_32 : decode cX4_act 32 = .ok (.iload_n 1, 1) := dk_27 (dk_at dksX4_act_1 8 rfl rfl)
theorem dX4_act_33 : decode cX4_act 33 = .ok (.iadd, 1) := dk_96 (dk_at dksX4_act_1 9 rfl rfl)
theorem dX4_act_34 : decode cX4_act 34 = .ok (.iaload, 1) := dk_46 (dk_at dksX4_act_1 10 rfl rfl)
theorem dX4_act_35 : decode cX4_act 35 = .ok (.putfield 274, 3) := dk_181 1 18 (dk_at dksX4_act_1 11 rfl rfl)
theorem dX4_act_38 : decode cX4_act 38 = .ok (.aload_n 0, 1) := dk_42 (dk_at dksX4_act_1 14 rfl rfl)
theorem dX4_act_39 : decode cX4_act 39 = .ok (.iload_n 1, 1) := dk_27 (dk_at dksX4_act_1 15 rfl rfl)
theorem dX4_act_40 : decode cX4_act 40 = .ok (.putfield 271, 3) := dk_181 1 15 (dk_at dksX4_act_1 16 rfl rfl)
theorem dX4_act_43 : decode cX4_act 43 = .ok (.aload_n 0, 1) := dk_42 (dk_at dksX4_act_1 19 rfl rfl)
theorem dX4_act_44 : decode cX4_act 44 = .ok (.aload_n 0, 1) := dk_42 (dk_at dksX4_act_1 20 rfl rfl)
theorem dX4_act_45 : decode cX4_act 45 = .ok (.getfield 9, 3) := dk_180 0 9 (dk_at dksX4_act_1 21 rfl rfl)
theorem dX4_act_48 : decode cX4_act 48 = .ok (.sipush 1012, 3) := dk_17 3 244 (dk_at dksX4_act_2 0 rfl rfl)
theorem dX4_act_51 : decode cX4_act 51 = .ok (.iload_n 1, 1) := dk_27 (dk_at dksX4_act_2 3 rfl rfl)
theorem dX4_act_52 : decode cX4_act 52 = .ok (.iadd, 1) := dk_96 (dk_at dksX4_act_2 4 rfl rfl)
theorem dX4_act_53 : decode cX4_act 53 = .ok (.iaload, 1) := dk_46 (dk_at dksX4_act_2 5 rfl rfl)
theorem dX4_act_54 : decode cX4_act 54 = .ok (.putfield 283, 3) := dk_181 1 27 (dk_at dksX4_act_2 6 rfl rfl)
theorem dX4_act_57 : decode cX4_act 57 = .ok (.iload_n 2, 1) := dk_28 (dk_at dksX4_act_2 9 rfl rfl)
theorem dX4_act_58 : decode cX4_act 58 = .ok (.ifCond .ne 11, 3) := dk_154 0 11 (dk_at dksX4_act_2 10 rfl rfl)
theorem dX4_act_61 : decode cX4_act 61 = .ok (.aload_n 0, 1) := dk_42 (dk_at dksX4_act_2 13 rfl rfl)
theorem dX4_act_62 : decode cX4_act 62 = .ok (.iload_n 3, 1) := dk_29 (dk_at dksX4_act_2 14 rfl rfl)
theorem dX4_act_63 : decode cX4_act 63 = .ok (.invokevirtual 280, 3) := dk_182 1 24 (dk_at dksX4_act_2 15 rfl rfl)
theorem dX4_act_66 : decode cX4_act 66 = .ok (.goto 21, 3) := dk_167 0 21 (dk_at dksX4_act_2 18 rfl rfl)
theorem dX4_act_69 : decode cX4_act 69 = .ok (.iload_n 2, 1) := dk_28 (dk_at dksX4_act_2 21 rfl rfl)
theorem dX4_act_70 : decode cX4_act 70 = .ok (.iconst 1, 1) := dk_4 (dk_at dksX4_act_2 22 rfl rfl)
theorem dX4_act_71 : decode cX4_act 71 = .ok (.if_icmp .ne 11, 3) := dk_160 0 11 (dk_at dksX4_act_3 0 rfl rfl)
theorem dX4_act_74 : decode cX4_act 74 = .ok (.aload_n 0, 1) := dk_42 (dk_at dksX4_act_3 3 rfl rfl)
theorem dX4_act_75 : decode cX4_act 75 = .ok (.iload_n 3, 1) := dk_29 (dk_at dksX4_act_3 4 rfl rfl)
theorem dX4_act_76 : decode cX4_act 76 = .ok (.invokevirtual 292, 3) := dk_182 1 36 (dk_at dksX4_act_3 5 rfl rfl)
theorem dX4_act_79 : decode cX4_act 79 = .ok (.goto 8, 3) := dk_167 0 8 (dk_at dksX4_act_3 8 rfl rfl)
theorem dX4_act_82 : decode cX4_act 82 = .ok (.aload_n 0, 1) := dk_42 (dk_at dksX4_act_3 11 rfl rfl)
theorem dX4_act_83 : decode cX4_act 83 = .ok (.iload_n 3, 1) := dk_29 (dk_at dksX4_act_3 12 rfl rfl)
theorem dX4_act_84 : decode cX4_act 84 = .ok (.invokevirtual 298, 3) := dk_182 1 42 (dk_at dksX4_act_3 13 rfl rfl)
theorem dX4_act_87 : decode cX4_act 87 = .ok (.ireturn, 1) := dk_172 (dk_at dksX4_act_3 16 rfl rfl)
abbrev cX4_holdsActs : ByteArray := prog_21_method_74_code
def yX4_holdsActs : MethodName := ⟨RX4, "holdsActs", "(I)I"⟩
def dkwX4_holdsActs_2 : List UInt8 := [42, 27, 182, 1, 21, 172]
abbrev dktX4_holdsActs_2 : List UInt8 := dkwX4_holdsActs_2 ++ []
def dkwX4_holdsActs_1 : List UInt8 := [180, 1, 18, 8, 160, 0, 20, 42, 16, 51, 182, 1, 12, 42, 27, 182, 1, 21, 42, 180, 1, 15, 130, 172]
abbrev dktX4_holdsActs_1 : List UInt8 := dkwX4_holdsActs_1 ++ dktX4_holdsActs_2
def dkwX4_holdsActs_0 : List UInt8 := [42, 180, 1, 18, 5, 160, 0, 16, 42, 16, 21, 182, 1, 12, 42, 27, 182, 1, 21, 116, 172, 42]
abbrev dktX4_holdsActs_0 : List UInt8 := dkwX4_holdsActs_0 ++ dktX4_holdsActs_1
theorem dksX4_holdsActs_0 : cX4_holdsActs.data.toList.drop 0 = dktX4_holdsActs_0 := by decide +kernel
theorem dksX4_holdsActs_1 : cX4_holdsActs.data.toList.drop 22 = dktX4_holdsActs_1 := dk_seg dksX4_holdsActs_0 22 rfl rfl
theorem dksX4_holdsActs_2 : cX4_holdsActs.data.toList.drop 46 = dktX4_holdsActs_2 := dk_seg dksX4_holdsActs_1 24 rfl rfl
theorem dX4_holdsActs_0 : decode cX4_holdsActs 0 = .ok (.aload_n 0, 1) := dk_42 (dk_at dksX4_holdsActs_0 0 rfl rfl)
theorem dX4_holdsActs_1 : decode cX4_holdsActs 1 = .ok (.getfield 274, 3) := dk_180 1 18 (dk_at dksX4_holdsActs_0 1 rfl rfl)
theorem dX4_holdsActs_4 : decode cX4_holdsActs 4 = .ok (.iconst 2, 1) := dk_5 (dk_at dksX4_holdsActs_0 4 rfl rfl)
theorem dX4_holdsActs_5 : decode cX4_holdsActs 5 = .ok (.if_icmp .ne 16, 3) := dk_160 0 16 (dk_at dksX4_holdsActs_0 5 rfl rfl)
theorem dX4_holdsActs_8 : decode cX4_holdsActs 8 = .ok (.aload_n 0, 1) := dk_42 (dk_at dksX4_holdsActs_0 8 rfl rfl)
theorem dX4_holdsActs_9 : decode cX4_holdsActs 9 = .ok (.bipush 21, 2) := dk_16 21 (dk_at dksX4_holdsActs_0 9 rfl rfl)
theorem dX4_holdsActs_11 : decode cX4_holdsActs 11 = .ok (.invokevirtual 268, 3) := dk_182 1 12 (dk_at dksX4_holdsActs_0 11 rfl rfl)
theorem dX4_holdsActs_14 : decode cX4_holdsActs 14 = .ok (.aload_n 0, 1) := dk_42 (dk_at dksX4_holdsActs_0 14 rfl rfl)
theorem dX4_holdsActs_15 : decode cX4_holdsActs 15 = .ok (.iload_n 1, 1) := dk_27 (dk_at dksX4_holdsActs_0 15 rfl rfl)
theorem dX4_holdsActs_16 : decode cX4_holdsActs 16 = .ok (.invokevirtual 277, 3) := dk_182 1 21 (dk_at dksX4_holdsActs_0 16 rfl rfl)
theorem dX4_holdsActs_19 : decode cX4_holdsActs 19 = .ok (.ineg, 1) := dk_116 (dk_at dksX4_holdsActs_0 19 rfl rfl)
theorem dX4_holdsActs_20 : decode cX4_holdsActs 20 = .ok (.ireturn, 1) := dk_172 (dk_at dksX4_holdsActs_0 20 rfl rfl)
theorem dX4_holdsActs_21 : decode cX4_holdsActs 21 = .ok (.aload_n 0, 1) := dk_42 (dk_at dksX4_holdsActs_0 21 rfl rfl)
theorem dX4_holdsActs_22 : decode cX4_holdsActs 22 = .ok (.getfield 274, 3) := dk_180 1 18 (dk_at dksX4_holdsActs_1 0 rfl rfl)
theorem dX4_holdsActs_25 : decode cX4_holdsActs 25 = .ok (.iconst 5, 1) := dk_8 (dk_at dksX4_holdsActs_1 3 rfl rfl)
theorem dX4_holdsActs_26 : decode cX4_holdsActs 26 = .ok (.if_icmp .ne 20, 3) := dk_160 0 20 (dk_at dksX4_holdsActs_1 4 rfl rfl)
theorem dX4_holdsActs_29 : decode cX4_holdsActs 29 = .ok (.aload_n 0, 1) := dk_42 (dk_at dksX4_holdsActs_1 7 rfl rfl)
theorem dX4_holdsActs_30 : decode cX4_holdsActs 30 = .ok (.bipush 51, 2) := dk_16 51 (dk_at dksX4_holdsActs_1 8 rfl rfl)
theorem dX4_holdsActs_32 : decode cX4_holdsActs 32 = .ok (.invokevirtual 268, 3) := dk_182 1 12 (dk_at dksX4_holdsActs_1 10 rfl rfl)
theorem dX4_holdsActs_35 : decode cX4_holdsActs 35 = .ok (.aload_n 0, 1) := dk_42 (dk_at dksX4_holdsActs_1 13 rfl rfl)
theorem dX4_holdsActs_36 : decode cX4_holdsActs 36 = .ok (.iload_n 1, 1) := dk_27 (dk_at dksX4_holdsActs_1 14 rfl rfl)
theorem dX4_holdsActs_37 : decode cX4_holdsActs 37 = .ok (.invokevirtual 277, 3) := dk_182 1 21 (dk_at dksX4_holdsActs_1 15 rfl rfl)
theorem dX4_holdsActs_40 : decode cX4_holdsActs 40 = .ok (.aload_n 0, 1) := dk_42 (dk_at dksX4_holdsActs_1 18 rfl rfl)
theorem dX4_holdsActs_41 : decode cX4_holdsActs 41 = .ok (.getfield 271, 3) := dk_180 1 15 (dk_at dksX4_holdsActs_1 19 rfl rfl)
theorem dX4_holdsActs_44 : decode cX4_holdsActs 44 = .ok (.ixor, 1) := dk_130 (dk_at dksX4_holdsActs_1 22 rfl rfl)
theorem dX4_holdsActs_45 : decode cX4_holdsActs 45 = .ok (.ireturn, 1) := dk_172 (dk_at dksX4_holdsActs_1 23 rfl rfl)
theorem dX4_holdsActs_46 : decode cX4_holdsActs 46 = .ok (.aload_n 0, 1) := dk_42 (dk_at dksX4_holdsActs_2 0 rfl rfl)
theorem dX4_holdsActs_47 : decode cX4_holdsActs 47 = .ok (.iload_n 1, 1) := dk_27 (dk_at dksX4_holdsActs_2 1 rfl rfl)
theorem dX4_holdsActs_48 : decode cX4_holdsActs 48 = .ok (.invokevirtual 277, 3) := dk_182 1 21 (dk_at dksX4_holdsActs_2 2 rfl rfl)
theorem dX4_holdsActs_51 : decode cX4_holdsActs 51 = .ok (.ireturn, 1) := dk_172 (dk_at dksX4_holdsActs_2 5 rfl rfl)
abbrev cX4_runs : ByteArray := prog_21_method_71_code
def yX4_runs : MethodName := ⟨RX4, "runs", "(I)V"⟩
def dkwX4_runs_1 : List UInt8 := [4, 96, 181, 1, 9, 177]
abbrev dktX4_runs_1 : List UInt8 := dkwX4_runs_1 ++ []
def dkwX4_runs_0 : List UInt8 := [42, 180, 1, 9, 16, 20, 162, 0, 13, 42, 180, 0, 35, 42, 180, 1, 9, 27, 79, 42, 89, 180, 1, 9]
abbrev dktX4_runs_0 : List UInt8 := dkwX4_runs_0 ++ dktX4_runs_1
theorem dksX4_runs_0 : cX4_runs.data.toList.drop 0 = dktX4_runs_0 := by decide +kernel
theorem dksX4_runs_1 : cX4_runs.data.toList.drop 24 = dktX4_runs_1 := dk_seg dksX4_runs_0 24 rfl rfl
theorem dX4_runs_0 : decode cX4_runs 0 = .ok (.aload_n 0, 1) := dk_42 (dk_at dksX4_runs_0 0 rfl rfl)
theorem dX4_runs_1 : decode cX4_runs 1 = .ok (.getfield 265, 3) := dk_180 1 9 (dk_at dksX4_runs_0 1 rfl rfl)
theorem dX4_runs_4 : decode cX4_runs 4 = .ok (.bipush 20, 2) := dk_16 20 (dk_at dksX4_runs_0 4 rfl rfl)
theorem dX4_runs_6 : decode cX4_runs 6 = .ok (.if_icmp .ge 13, 3) := dk_162 0 13 (dk_at dksX4_runs_0 6 rfl rfl)
theorem dX4_runs_9 : decode cX4_runs 9 = .ok (.aload_n 0, 1) := dk_42 (dk_at dksX4_runs_0 9 rfl rfl)
theorem dX4_runs_10 : decode cX4_runs 10 = .ok (.getfield 35, 3) := dk_180 0 35 (dk_at dksX4_runs_0 10 rfl rfl)
theorem dX4_runs_13 : decode cX4_runs 13 = .ok (.aload_n 0, 1) := dk_42 (dk_at dksX4_runs_0 13 rfl rfl)
theorem dX4_runs_14 : decode cX4_runs 14 = .ok (.getfield 265, 3) := dk_180 1 9 (dk_at dksX4_runs_0 14 rfl rfl)
theorem dX4_runs_17 : decode cX4_runs 17 = .ok (.iload_n 1, 1) := dk_27 (dk_at dksX4_runs_0 17 rfl rfl)
theorem dX4_runs_18 : decode cX4_runs 18 = .ok (.iastore, 1) := dk_79 (dk_at dksX4_runs_0 18 rfl rfl)
theorem dX4_runs_19 : decode cX4_runs 19 = .ok (.aload_n 0, 1) := dk_42 (dk_at dksX4_runs_0 19 rfl rfl)
theorem dX4_runs_20 : decode cX4_runs 20 = .ok (.dup, 1) := dk_89 (dk_at dksX4_runs_0 20 rfl rfl)
theorem dX4_runs_21 : decode cX4_runs 21 = .ok (.getfield 265, 3) := dk_180 1 9 (dk_at dksX4_runs_0 21 rfl rfl)
theorem dX4_runs_24 : decode cX4_runs 24 = .ok (.iconst 1, 1) := dk_4 (dk_at dksX4_runs_1 0 rfl rfl)
theorem dX4_runs_25 : decode cX4_runs 25 = .ok (.iadd, 1) := dk_96 (dk_at dksX4_runs_1 1 rfl rfl)
theorem dX4_runs_26 : decode cX4_runs 26 = .ok (.putfield 265, 3) := dk_181 1 9 (dk_at dksX4_runs_1 2 rfl rfl)
theorem dX4_runs_29 : decode cX4_runs 29 = .ok (.return_, 1) := dk_177 (dk_at dksX4_runs_1 5 rfl rfl)
abbrev cX4_plainHolds : ByteArray := prog_21_method_73_code
def yX4_plainHolds : MethodName := ⟨RX4, "plainHolds", "(I)I"⟩
def dkwX4_plainHolds_0 : List UInt8 := [42, 4, 182, 1, 12, 27, 42, 180, 1, 15, 96, 172]
abbrev dktX4_plainHolds_0 : List UInt8 := dkwX4_plainHolds_0 ++ []
theorem dksX4_plainHolds_0 : cX4_plainHolds.data.toList.drop 0 = dktX4_plainHolds_0 := by decide +kernel
theorem dX4_plainHolds_0 : decode cX4_plainHolds 0 = .ok (.aload_n 0, 1) := dk_42 (dk_at dksX4_plainHolds_0 0 rfl rfl)
theorem dX4_plainHolds_1 : decode cX4_plainHolds 1 = .ok (.iconst 1, 1) := dk_4 (dk_at dksX4_plainHolds_0 1 rfl rfl)
theorem dX4_plainHolds_2 : decode cX4_plainHolds 2 = .ok (.invokevirtual 268, 3) := dk_182 1 12 (dk_at dksX4_plainHolds_0 2 rfl rfl)
theorem dX4_plainHolds_5 : decode cX4_plainHolds 5 = .ok (.iload_n 1, 1) := dk_27 (dk_at dksX4_plainHolds_0 5 rfl rfl)
theorem dX4_plainHolds_6 : decode cX4_plainHolds 6 = .ok (.aload_n 0, 1) := dk_42 (dk_at dksX4_plainHolds_0 6 rfl rfl)
theorem dX4_plainHolds_7 : decode cX4_plainHolds 7 = .ok (.getfield 271, 3) := dk_180 1 15 (dk_at dksX4_plainHolds_0 7 rfl rfl)
theorem dX4_plainHolds_10 : decode cX4_plainHolds 10 = .ok (.iadd, 1) := dk_96 (dk_at dksX4_plainHolds_0 10 rfl rfl)
theorem dX4_plainHolds_11 : decode cX4_plainHolds 11 = .ok (.ireturn, 1) := dk_172 (dk_at dksX4_plainHolds_0 11 rfl rfl)
abbrev cX4_letsActs : ByteArray := prog_21_method_76_code
def yX4_letsActs : MethodName := ⟨RX4, "letsActs", "(I)I"⟩
def dkwX4_letsActs_2 : List UInt8 := [182, 1, 30, 172, 42, 27, 182, 1, 30, 172]
abbrev dktX4_letsActs_2 : List UInt8 := dkwX4_letsActs_2 ++ []
def dkwX4_letsActs_1 : List UInt8 := [96, 172, 42, 180, 1, 18, 4, 184, 1, 33, 153, 0, 17, 42, 16, 11, 182, 1, 12, 42, 27, 6, 104]
abbrev dktX4_letsActs_1 : List UInt8 := dkwX4_letsActs_1 ++ dktX4_letsActs_2
def dkwX4_letsActs_0 : List UInt8 := [42, 180, 1, 18, 16, 6, 160, 0, 20, 42, 16, 61, 182, 1, 12, 42, 27, 182, 1, 30, 42, 180, 1, 27]
abbrev dktX4_letsActs_0 : List UInt8 := dkwX4_letsActs_0 ++ dktX4_letsActs_1
theorem dksX4_letsActs_0 : cX4_letsActs.data.toList.drop 0 = dktX4_letsActs_0 := by decide +kernel
theorem dksX4_letsActs_1 : cX4_letsActs.data.toList.drop 24 = dktX4_letsActs_1 := dk_seg dksX4_letsActs_0 24 rfl rfl
theorem dksX4_letsActs_2 : cX4_letsActs.data.toList.drop 47 = dktX4_letsActs_2 := dk_seg dksX4_letsActs_1 23 rfl rfl
theorem dX4_letsActs_0 : decode cX4_letsActs 0 = .ok (.aload_n 0, 1) := dk_42 (dk_at dksX4_letsActs_0 0 rfl rfl)
theorem dX4_letsActs_1 : decode cX4_letsActs 1 = .ok (.getfield 274, 3) := dk_180 1 18 (dk_at dksX4_letsActs_0 1 rfl rfl)
theorem dX4_letsActs_4 : decode cX4_letsActs 4 = .ok (.bipush 6, 2) := dk_16 6 (dk_at dksX4_letsActs_0 4 rfl rfl)
theorem dX4_letsActs_6 : decode cX4_letsActs 6 = .ok (.if_icmp .ne 20, 3) := dk_160 0 20 (dk_at dksX4_letsActs_0 6 rfl rfl)
theorem dX4_letsActs_9 : decode cX4_letsActs 9 = .ok (.aload_n 0, 1) := dk_42 (dk_at dksX4_letsActs_0 9 rfl rfl)
theorem dX4_letsActs_10 : decode cX4_letsActs 10 = .ok (.bipush 61, 2) := dk_16 61 (dk_at dksX4_letsActs_0 10 rfl rfl)
theorem dX4_letsActs_12 : decode cX4_letsActs 12 = .ok (.invokevirtual 268, 3) := dk_182 1 12 (dk_at dksX4_letsActs_0 12 rfl rfl)
theorem dX4_letsActs_15 : decode cX4_letsActs 15 = .ok (.aload_n 0, 1) := dk_42 (dk_at dksX4_letsActs_0 15 rfl rfl)
theorem dX4_letsActs_16 : decode cX4_letsActs 16 = .ok (.iload_n 1, 1) := dk_27 (dk_at dksX4_letsActs_0 16 rfl rfl)
theorem dX4_letsActs_17 : decode cX4_letsActs 17 = .ok (.invokevirtual 286, 3) := dk_182 1 30 (dk_at dksX4_letsActs_0 17 rfl rfl)
theorem dX4_letsActs_20 : decode cX4_letsActs 20 = .ok (.aload_n 0, 1) := dk_42 (dk_at dksX4_letsActs_0 20 rfl rfl)
theorem dX4_letsActs_21 : decode cX4_letsActs 21 = .ok (.getfield 283, 3) := dk_180 1 27 (dk_at dksX4_letsActs_0 21 rfl rfl)
theorem dX4_letsActs_24 : decode cX4_letsActs 24 = .ok (.iadd, 1) := dk_96 (dk_at dksX4_letsActs_1 0 rfl rfl)
theorem dX4_letsActs_25 : decode cX4_letsActs 25 = .ok (.ireturn, 1) := dk_172 (dk_at dksX4_letsActs_1 1 rfl rfl)
theorem dX4_letsActs_26 : decode cX4_letsActs 26 = .ok (.aload_n 0, 1) := dk_42 (dk_at dksX4_letsActs_1 2 rfl rfl)
theorem dX4_letsActs_27 : decode cX4_letsActs 27 = .ok (.getfield 274, 3) := dk_180 1 18 (dk_at dksX4_letsActs_1 3 rfl rfl)
theorem dX4_letsActs_30 : decode cX4_letsActs 30 = .ok (.iconst 1, 1) := dk_4 (dk_at dksX4_letsActs_1 6 rfl rfl)
theorem dX4_letsActs_31 : decode cX4_letsActs 31 = .ok (.invokestatic 289, 3) := dk_184 1 33 (dk_at dksX4_letsActs_1 7 rfl rfl)
theorem dX4_letsActs_34 : decode cX4_letsActs 34 = .ok (.ifCond .eq 17, 3) := dk_153 0 17 (dk_at dksX4_letsActs_1 10 rfl rfl)
theorem dX4_letsActs_37 : decode cX4_letsActs 37 = .ok (.aload_n 0, 1) := dk_42 (dk_at dksX4_letsActs_1 13 rfl rfl)
theorem dX4_letsActs_38 : decode cX4_letsActs 38 = .ok (.bipush 11, 2) := dk_16 11 (dk_at dksX4_letsActs_1 14 rfl rfl)
theorem dX4_letsActs_40 : decode cX4_letsActs 40 = .ok (.invokevirtual 268, 3) := dk_182 1 12 (dk_at dksX4_letsActs_1 16 rfl rfl)
theorem dX4_letsActs_43 : decode cX4_letsActs 43 = .ok (.aload_n 0, 1) := dk_42 (dk_at dksX4_letsActs_1 19 rfl rfl)
theorem dX4_letsActs_44 : decode cX4_letsActs 44 = .ok (.iload_n 1, 1) := dk_27 (dk_at dksX4_letsActs_1 20 rfl rfl)
theorem dX4_letsActs_45 : decode cX4_letsActs 45 = .ok (.iconst 3, 1) := dk_6 (dk_at dksX4_letsActs_1 21 rfl rfl)
theorem dX4_letsActs_46 : decode cX4_letsActs 46 = .ok (.imul, 1) := dk_104 (dk_at dksX4_letsActs_1 22 rfl rfl)
theorem dX4_letsActs_47 : decode cX4_letsActs 47 = .ok (.invokevirtual 286, 3) := dk_182 1 30 (dk_at dksX4_letsActs_2 0 rfl rfl)
theorem dX4_letsActs_50 : decode cX4_letsActs 50 = .ok (.ireturn, 1) := dk_172 (dk_at dksX4_letsActs_2 3 rfl rfl)
theorem dX4_letsActs_51 : decode cX4_letsActs 51 = .ok (.aload_n 0, 1) := dk_42 (dk_at dksX4_letsActs_2 4 rfl rfl)
theorem dX4_letsActs_52 : decode cX4_letsActs 52 = .ok (.iload_n 1, 1) := dk_27 (dk_at dksX4_letsActs_2 5 rfl rfl)
theorem dX4_letsActs_53 : decode cX4_letsActs 53 = .ok (.invokevirtual 286, 3) := dk_182 1 30 (dk_at dksX4_letsActs_2 6 rfl rfl)
theorem dX4_letsActs_56 : decode cX4_letsActs 56 = .ok (.ireturn, 1) := dk_172 (dk_at dksX4_letsActs_2 9 rfl rfl)
abbrev cX4_plainLets : ByteArray := prog_21_method_75_code
def yX4_plainLets : MethodName := ⟨RX4, "plainLets", "(I)I"⟩
def dkwX4_plainLets_0 : List UInt8 := [42, 5, 182, 1, 12, 42, 27, 182, 1, 24, 42, 180, 1, 27, 100, 172]
abbrev dktX4_plainLets_0 : List UInt8 := dkwX4_plainLets_0 ++ []
theorem dksX4_plainLets_0 : cX4_plainLets.data.toList.drop 0 = dktX4_plainLets_0 := by decide +kernel
theorem dX4_plainLets_0 : decode cX4_plainLets 0 = .ok (.aload_n 0, 1) := dk_42 (dk_at dksX4_plainLets_0 0 rfl rfl)
theorem dX4_plainLets_1 : decode cX4_plainLets 1 = .ok (.iconst 2, 1) := dk_5 (dk_at dksX4_plainLets_0 1 rfl rfl)
theorem dX4_plainLets_2 : decode cX4_plainLets 2 = .ok (.invokevirtual 268, 3) := dk_182 1 12 (dk_at dksX4_plainLets_0 2 rfl rfl)
theorem dX4_plainLets_5 : decode cX4_plainLets 5 = .ok (.aload_n 0, 1) := dk_42 (dk_at dksX4_plainLets_0 5 rfl rfl)
theorem dX4_plainLets_6 : decode cX4_plainLets 6 = .ok (.iload_n 1, 1) := dk_27 (dk_at dksX4_plainLets_0 6 rfl rfl)
theorem dX4_plainLets_7 : decode cX4_plainLets 7 = .ok (.invokevirtual 280, 3) := dk_182 1 24 (dk_at dksX4_plainLets_0 7 rfl rfl)
theorem dX4_plainLets_10 : decode cX4_plainLets 10 = .ok (.aload_n 0, 1) := dk_42 (dk_at dksX4_plainLets_0 10 rfl rfl)
theorem dX4_plainLets_11 : decode cX4_plainLets 11 = .ok (.getfield 283, 3) := dk_180 1 27 (dk_at dksX4_plainLets_0 11 rfl rfl)
theorem dX4_plainLets_14 : decode cX4_plainLets 14 = .ok (.isub, 1) := dk_100 (dk_at dksX4_plainLets_0 14 rfl rfl)
theorem dX4_plainLets_15 : decode cX4_plainLets 15 = .ok (.ireturn, 1) := dk_172 (dk_at dksX4_plainLets_0 15 rfl rfl)
abbrev cX4_isUnder : ByteArray := prog_21_method_72_code
def yX4_isUnder : MethodName := ⟨RX4, "isUnder", "(II)Z"⟩
def dkwX4_isUnder_1 : List UInt8 := [27, 7, 160, 0, 13, 26, 16, 6, 160, 0, 7, 4, 167, 0, 4, 3, 172]
abbrev dktX4_isUnder_1 : List UInt8 := dkwX4_isUnder_1 ++ []
def dkwX4_isUnder_0 : List UInt8 := [27, 153, 0, 34, 27, 26, 159, 0, 29, 27, 4, 160, 0, 13, 26, 5, 159, 0, 19, 26, 6, 159, 0, 14]
abbrev dktX4_isUnder_0 : List UInt8 := dkwX4_isUnder_0 ++ dktX4_isUnder_1
theorem dksX4_isUnder_0 : cX4_isUnder.data.toList.drop 0 = dktX4_isUnder_0 := by decide +kernel
theorem dksX4_isUnder_1 : cX4_isUnder.data.toList.drop 24 = dktX4_isUnder_1 := dk_seg dksX4_isUnder_0 24 rfl rfl
theorem dX4_isUnder_0 : decode cX4_isUnder 0 = .ok (.iload_n 1, 1) := dk_27 (dk_at dksX4_isUnder_0 0 rfl rfl)
theorem dX4_isUnder_1 : decode cX4_isUnder 1 = .ok (.ifCond .eq 34, 3) := dk_153 0 34 (dk_at dksX4_isUnder_0 1 rfl rfl)
theorem dX4_isUnder_4 : decode cX4_isUnder 4 = .ok (.iload_n 1, 1) := dk_27 (dk_at dksX4_isUnder_0 4 rfl rfl)
theorem dX4_isUnder_5 : decode cX4_isUnder 5 = .ok (.iload_n 0, 1) := dk_26 (dk_at dksX4_isUnder_0 5 rfl rfl)
theorem dX4_isUnder_6 : decode cX4_isUnder 6 = .ok (.if_icmp .eq 29, 3) := dk_159 0 29 (dk_at dksX4_isUnder_0 6 rfl rfl)
theorem dX4_isUnder_9 : decode cX4_isUnder 9 = .ok (.iload_n 1, 1) := dk_27 (dk_at dksX4_isUnder_0 9 rfl rfl)
theorem dX4_isUnder_10 : decode cX4_isUnder 10 = .ok (.iconst 1, 1) := dk_4 (dk_at dksX4_isUnder_0 10 rfl rfl)
theorem dX4_isUnder_11 : decode cX4_isUnder 11 = .ok (.if_icmp .ne 13, 3) := dk_160 0 13 (dk_at dksX4_isUnder_0 11 rfl rfl)
theorem dX4_isUnder_14 : decode cX4_isUnder 14 = .ok (.iload_n 0, 1) := dk_26 (dk_at dksX4_isUnder_0 14 rfl rfl)
theorem dX4_isUnder_15 : decode cX4_isUnder 15 = .ok (.iconst 2, 1) := dk_5 (dk_at dksX4_isUnder_0 15 rfl rfl)
theorem dX4_isUnder_16 : decode cX4_isUnder 16 = .ok (.if_icmp .eq 19, 3) := dk_159 0 19 (dk_at dksX4_isUnder_0 16 rfl rfl)
theorem dX4_isUnder_19 : decode cX4_isUnder 19 = .ok (.iload_n 0, 1) := dk_26 (dk_at dksX4_isUnder_0 19 rfl rfl)
theorem dX4_isUnder_20 : decode cX4_isUnder 20 = .ok (.iconst 3, 1) := dk_6 (dk_at dksX4_isUnder_0 20 rfl rfl)
theorem dX4_isUnder_21 : decode cX4_isUnder 21 = .ok (.if_icmp .eq 14, 3) := dk_159 0 14 (dk_at dksX4_isUnder_0 21 rfl rfl)
theorem dX4_isUnder_24 : decode cX4_isUnder 24 = .ok (.iload_n 1, 1) := dk_27 (dk_at dksX4_isUnder_1 0 rfl rfl)
theorem dX4_isUnder_25 : decode cX4_isUnder 25 = .ok (.iconst 4, 1) := dk_7 (dk_at dksX4_isUnder_1 1 rfl rfl)
theorem dX4_isUnder_26 : decode cX4_isUnder 26 = .ok (.if_icmp .ne 13, 3) := dk_160 0 13 (dk_at dksX4_isUnder_1 2 rfl rfl)
theorem dX4_isUnder_29 : decode cX4_isUnder 29 = .ok (.iload_n 0, 1) := dk_26 (dk_at dksX4_isUnder_1 5 rfl rfl)
theorem dX4_isUnder_30 : decode cX4_isUnder 30 = .ok (.bipush 6, 2) := dk_16 6 (dk_at dksX4_isUnder_1 6 rfl rfl)
theorem dX4_isUnder_32 : decode cX4_isUnder 32 = .ok (.if_icmp .ne 7, 3) := dk_160 0 7 (dk_at dksX4_isUnder_1 8 rfl rfl)
theorem dX4_isUnder_35 : decode cX4_isUnder 35 = .ok (.iconst 1, 1) := dk_4 (dk_at dksX4_isUnder_1 11 rfl rfl)
theorem dX4_isUnder_36 : decode cX4_isUnder 36 = .ok (.goto 4, 3) := dk_167 0 4 (dk_at dksX4_isUnder_1 12 rfl rfl)
theorem dX4_isUnder_39 : decode cX4_isUnder 39 = .ok (.iconst 0, 1) := dk_3 (dk_at dksX4_isUnder_1 15 rfl rfl)
theorem dX4_isUnder_40 : decode cX4_isUnder 40 = .ok (.ireturn, 1) := dk_172 (dk_at dksX4_isUnder_1 16 rfl rfl)
abbrev cX4_costsActs : ByteArray := prog_21_method_78_code
def yX4_costsActs : MethodName := ⟨RX4, "costsActs", "(I)I"⟩
def dkwX4_costsActs_2 : List UInt8 := [28, 42, 5, 182, 1, 24, 96, 172, 42, 27, 182, 1, 39, 172]
abbrev dktX4_costsActs_2 : List UInt8 := dkwX4_costsActs_2 ++ []
def dkwX4_costsActs_1 : List UInt8 := [180, 1, 18, 7, 184, 1, 33, 153, 0, 25, 42, 16, 41, 182, 1, 12, 42, 27, 4, 100, 182, 1, 39, 61]
abbrev dktX4_costsActs_1 : List UInt8 := dkwX4_costsActs_1 ++ dktX4_costsActs_2
def dkwX4_costsActs_0 : List UInt8 := [42, 180, 1, 18, 6, 160, 0, 18, 42, 16, 31, 182, 1, 12, 42, 27, 182, 1, 39, 16, 7, 130, 172, 42]
abbrev dktX4_costsActs_0 : List UInt8 := dkwX4_costsActs_0 ++ dktX4_costsActs_1
theorem dksX4_costsActs_0 : cX4_costsActs.data.toList.drop 0 = dktX4_costsActs_0 := by decide +kernel
theorem dksX4_costsActs_1 : cX4_costsActs.data.toList.drop 24 = dktX4_costsActs_1 := dk_seg dksX4_costsActs_0 24 rfl rfl
theorem dksX4_costsActs_2 : cX4_costsActs.data.toList.drop 48 = dktX4_costsActs_2 := dk_seg dksX4_costsActs_1 24 rfl rfl
theorem dX4_costsActs_0 : decode cX4_costsActs 0 = .ok (.aload_n 0, 1) := dk_42 (dk_at dksX4_costsActs_0 0 rfl rfl)
theorem dX4_costsActs_1 : decode cX4_costsActs 1 = .ok (.getfield 274, 3) := dk_180 1 18 (dk_at dksX4_costsActs_0 1 rfl rfl)
theorem dX4_costsActs_4 : decode cX4_costsActs 4 = .ok (.iconst 3, 1) := dk_6 (dk_at dksX4_costsActs_0 4 rfl rfl)
theorem dX4_costsActs_5 : decode cX4_costsActs 5 = .ok (.if_icmp .ne 18, 3) := dk_160 0 18 (dk_at dksX4_costsActs_0 5 rfl rfl)
theorem dX4_costsActs_8 : decode cX4_costsActs 8 = .ok (.aload_n 0, 1) := dk_42 (dk_at dksX4_costsActs_0 8 rfl rfl)
theorem dX4_costsActs_9 : decode cX4_costsActs 9 = .ok (.bipush 31, 2) := dk_16 31 (dk_at dksX4_costsActs_0 9 rfl rfl)
theorem dX4_costsActs_11 : decode cX4_costsActs 11 = .ok (.invokevirtual 268, 3) := dk_182 1 12 (dk_at dksX4_costsActs_0 11 rfl rfl)
theorem dX4_costsActs_14 : decode cX4_costsActs 14 = .ok (.aload_n 0, 1) := dk_42 (dk_at dksX4_costsActs_0 14 rfl rfl)
theorem dX4_costsActs_15 : decode cX4_costsActs 15 = .ok (.iload_n 1, 1) := dk_27 (dk_at dksX4_costsActs_0 15 rfl rfl)
theorem dX4_costsActs_16 : decode cX4_costsActs 16 = .ok (.invokevirtual 295, 3) := dk_182 1 39 (dk_at dksX4_costsActs_0 16 rfl rfl)
theorem dX4_costsActs_19 : decode cX4_costsActs 19 = .ok (.bipush 7, 2) := dk_16 7 (dk_at dksX4_costsActs_0 19 rfl rfl)
theorem dX4_costsActs_21 : decode cX4_costsActs 21 = .ok (.ixor, 1) := dk_130 (dk_at dksX4_costsActs_0 21 rfl rfl)
theorem dX4_costsActs_22 : decode cX4_costsActs 22 = .ok (.ireturn, 1) := dk_172 (dk_at dksX4_costsActs_0 22 rfl rfl)
theorem dX4_costsActs_23 : decode cX4_costsActs 23 = .ok (.aload_n 0, 1) := dk_42 (dk_at dksX4_costsActs_0 23 rfl rfl)
theorem dX4_costsActs_24 : decode cX4_costsActs 24 = .ok (.getfield 274, 3) := dk_180 1 18 (dk_at dksX4_costsActs_1 0 rfl rfl)
theorem dX4_costsActs_27 : decode cX4_costsActs 27 = .ok (.iconst 4, 1) := dk_7 (dk_at dksX4_costsActs_1 3 rfl rfl)
theorem dX4_costsActs_28 : decode cX4_costsActs 28 = .ok (.invokestatic 289, 3) := dk_184 1 33 (dk_at dksX4_costsActs_1 4 rfl rfl)
theorem dX4_costsActs_31 : decode cX4_costsActs 31 = .ok (.ifCond .eq 25, 3) := dk_153 0 25 (dk_at dksX4_costsActs_1 7 rfl rfl)
theorem dX4_costsActs_34 : decode cX4_costsActs 34 = .ok (.aload_n 0, 1) := dk_42 (dk_at dksX4_costsActs_1 10 rfl rfl)
theorem dX4_costsActs_35 : decode cX4_costsActs 35 = .ok (.bipush 41, 2) := dk_16 41 (dk_at dksX4_costsActs_1 11 rfl rfl)
theorem dX4_costsActs_37 : decode cX4_costsActs 37 = .ok (.invokevirtual 268, 3) := dk_182 1 12 (dk_at dksX4_costsActs_1 13 rfl rfl)
theorem dX4_costsActs_40 : decode cX4_costsActs 40 = .ok (.aload_n 0, 1) := dk_42 (dk_at dksX4_costsActs_1 16 rfl rfl)
theorem dX4_costsActs_41 : decode cX4_costsActs 41 = .ok (.iload_n 1, 1) := dk_27 (dk_at dksX4_costsActs_1 17 rfl rfl)
theorem dX4_costsActs_42 : decode cX4_costsActs 42 = .ok (.iconst 1, 1) := dk_4 (dk_at dksX4_costsActs_1 18 rfl rfl)
theorem dX4_costsActs_43 : decode cX4_costsActs 43 = .ok (.isub, 1) := dk_100 (dk_at dksX4_costsActs_1 19 rfl rfl)
theorem dX4_costsActs_44 : decode cX4_costsActs 44 = .ok (.invokevirtual 295, 3) := dk_182 1 39 (dk_at dksX4_costsActs_1 20 rfl rfl)
theorem dX4_costsActs_47 : decode cX4_costsActs 47 = .ok (.istore_n 2, 1) := dk_61 (dk_at dksX4_costsActs_1 23 rfl rfl)
theorem dX4_costsActs_48 : decode cX4_costsActs 48 = .ok (.iload_n 2, 1) := dk_28 (dk_at dksX4_costsActs_2 0 rfl rfl)
theorem dX4_costsActs_49 : decode cX4_costsActs 49 = .ok (.aload_n 0, 1) := dk_42 (dk_at dksX4_costsActs_2 1 rfl rfl)
theorem dX4_costsActs_50 : decode cX4_costsActs 50 = .ok (.iconst 2, 1) := dk_5 (dk_at dksX4_costsActs_2 2 rfl rfl)
theorem dX4_costsActs_51 : decode cX4_costsActs 51 = .ok (.invokevirtual 280, 3) := dk_182 1 24 (dk_at dksX4_costsActs_2 3 rfl rfl)
theorem dX4_costsActs_54 : decode cX4_costsActs 54 = .ok (.iadd, 1) := dk_96 (dk_at dksX4_costsActs_2 6 rfl rfl)
theorem dX4_costsActs_55 : decode cX4_costsActs 55 = .ok (.ireturn, 1) := dk_172 (dk_at dksX4_costsActs_2 7 rfl rfl)
theorem dX4_costsActs_56 : decode cX4_costsActs 56 = .ok (.aload_n 0, 1) := dk_42 (dk_at dksX4_costsActs_2 8 rfl rfl)
theorem dX4_costsActs_57 : decode cX4_costsActs 57 = .ok (.iload_n 1, 1) := dk_27 (dk_at dksX4_costsActs_2 9 rfl rfl)
theorem dX4_costsActs_58 : decode cX4_costsActs 58 = .ok (.invokevirtual 295, 3) := dk_182 1 39 (dk_at dksX4_costsActs_2 10 rfl rfl)
theorem dX4_costsActs_61 : decode cX4_costsActs 61 = .ok (.ireturn, 1) := dk_172 (dk_at dksX4_costsActs_2 13 rfl rfl)
abbrev cX4_plainCosts : ByteArray := prog_21_method_77_code
def yX4_plainCosts : MethodName := ⟨RX4, "plainCosts", "(I)I"⟩
def dkwX4_plainCosts_0 : List UInt8 := [42, 6, 182, 1, 12, 42, 27, 182, 1, 36, 5, 104, 172]
abbrev dktX4_plainCosts_0 : List UInt8 := dkwX4_plainCosts_0 ++ []
theorem dksX4_plainCosts_0 : cX4_plainCosts.data.toList.drop 0 = dktX4_plainCosts_0 := by decide +kernel
theorem dX4_plainCosts_0 : decode cX4_plainCosts 0 = .ok (.aload_n 0, 1) := dk_42 (dk_at dksX4_plainCosts_0 0 rfl rfl)
theorem dX4_plainCosts_1 : decode cX4_plainCosts 1 = .ok (.iconst 3, 1) := dk_6 (dk_at dksX4_plainCosts_0 1 rfl rfl)
theorem dX4_plainCosts_2 : decode cX4_plainCosts 2 = .ok (.invokevirtual 268, 3) := dk_182 1 12 (dk_at dksX4_plainCosts_0 2 rfl rfl)
theorem dX4_plainCosts_5 : decode cX4_plainCosts 5 = .ok (.aload_n 0, 1) := dk_42 (dk_at dksX4_plainCosts_0 5 rfl rfl)
theorem dX4_plainCosts_6 : decode cX4_plainCosts 6 = .ok (.iload_n 1, 1) := dk_27 (dk_at dksX4_plainCosts_0 6 rfl rfl)
theorem dX4_plainCosts_7 : decode cX4_plainCosts 7 = .ok (.invokevirtual 292, 3) := dk_182 1 36 (dk_at dksX4_plainCosts_0 7 rfl rfl)
theorem dX4_plainCosts_10 : decode cX4_plainCosts 10 = .ok (.iconst 2, 1) := dk_5 (dk_at dksX4_plainCosts_0 10 rfl rfl)
theorem dX4_plainCosts_11 : decode cX4_plainCosts 11 = .ok (.imul, 1) := dk_104 (dk_at dksX4_plainCosts_0 11 rfl rfl)
theorem dX4_plainCosts_12 : decode cX4_plainCosts 12 = .ok (.ireturn, 1) := dk_172 (dk_at dksX4_plainCosts_0 12 rfl rfl)
abbrev cX4_trace : ByteArray := prog_21_method_80_code
def yX4_trace : MethodName := ⟨RX4, "trace", "(I)I"⟩
def dkwX4_trace_1 : List UInt8 := [184, 0, 42, 153, 0, 12, 42, 180, 0, 35, 27, 46, 167, 0, 4, 2, 172]
abbrev dktX4_trace_1 : List UInt8 := dkwX4_trace_1 ++ []
def dkwX4_trace_0 : List UInt8 := [27, 3, 42, 180, 1, 9, 16, 20, 162, 0, 10, 42, 180, 1, 9, 167, 0, 5, 16, 20, 4, 100]
abbrev dktX4_trace_0 : List UInt8 := dkwX4_trace_0 ++ dktX4_trace_1
theorem dksX4_trace_0 : cX4_trace.data.toList.drop 0 = dktX4_trace_0 := by decide +kernel
theorem dksX4_trace_1 : cX4_trace.data.toList.drop 22 = dktX4_trace_1 := dk_seg dksX4_trace_0 22 rfl rfl
theorem dX4_trace_0 : decode cX4_trace 0 = .ok (.iload_n 1, 1) := dk_27 (dk_at dksX4_trace_0 0 rfl rfl)
theorem dX4_trace_1 : decode cX4_trace 1 = .ok (.iconst 0, 1) := dk_3 (dk_at dksX4_trace_0 1 rfl rfl)
theorem dX4_trace_2 : decode cX4_trace 2 = .ok (.aload_n 0, 1) := dk_42 (dk_at dksX4_trace_0 2 rfl rfl)
theorem dX4_trace_3 : decode cX4_trace 3 = .ok (.getfield 265, 3) := dk_180 1 9 (dk_at dksX4_trace_0 3 rfl rfl)
theorem dX4_trace_6 : decode cX4_trace 6 = .ok (.bipush 20, 2) := dk_16 20 (dk_at dksX4_trace_0 6 rfl rfl)
theorem dX4_trace_8 : decode cX4_trace 8 = .ok (.if_icmp .ge 10, 3) := dk_162 0 10 (dk_at dksX4_trace_0 8 rfl rfl)
theorem dX4_trace_11 : decode cX4_trace 11 = .ok (.aload_n 0, 1) := dk_42 (dk_at dksX4_trace_0 11 rfl rfl)
theorem dX4_trace_12 : decode cX4_trace 12 = .ok (.getfield 265, 3) := dk_180 1 9 (dk_at dksX4_trace_0 12 rfl rfl)
theorem dX4_trace_15 : decode cX4_trace 15 = .ok (.goto 5, 3) := dk_167 0 5 (dk_at dksX4_trace_0 15 rfl rfl)
theorem dX4_trace_18 : decode cX4_trace 18 = .ok (.bipush 20, 2) := dk_16 20 (dk_at dksX4_trace_0 18 rfl rfl)
theorem dX4_trace_20 : decode cX4_trace 20 = .ok (.iconst 1, 1) := dk_4 (dk_at dksX4_trace_0 20 rfl rfl)
theorem dX4_trace_21 : decode cX4_trace 21 = .ok (.isub, 1) := dk_100 (dk_at dksX4_trace_0 21 rfl rfl)
theorem dX4_trace_22 : decode cX4_trace 22 = .ok (.invokestatic 42, 3) := dk_184 0 42 (dk_at dksX4_trace_1 0 rfl rfl)
theorem dX4_trace_25 : decode cX4_trace 25 = .ok (.ifCond .eq 12, 3) := dk_153 0 12 (dk_at dksX4_trace_1 3 rfl rfl)
theorem dX4_trace_28 : decode cX4_trace 28 = .ok (.aload_n 0, 1) := dk_42 (dk_at dksX4_trace_1 6 rfl rfl)
theorem dX4_trace_29 : decode cX4_trace 29 = .ok (.getfield 35, 3) := dk_180 0 35 (dk_at dksX4_trace_1 7 rfl rfl)
theorem dX4_trace_32 : decode cX4_trace 32 = .ok (.iload_n 1, 1) := dk_27 (dk_at dksX4_trace_1 10 rfl rfl)
theorem dX4_trace_33 : decode cX4_trace 33 = .ok (.iaload, 1) := dk_46 (dk_at dksX4_trace_1 11 rfl rfl)
theorem dX4_trace_34 : decode cX4_trace 34 = .ok (.goto 4, 3) := dk_167 0 4 (dk_at dksX4_trace_1 12 rfl rfl)
theorem dX4_trace_37 : decode cX4_trace 37 = .ok (.iconst (-1), 1) := dk_2 (dk_at dksX4_trace_1 15 rfl rfl)
theorem dX4_trace_38 : decode cX4_trace 38 = .ok (.ireturn, 1) := dk_172 (dk_at dksX4_trace_1 16 rfl rfl)
abbrev cX4_as : ByteArray := prog_21_method_81_code
def yX4_as : MethodName := ⟨RX4, "as", "(II)I"⟩
def dkwX4_as_2 : List UInt8 := [167, 0, 5, 16, 250, 172]
abbrev dktX4_as_2 : List UInt8 := dkwX4_as_2 ++ []
def dkwX4_as_1 : List UInt8 := [17, 3, 232, 27, 96, 46, 28, 184, 1, 33, 153, 0, 16, 42, 180, 0, 9, 17, 3, 244, 27, 96, 46]
abbrev dktX4_as_1 : List UInt8 := dkwX4_as_1 ++ dktX4_as_2
def dkwX4_as_0 : List UInt8 := [42, 27, 182, 0, 206, 153, 0, 13, 28, 3, 16, 6, 184, 0, 42, 154, 0, 5, 2, 172, 42, 180, 0, 9]
abbrev dktX4_as_0 : List UInt8 := dkwX4_as_0 ++ dktX4_as_1
theorem dksX4_as_0 : cX4_as.data.toList.drop 0 = dktX4_as_0 := by decide +kernel
theorem dksX4_as_1 : cX4_as.data.toList.drop 24 = dktX4_as_1 := dk_seg dksX4_as_0 24 rfl rfl
theorem dksX4_as_2 : cX4_as.data.toList.drop 47 = dktX4_as_2 := dk_seg dksX4_as_1 23 rfl rfl
theorem dX4_as_0 : decode cX4_as 0 = .ok (.aload_n 0, 1) := dk_42 (dk_at dksX4_as_0 0 rfl rfl)
theorem dX4_as_1 : decode cX4_as 1 = .ok (.iload_n 1, 1) := dk_27 (dk_at dksX4_as_0 1 rfl rfl)
theorem dX4_as_2 : decode cX4_as 2 = .ok (.invokevirtual 206, 3) := dk_182 0 206 (dk_at dksX4_as_0 2 rfl rfl)
theorem dX4_as_5 : decode cX4_as 5 = .ok (.ifCond .eq 13, 3) := dk_153 0 13 (dk_at dksX4_as_0 5 rfl rfl)
theorem dX4_as_8 : decode cX4_as 8 = .ok (.iload_n 2, 1) := dk_28 (dk_at dksX4_as_0 8 rfl rfl)
theorem dX4_as_9 : decode cX4_as 9 = .ok (.iconst 0, 1) := dk_3 (dk_at dksX4_as_0 9 rfl rfl)
theorem dX4_as_10 : decode cX4_as 10 = .ok (.bipush 6, 2) := dk_16 6 (dk_at dksX4_as_0 10 rfl rfl)
theorem dX4_as_12 : decode cX4_as 12 = .ok (.invokestatic 42, 3) := dk_184 0 42 (dk_at dksX4_as_0 12 rfl rfl)
theorem dX4_as_15 : decode cX4_as 15 = .ok (.ifCond .ne 5, 3) := dk_154 0 5 (dk_at dksX4_as_0 15 rfl rfl)
theorem dX4_as_18 : decode cX4_as 18 = .ok (.iconst (-1), 1) := dk_2 (dk_at dksX4_as_0 18 rfl rfl)
theorem dX4_as_19 : decode cX4_as 19 = .ok (.ireturn, 1) := dk_172 (dk_at dksX4_as_0 19 rfl rfl)
theorem dX4_as_20 : decode cX4_as 20 = .ok (.aload_n 0, 1) := dk_42 (dk_at dksX4_as_0 20 rfl rfl)
theorem dX4_as_21 : decode cX4_as 21 = .ok (.getfield 9, 3) := dk_180 0 9 (dk_at dksX4_as_0 21 rfl rfl)
theorem dX4_as_24 : decode cX4_as 24 = .ok (.sipush 1000, 3) := dk_17 3 232 (dk_at dksX4_as_1 0 rfl rfl)
theorem dX4_as_27 : decode cX4_as 27 = .ok (.iload_n 1, 1) := dk_27 (dk_at dksX4_as_1 3 rfl rfl)
theorem dX4_as_28 : decode cX4_as 28 = .ok (.iadd, 1) := dk_96 (dk_at dksX4_as_1 4 rfl rfl)
theorem dX4_as_29 : decode cX4_as 29 = .ok (.iaload, 1) := dk_46 (dk_at dksX4_as_1 5 rfl rfl)
theorem dX4_as_30 : decode cX4_as 30 = .ok (.iload_n 2, 1) := dk_28 (dk_at dksX4_as_1 6 rfl rfl)
theorem dX4_as_31 : decode cX4_as 31 = .ok (.invokestatic 289, 3) := dk_184 1 33 (dk_at dksX4_as_1 7 rfl rfl)
theorem dX4_as_34 : decode cX4_as 34 = .ok (.ifCond .eq 16, 3) := dk_153 0 16 (dk_at dksX4_as_1 10 rfl rfl)
theorem dX4_as_37 : decode cX4_as 37 = .ok (.aload_n 0, 1) := dk_42 (dk_at dksX4_as_1 13 rfl rfl)
theorem dX4_as_38 : decode cX4_as 38 = .ok (.getfield 9, 3) := dk_180 0 9 (dk_at dksX4_as_1 14 rfl rfl)
theorem dX4_as_41 : decode cX4_as 41 = .ok (.sipush 1012, 3) := dk_17 3 244 (dk_at dksX4_as_1 17 rfl rfl)
theorem dX4_as_44 : decode cX4_as 44 = .ok (.iload_n 1, 1) := dk_27 (dk_at dksX4_as_1 20 rfl rfl)
theorem dX4_as_45 : decode cX4_as 45 = .ok (.iadd, 1) := dk_96 (dk_at dksX4_as_1 21 rfl rfl)
theorem dX4_as_46 : decode cX4_as 46 = .ok (.iaload, 1) := dk_46 (dk_at dksX4_as_1 22 rfl rfl)
theorem dX4_as_47 : decode cX4_as 47 = .ok (.goto 5, 3) := dk_167 0 5 (dk_at dksX4_as_2 0 rfl rfl)
theorem dX4_as_50 : decode cX4_as 50 = .ok (.bipush (-6), 2) := dk_16 250 (dk_at dksX4_as_2 3 rfl rfl)
theorem dX4_as_52 : decode cX4_as 52 = .ok (.ireturn, 1) := dk_172 (dk_at dksX4_as_2 5 rfl rfl)
abbrev cX4_image : ByteArray := prog_21_method_82_code
def yX4_image : MethodName := ⟨RX4, "image", "()I"⟩
def dkwX4_image_1 : List UInt8 := [167, 255, 234, 42, 4, 181, 1, 45, 42, 180, 0, 9, 4, 46, 172]
abbrev dktX4_image_1 : List UInt8 := dkwX4_image_1 ++ []
def dkwX4_image_0 : List UInt8 := [3, 60, 27, 17, 4, 136, 162, 0, 21, 42, 180, 0, 15, 27, 42, 180, 0, 9, 27, 46, 79, 132, 1, 1]
abbrev dktX4_image_0 : List UInt8 := dkwX4_image_0 ++ dktX4_image_1
theorem dksX4_image_0 : cX4_image.data.toList.drop 0 = dktX4_image_0 := by decide +kernel
theorem dksX4_image_1 : cX4_image.data.toList.drop 24 = dktX4_image_1 := dk_seg dksX4_image_0 24 rfl rfl
theorem dX4_image_0 : decode cX4_image 0 = .ok (.iconst 0, 1) := dk_3 (dk_at dksX4_image_0 0 rfl rfl)
theorem dX4_image_1 : decode cX4_image 1 = .ok (.istore_n 1, 1) := dk_60 (dk_at dksX4_image_0 1 rfl rfl)
theorem dX4_image_2 : decode cX4_image 2 = .ok (.iload_n 1, 1) := dk_27 (dk_at dksX4_image_0 2 rfl rfl)
theorem dX4_image_3 : decode cX4_image 3 = .ok (.sipush 1160, 3) := dk_17 4 136 (dk_at dksX4_image_0 3 rfl rfl)
theorem dX4_image_6 : decode cX4_image 6 = .ok (.if_icmp .ge 21, 3) := dk_162 0 21 (dk_at dksX4_image_0 6 rfl rfl)
theorem dX4_image_9 : decode cX4_image 9 = .ok (.aload_n 0, 1) := dk_42 (dk_at dksX4_image_0 9 rfl rfl)
theorem dX4_image_10 : decode cX4_image 10 = .ok (.getfield 15, 3) := dk_180 0 15 (dk_at dksX4_image_0 10 rfl rfl)
theorem dX4_image_13 : decode cX4_image 13 = .ok (.iload_n 1, 1) := dk_27 (dk_at dksX4_image_0 13 rfl rfl)
theorem dX4_image_14 : decode cX4_image 14 = .ok (.aload_n 0, 1) := dk_42 (dk_at dksX4_image_0 14 rfl rfl)
theorem dX4_image_15 : decode cX4_image 15 = .ok (.getfield 9, 3) := dk_180 0 9 (dk_at dksX4_image_0 15 rfl rfl)
theorem dX4_image_18 : decode cX4_image 18 = .ok (.iload_n 1, 1) := dk_27 (dk_at dksX4_image_0 18 rfl rfl)
theorem dX4_image_19 : decode cX4_image 19 = .ok (.iaload, 1) := dk_46 (dk_at dksX4_image_0 19 rfl rfl)
theorem dX4_image_20 : decode cX4_image 20 = .ok (.iastore, 1) := dk_79 (dk_at dksX4_image_0 20 rfl rfl)
theorem dX4_image_21 : decode cX4_image 21 = .ok (.iinc 1 1, 3) := dk_132 1 1 (dk_at dksX4_image_0 21 rfl rfl)
theorem dX4_image_24 : decode cX4_image 24 = .ok (.goto (-22), 3) := dk_167 255 234 (dk_at dksX4_image_1 0 rfl rfl)
theorem dX4_image_27 : decode cX4_image 27 = .ok (.aload_n 0, 1) := dk_42 (dk_at dksX4_image_1 3 rfl rfl)
theorem dX4_image_28 : decode cX4_image 28 = .ok (.iconst 1, 1) := dk_4 (dk_at dksX4_image_1 4 rfl rfl)
theorem dX4_image_29 : decode cX4_image 29 = .ok (.putfield 301, 3) := dk_181 1 45 (dk_at dksX4_image_1 5 rfl rfl)
theorem dX4_image_32 : decode cX4_image 32 = .ok (.aload_n 0, 1) := dk_42 (dk_at dksX4_image_1 8 rfl rfl)
theorem dX4_image_33 : decode cX4_image 33 = .ok (.getfield 9, 3) := dk_180 0 9 (dk_at dksX4_image_1 9 rfl rfl)
theorem dX4_image_36 : decode cX4_image 36 = .ok (.iconst 1, 1) := dk_4 (dk_at dksX4_image_1 12 rfl rfl)
theorem dX4_image_37 : decode cX4_image 37 = .ok (.iaload, 1) := dk_46 (dk_at dksX4_image_1 13 rfl rfl)
theorem dX4_image_38 : decode cX4_image 38 = .ok (.ireturn, 1) := dk_172 (dk_at dksX4_image_1 14 rfl rfl)
abbrev cX4_undo : ByteArray := prog_21_method_83_code
def yX4_undo : MethodName := ⟨RX4, "undo", "()I"⟩
def dkwX4_undo_1 : List UInt8 := [42, 180, 0, 15, 27, 46, 79, 132, 1, 1, 167, 255, 234, 42, 180, 0, 9, 4, 46, 172]
abbrev dktX4_undo_1 : List UInt8 := dkwX4_undo_1 ++ []
def dkwX4_undo_0 : List UInt8 := [42, 180, 1, 45, 154, 0, 6, 16, 253, 172, 3, 60, 27, 17, 4, 136, 162, 0, 21, 42, 180, 0, 9, 27]
abbrev dktX4_undo_0 : List UInt8 := dkwX4_undo_0 ++ dktX4_undo_1
theorem dksX4_undo_0 : cX4_undo.data.toList.drop 0 = dktX4_undo_0 := by decide +kernel
theorem dksX4_undo_1 : cX4_undo.data.toList.drop 24 = dktX4_undo_1 := dk_seg dksX4_undo_0 24 rfl rfl
theorem dX4_undo_0 : decode cX4_undo 0 = .ok (.aload_n 0, 1) := dk_42 (dk_at dksX4_undo_0 0 rfl rfl)
theorem dX4_undo_1 : decode cX4_undo 1 = .ok (.getfield 301, 3) := dk_180 1 45 (dk_at dksX4_undo_0 1 rfl rfl)
theorem dX4_undo_4 : decode cX4_undo 4 = .ok (.ifCond .ne 6, 3) := dk_154 0 6 (dk_at dksX4_undo_0 4 rfl rfl)
theorem dX4_undo_7 : decode cX4_undo 7 = .ok (.bipush (-3), 2) := dk_16 253 (dk_at dksX4_undo_0 7 rfl rfl)
theorem dX4_undo_9 : decode cX4_undo 9 = .ok (.ireturn, 1) := dk_172 (dk_at dksX4_undo_0 9 rfl rfl)
theorem dX4_undo_10 : decode cX4_undo 10 = .ok (.iconst 0, 1) := dk_3 (dk_at dksX4_undo_0 10 rfl rfl)
theorem dX4_undo_11 : decode cX4_undo 11 = .ok (.istore_n 1, 1) := dk_60 (dk_at dksX4_undo_0 11 rfl rfl)
theorem dX4_undo_12 : decode cX4_undo 12 = .ok (.iload_n 1, 1) := dk_27 (dk_at dksX4_undo_0 12 rfl rfl)
theorem dX4_undo_13 : decode cX4_undo 13 = .ok (.sipush 1160, 3) := dk_17 4 136 (dk_at dksX4_undo_0 13 rfl rfl)
theorem dX4_undo_16 : decode cX4_undo 16 = .ok (.if_icmp .ge 21, 3) := dk_162 0 21 (dk_at dksX4_undo_0 16 rfl rfl)
theorem dX4_undo_19 : decode cX4_undo 19 = .ok (.aload_n 0, 1) := dk_42 (dk_at dksX4_undo_0 19 rfl rfl)
theorem dX4_undo_20 : decode cX4_undo 20 = .ok (.getfield 9, 3) := dk_180 0 9 (dk_at dksX4_undo_0 20 rfl rfl)
theorem dX4_undo_23 : decode cX4_undo 23 = .ok (.iload_n 1, 1) := dk_27 (dk_at dksX4_undo_0 23 rfl rfl)
theorem dX4_undo_24 : decode cX4_undo 24 = .ok (.aload_n 0, 1) := dk_42 (dk_at dksX4_undo_1 0 rfl rfl)
theorem dX4_undo_25 : decode cX4_undo 25 = .ok (.getfield 15, 3) := dk_180 0 15 (dk_at dksX4_undo_1 1 rfl rfl)
theorem dX4_undo_28 : decode cX4_undo 28 = .ok (.iload_n 1, 1) := dk_27 (dk_at dksX4_undo_1 4 rfl rfl)
theorem dX4_undo_29 : decode cX4_undo 29 = .ok (.iaload, 1) := dk_46 (dk_at dksX4_undo_1 5 rfl rfl)
theorem dX4_undo_30 : decode cX4_undo 30 = .ok (.iastore, 1) := dk_79 (dk_at dksX4_undo_1 6 rfl rfl)
theorem dX4_undo_31 : decode cX4_undo 31 = .ok (.iinc 1 1, 3) := dk_132 1 1 (dk_at dksX4_undo_1 7 rfl rfl)
theorem dX4_undo_34 : decode cX4_undo 34 = .ok (.goto (-22), 3) := dk_167 255 234 (dk_at dksX4_undo_1 10 rfl rfl)
theorem dX4_undo_37 : decode cX4_undo 37 = .ok (.aload_n 0, 1) := dk_42 (dk_at dksX4_undo_1 13 rfl rfl)
theorem dX4_undo_38 : decode cX4_undo 38 = .ok (.getfield 9, 3) := dk_180 0 9 (dk_at dksX4_undo_1 14 rfl rfl)
theorem dX4_undo_41 : decode cX4_undo 41 = .ok (.iconst 1, 1) := dk_4 (dk_at dksX4_undo_1 17 rfl rfl)
theorem dX4_undo_42 : decode cX4_undo 42 = .ok (.iaload, 1) := dk_46 (dk_at dksX4_undo_1 18 rfl rfl)
theorem dX4_undo_43 : decode cX4_undo 43 = .ok (.ireturn, 1) := dk_172 (dk_at dksX4_undo_1 19 rfl rfl)
abbrev cX4_count : ByteArray := prog_21_method_84_code
def yX4_count : MethodName := ⟨RX4, "count", "(I)I"⟩
def dkwX4_count_3 : List UInt8 := [180, 0, 9, 6, 46, 172, 42, 180, 1, 9, 172, 2, 172]
abbrev dktX4_count_3 : List UInt8 := dkwX4_count_3 ++ []
def dkwX4_count_2 : List UInt8 := [42, 180, 0, 9, 3, 46, 172, 42, 180, 0, 9, 4, 46, 172, 42, 180, 0, 9, 5, 46, 172, 42]
abbrev dktX4_count_2 : List UInt8 := dkwX4_count_2 ++ dktX4_count_3
def dkwX4_count_1 : List UInt8 := [170, 0, 0, 0, 0, 0, 68, 0, 0, 0, 0, 0, 0, 0, 4, 0, 0, 0, 35, 0, 0, 0, 42, 0, 0, 0, 49, 0, 0, 0, 56, 0, 0, 0, 63]
abbrev dktX4_count_1 : List UInt8 := dkwX4_count_1 ++ dktX4_count_2
def dkwX4_count_0 : List UInt8 := [27]
abbrev dktX4_count_0 : List UInt8 := dkwX4_count_0 ++ dktX4_count_1
theorem dksX4_count_0 : cX4_count.data.toList.drop 0 = dktX4_count_0 := by decide +kernel
theorem dksX4_count_1 : cX4_count.data.toList.drop 1 = dktX4_count_1 := dk_seg dksX4_count_0 1 rfl rfl
theorem dksX4_count_2 : cX4_count.data.toList.drop 36 = dktX4_count_2 := dk_seg dksX4_count_1 35 rfl rfl
theorem dksX4_count_3 : cX4_count.data.toList.drop 58 = dktX4_count_3 := dk_seg dksX4_count_2 22 rfl rfl
theorem dX4_count_0 : decode cX4_count 0 = .ok (.iload_n 1, 1) := dk_27 (dk_at dksX4_count_0 0 rfl rfl)
theorem dX4_count_1 : decode cX4_count 1 = .ok (.tableswitch 68 0 4 #[35, 42, 49, 56, 63], 35) := by decide +kernel
theorem dX4_count_36 : decode cX4_count 36 = .ok (.aload_n 0, 1) := dk_42 (dk_at dksX4_count_2 0 rfl rfl)
theorem dX4_count_37 : decode cX4_count 37 = .ok (.getfield 9, 3) := dk_180 0 9 (dk_at dksX4_count_2 1 rfl rfl)
theorem dX4_count_40 : decode cX4_count 40 = .ok (.iconst 0, 1) := dk_3 (dk_at dksX4_count_2 4 rfl rfl)
theorem dX4_count_41 : decode cX4_count 41 = .ok (.iaload, 1) := dk_46 (dk_at dksX4_count_2 5 rfl rfl)
theorem dX4_count_42 : decode cX4_count 42 = .ok (.ireturn, 1) := dk_172 (dk_at dksX4_count_2 6 rfl rfl)
theorem dX4_count_43 : decode cX4_count 43 = .ok (.aload_n 0, 1) := dk_42 (dk_at dksX4_count_2 7 rfl rfl)
theorem dX4_count_44 : decode cX4_count 44 = .ok (.getfield 9, 3) := dk_180 0 9 (dk_at dksX4_count_2 8 rfl rfl)
theorem dX4_count_47 : decode cX4_count 47 = .ok (.iconst 1, 1) := dk_4 (dk_at dksX4_count_2 11 rfl rfl)
theorem dX4_count_48 : decode cX4_count 48 = .ok (.iaload, 1) := dk_46 (dk_at dksX4_count_2 12 rfl rfl)
theorem dX4_count_49 : decode cX4_count 49 = .ok (.ireturn, 1) := dk_172 (dk_at dksX4_count_2 13 rfl rfl)
theorem dX4_count_50 : decode cX4_count 50 = .ok (.aload_n 0, 1) := dk_42 (dk_at dksX4_count_2 14 rfl rfl)
theorem dX4_count_51 : decode cX4_count 51 = .ok (.getfield 9, 3) := dk_180 0 9 (dk_at dksX4_count_2 15 rfl rfl)
theorem dX4_count_54 : decode cX4_count 54 = .ok (.iconst 2, 1) := dk_5 (dk_at dksX4_count_2 18 rfl rfl)
theorem dX4_count_55 : decode cX4_count 55 = .ok (.iaload, 1) := dk_46 (dk_at dksX4_count_2 19 rfl rfl)
theorem dX4_count_56 : decode cX4_count 56 = .ok (.ireturn, 1) := dk_172 (dk_at dksX4_count_2 20 rfl rfl)
theorem dX4_count_57 : decode cX4_count 57 = .ok (.aload_n 0, 1) := dk_42 (dk_at dksX4_count_2 21 rfl rfl)
theorem dX4_count_58 : decode cX4_count 58 = .ok (.getfield 9, 3) := dk_180 0 9 (dk_at dksX4_count_3 0 rfl rfl)
theorem dX4_count_61 : decode cX4_count 61 = .ok (.iconst 3, 1) := dk_6 (dk_at dksX4_count_3 3 rfl rfl)
theorem dX4_count_62 : decode cX4_count 62 = .ok (.iaload, 1) := dk_46 (dk_at dksX4_count_3 4 rfl rfl)
theorem dX4_count_63 : decode cX4_count 63 = .ok (.ireturn, 1) := dk_172 (dk_at dksX4_count_3 5 rfl rfl)
theorem dX4_count_64 : decode cX4_count 64 = .ok (.aload_n 0, 1) := dk_42 (dk_at dksX4_count_3 6 rfl rfl)
theorem dX4_count_65 : decode cX4_count 65 = .ok (.getfield 265, 3) := dk_180 1 9 (dk_at dksX4_count_3 7 rfl rfl)
theorem dX4_count_68 : decode cX4_count 68 = .ok (.ireturn, 1) := dk_172 (dk_at dksX4_count_3 10 rfl rfl)
theorem dX4_count_69 : decode cX4_count 69 = .ok (.iconst (-1), 1) := dk_2 (dk_at dksX4_count_3 11 rfl rfl)
theorem dX4_count_70 : decode cX4_count 70 = .ok (.ireturn, 1) := dk_172 (dk_at dksX4_count_3 12 rfl rfl)
theorem q95 : (Jvm.Cond.initialized "FortyDaysModel") ∈ lw_all := lw_g (lw_at lw_m1 8 rfl) rfl
theorem q575 : (Jvm.Cond.selects "FortyDaysModel" ({ cls := "java/lang/Object", name := "getClass", desc := "()Ljava/lang/Class;" } : Jvm.MethodName) ({ cls := "java/lang/Object", name := "getClass", desc := "()Ljava/lang/Class;" } : Jvm.MethodName)) ∈ lw_all := lw_g (lw_at lw_m3 8 rfl) rfl
theorem q1286 : (Jvm.Cond.instantiable "FortyDaysModel" (24 : Nat)) ∈ lw_all := lw_g (lw_at lw_m5 239 rfl) rfl
theorem q1288 : (Jvm.Cond.instanceMethod ({ cls := "FortyDaysModel", name := "<init>", desc := "()V" } : Jvm.MethodName)) ∈ lw_all := lw_g (lw_at lw_m6 1 rfl) rfl
theorem q1289 : (Jvm.Cond.code ({ cls := "FortyDaysModel", name := "<init>", desc := "()V" } : Jvm.MethodName) prog_21_method_1_code (1 : Nat) (Option.none : Option Jvm.ClassFile.FieldType)) ∈ lw_all := lw_g (lw_at lw_m6 2 rfl) rfl
theorem q1290 : (Jvm.Cond.methodLink "FortyDaysModel" (3 : Nat) ({ cls := "java/lang/Object", name := "<init>", desc := "()V" } : Jvm.MethodName)) ∈ lw_all := lw_g (lw_at lw_m6 3 rfl) rfl
theorem q1291 : (Jvm.Cond.fieldLink "FortyDaysModel" (9 : Nat) "FortyDaysModel" "s" "[I") ∈ lw_all := lw_g (lw_at lw_m6 4 rfl) rfl
theorem q1292 : (Jvm.Cond.fieldLink "FortyDaysModel" (15 : Nat) "FortyDaysModel" "image" "[I") ∈ lw_all := lw_g (lw_at lw_m6 5 rfl) rfl
theorem q1293 : (Jvm.Cond.fieldLink "FortyDaysModel" (301 : Nat) "FortyDaysModel" "hasImage" "Z") ∈ lw_all := lw_g (lw_at lw_m6 6 rfl) rfl
theorem q1294 : (Jvm.Cond.fieldLink "FortyDaysModel" (75 : Nat) "FortyDaysModel" "act" "I") ∈ lw_all := lw_g (lw_at lw_m6 7 rfl) rfl
theorem q1295 : (Jvm.Cond.fieldLink "FortyDaysModel" (48 : Nat) "FortyDaysModel" "spot" "I") ∈ lw_all := lw_g (lw_at lw_m6 8 rfl) rfl
theorem q1296 : (Jvm.Cond.fieldLink "FortyDaysModel" (51 : Nat) "FortyDaysModel" "size" "I") ∈ lw_all := lw_g (lw_at lw_m6 9 rfl) rfl
theorem q1297 : (Jvm.Cond.fieldLink "FortyDaysModel" (54 : Nat) "FortyDaysModel" "isWrong" "Z") ∈ lw_all := lw_g (lw_at lw_m6 10 rfl) rfl
theorem q1298 : (Jvm.Cond.fieldLink "FortyDaysModel" (78 : Nat) "FortyDaysModel" "open" "I") ∈ lw_all := lw_g (lw_at lw_m6 11 rfl) rfl
theorem q1299 : (Jvm.Cond.fieldLink "FortyDaysModel" (18 : Nat) "FortyDaysModel" "truths" "[Z") ∈ lw_all := lw_g (lw_at lw_m6 12 rfl) rfl
theorem q1300 : (Jvm.Cond.fieldLink "FortyDaysModel" (22 : Nat) "FortyDaysModel" "q" "[I") ∈ lw_all := lw_g (lw_at lw_m6 13 rfl) rfl
theorem q1301 : (Jvm.Cond.fieldLink "FortyDaysModel" (142 : Nat) "FortyDaysModel" "text" "I") ∈ lw_all := lw_g (lw_at lw_m6 14 rfl) rfl
theorem q1302 : (Jvm.Cond.fieldLink "FortyDaysModel" (155 : Nat) "FortyDaysModel" "hands" "I") ∈ lw_all := lw_g (lw_at lw_m6 15 rfl) rfl
theorem q1303 : (Jvm.Cond.fieldLink "FortyDaysModel" (175 : Nat) "FortyDaysModel" "says" "I") ∈ lw_all := lw_g (lw_at lw_m6 16 rfl) rfl
theorem q1304 : (Jvm.Cond.fieldLink "FortyDaysModel" (145 : Nat) "FortyDaysModel" "giveMore" "I") ∈ lw_all := lw_g (lw_at lw_m6 17 rfl) rfl
theorem q1305 : (Jvm.Cond.fieldLink "FortyDaysModel" (211 : Nat) "FortyDaysModel" "isLet" "Z") ∈ lw_all := lw_g (lw_at lw_m6 18 rfl) rfl
theorem q1306 : (Jvm.Cond.fieldLink "FortyDaysModel" (25 : Nat) "FortyDaysModel" "harms" "[J") ∈ lw_all := lw_g (lw_at lw_m6 19 rfl) rfl
theorem q1307 : (Jvm.Cond.fieldLink "FortyDaysModel" (29 : Nat) "FortyDaysModel" "means" "[J") ∈ lw_all := lw_g (lw_at lw_m6 20 rfl) rfl
theorem q1308 : (Jvm.Cond.fieldLink "FortyDaysModel" (32 : Nat) "FortyDaysModel" "halves" "[J") ∈ lw_all := lw_g (lw_at lw_m6 21 rfl) rfl
theorem q1309 : (Jvm.Cond.fieldLink "FortyDaysModel" (35 : Nat) "FortyDaysModel" "bodies" "[I") ∈ lw_all := lw_g (lw_at lw_m6 22 rfl) rfl
theorem q1310 : (Jvm.Cond.fieldLink "FortyDaysModel" (265 : Nat) "FortyDaysModel" "ran" "I") ∈ lw_all := lw_g (lw_at lw_m6 23 rfl) rfl
theorem q1311 : (Jvm.Cond.fieldLink "FortyDaysModel" (274 : Nat) "FortyDaysModel" "kindNow" "I") ∈ lw_all := lw_g (lw_at lw_m6 24 rfl) rfl
theorem q1312 : (Jvm.Cond.fieldLink "FortyDaysModel" (271 : Nat) "FortyDaysModel" "who" "I") ∈ lw_all := lw_g (lw_at lw_m6 25 rfl) rfl
theorem q1313 : (Jvm.Cond.fieldLink "FortyDaysModel" (283 : Nat) "FortyDaysModel" "tellsV" "I") ∈ lw_all := lw_g (lw_at lw_m6 26 rfl) rfl
theorem q1314 : (Jvm.Cond.lays "FortyDaysModel" "FortyDaysModel" "thrown" "I") ∈ lw_all := lw_g (lw_at lw_m6 27 rfl) rfl
theorem q1315 : (Jvm.Cond.soleField "FortyDaysModel" "thrown") ∈ lw_all := lw_g (lw_at lw_m6 28 rfl) rfl
theorem q1316 : (Jvm.Cond.laysFinal "FortyDaysModel" "FortyDaysModel" "s" "[I") ∈ lw_all := lw_g (lw_at lw_m6 29 rfl) rfl
theorem q1317 : (Jvm.Cond.soleField "FortyDaysModel" "s") ∈ lw_all := lw_g (lw_at lw_m6 30 rfl) rfl
theorem q1318 : (Jvm.Cond.laysFinal "FortyDaysModel" "FortyDaysModel" "image" "[I") ∈ lw_all := lw_g (lw_at lw_m6 31 rfl) rfl
theorem q1319 : (Jvm.Cond.soleField "FortyDaysModel" "image") ∈ lw_all := lw_g (lw_at lw_m6 32 rfl) rfl
theorem q1320 : (Jvm.Cond.lays "FortyDaysModel" "FortyDaysModel" "hasImage" "Z") ∈ lw_all := lw_g (lw_at lw_m6 33 rfl) rfl
theorem q1321 : (Jvm.Cond.soleField "FortyDaysModel" "hasImage") ∈ lw_all := lw_g (lw_at lw_m6 34 rfl) rfl
theorem q1322 : (Jvm.Cond.lays "FortyDaysModel" "FortyDaysModel" "act" "I") ∈ lw_all := lw_g (lw_at lw_m6 35 rfl) rfl
theorem q1323 : (Jvm.Cond.soleField "FortyDaysModel" "act") ∈ lw_all := lw_g (lw_at lw_m6 36 rfl) rfl
theorem q1324 : (Jvm.Cond.lays "FortyDaysModel" "FortyDaysModel" "spot" "I") ∈ lw_all := lw_g (lw_at lw_m6 37 rfl) rfl
theorem q1325 : (Jvm.Cond.soleField "FortyDaysModel" "spot") ∈ lw_all := lw_g (lw_at lw_m6 38 rfl) rfl
theorem q1326 : (Jvm.Cond.lays "FortyDaysModel" "FortyDaysModel" "size" "I") ∈ lw_all := lw_g (lw_at lw_m6 39 rfl) rfl
theorem q1327 : (Jvm.Cond.soleField "FortyDaysModel" "size") ∈ lw_all := lw_g (lw_at lw_m6 40 rfl) rfl
theorem q1328 : (Jvm.Cond.lays "FortyDaysModel" "FortyDaysModel" "isWrong" "Z") ∈ lw_all := lw_g (lw_at lw_m6 41 rfl) rfl
theorem q1329 : (Jvm.Cond.soleField "FortyDaysModel" "isWrong") ∈ lw_all := lw_g (lw_at lw_m6 42 rfl) rfl
theorem q1330 : (Jvm.Cond.lays "FortyDaysModel" "FortyDaysModel" "open" "I") ∈ lw_all := lw_g (lw_at lw_m6 43 rfl) rfl
theorem q1331 : (Jvm.Cond.soleField "FortyDaysModel" "open") ∈ lw_all := lw_g (lw_at lw_m6 44 rfl) rfl
theorem q1332 : (Jvm.Cond.laysFinal "FortyDaysModel" "FortyDaysModel" "truths" "[Z") ∈ lw_all := lw_g (lw_at lw_m6 45 rfl) rfl
theorem q1333 : (Jvm.Cond.soleField "FortyDaysModel" "truths") ∈ lw_all := lw_g (lw_at lw_m6 46 rfl) rfl
theorem q1334 : (Jvm.Cond.laysFinal "FortyDaysModel" "FortyDaysModel" "q" "[I") ∈ lw_all := lw_g (lw_at lw_m6 47 rfl) rfl
theorem q1335 : (Jvm.Cond.soleField "FortyDaysModel" "q") ∈ lw_all := lw_g (lw_at lw_m6 48 rfl) rfl
theorem q1336 : (Jvm.Cond.lays "FortyDaysModel" "FortyDaysModel" "text" "I") ∈ lw_all := lw_g (lw_at lw_m6 49 rfl) rfl
theorem q1337 : (Jvm.Cond.soleField "FortyDaysModel" "text") ∈ lw_all := lw_g (lw_at lw_m6 50 rfl) rfl
theorem q1338 : (Jvm.Cond.lays "FortyDaysModel" "FortyDaysModel" "hands" "I") ∈ lw_all := lw_g (lw_at lw_m6 51 rfl) rfl
theorem q1339 : (Jvm.Cond.soleField "FortyDaysModel" "hands") ∈ lw_all := lw_g (lw_at lw_m6 52 rfl) rfl
theorem q1340 : (Jvm.Cond.lays "FortyDaysModel" "FortyDaysModel" "says" "I") ∈ lw_all := lw_g (lw_at lw_m6 53 rfl) rfl
theorem q1341 : (Jvm.Cond.soleField "FortyDaysModel" "says") ∈ lw_all := lw_g (lw_at lw_m6 54 rfl) rfl
theorem q1342 : (Jvm.Cond.lays "FortyDaysModel" "FortyDaysModel" "giveMore" "I") ∈ lw_all := lw_g (lw_at lw_m6 55 rfl) rfl
theorem q1343 : (Jvm.Cond.soleField "FortyDaysModel" "giveMore") ∈ lw_all := lw_g (lw_at lw_m6 56 rfl) rfl
theorem q1344 : (Jvm.Cond.lays "FortyDaysModel" "FortyDaysModel" "isLet" "Z") ∈ lw_all := lw_g (lw_at lw_m6 57 rfl) rfl
theorem q1345 : (Jvm.Cond.soleField "FortyDaysModel" "isLet") ∈ lw_all := lw_g (lw_at lw_m6 58 rfl) rfl
theorem q1346 : (Jvm.Cond.laysFinal "FortyDaysModel" "FortyDaysModel" "harms" "[J") ∈ lw_all := lw_g (lw_at lw_m6 59 rfl) rfl
theorem q1347 : (Jvm.Cond.soleField "FortyDaysModel" "harms") ∈ lw_all := lw_g (lw_at lw_m6 60 rfl) rfl
theorem q1348 : (Jvm.Cond.laysFinal "FortyDaysModel" "FortyDaysModel" "means" "[J") ∈ lw_all := lw_g (lw_at lw_m6 61 rfl) rfl
theorem q1349 : (Jvm.Cond.soleField "FortyDaysModel" "means") ∈ lw_all := lw_g (lw_at lw_m6 62 rfl) rfl
theorem q1350 : (Jvm.Cond.laysFinal "FortyDaysModel" "FortyDaysModel" "halves" "[J") ∈ lw_all := lw_g (lw_at lw_m6 63 rfl) rfl
theorem q1351 : (Jvm.Cond.soleField "FortyDaysModel" "halves") ∈ lw_all := lw_g (lw_at lw_m6 64 rfl) rfl
theorem q1352 : (Jvm.Cond.laysFinal "FortyDaysModel" "FortyDaysModel" "bodies" "[I") ∈ lw_all := lw_g (lw_at lw_m6 65 rfl) rfl
theorem q1353 : (Jvm.Cond.soleField "FortyDaysModel" "bodies") ∈ lw_all := lw_g (lw_at lw_m6 66 rfl) rfl
theorem q1354 : (Jvm.Cond.lays "FortyDaysModel" "FortyDaysModel" "ran" "I") ∈ lw_all := lw_g (lw_at lw_m6 67 rfl) rfl
theorem q1355 : (Jvm.Cond.soleField "FortyDaysModel" "ran") ∈ lw_all := lw_g (lw_at lw_m6 68 rfl) rfl
theorem q1356 : (Jvm.Cond.lays "FortyDaysModel" "FortyDaysModel" "kindNow" "I") ∈ lw_all := lw_g (lw_at lw_m6 69 rfl) rfl
theorem q1357 : (Jvm.Cond.soleField "FortyDaysModel" "kindNow") ∈ lw_all := lw_g (lw_at lw_m6 70 rfl) rfl
theorem q1358 : (Jvm.Cond.lays "FortyDaysModel" "FortyDaysModel" "who" "I") ∈ lw_all := lw_g (lw_at lw_m6 71 rfl) rfl
theorem q1359 : (Jvm.Cond.soleField "FortyDaysModel" "who") ∈ lw_all := lw_g (lw_at lw_m6 72 rfl) rfl
theorem q1360 : (Jvm.Cond.lays "FortyDaysModel" "FortyDaysModel" "tellsV" "I") ∈ lw_all := lw_g (lw_at lw_m6 73 rfl) rfl
theorem q1361 : (Jvm.Cond.soleField "FortyDaysModel" "tellsV") ∈ lw_all := lw_g (lw_at lw_m6 74 rfl) rfl
theorem q1362 : (Jvm.Cond.superclass "FortyDaysModel" "java/lang/Object") ∈ lw_all := lw_g (lw_at lw_m6 75 rfl) rfl
theorem q1365 : (Jvm.Cond.instanceMethod ({ cls := "FortyDaysModel", name := "feed", desc := "(JI)I" } : Jvm.MethodName)) ∈ lw_all := lw_g (lw_at lw_m6 78 rfl) rfl
theorem q1366 : (Jvm.Cond.selects "FortyDaysModel" ({ cls := "FortyDaysModel", name := "feed", desc := "(JI)I" } : Jvm.MethodName) ({ cls := "FortyDaysModel", name := "feed", desc := "(JI)I" } : Jvm.MethodName)) ∈ lw_all := lw_g (lw_at lw_m6 79 rfl) rfl
theorem q1367 : (Jvm.Cond.code ({ cls := "FortyDaysModel", name := "feed", desc := "(JI)I" } : Jvm.MethodName) prog_21_method_7_code (5 : Nat) (Option.some Jvm.ClassFile.FieldType.int)) ∈ lw_all := lw_g (lw_at lw_m6 80 rfl) rfl
theorem q1368 : (Jvm.Cond.methodLink "FortyDaysModel" (42 : Nat) ({ cls := "FortyDaysModel", name := "in", desc := "(III)Z" } : Jvm.MethodName)) ∈ lw_all := lw_g (lw_at lw_m6 81 rfl) rfl
theorem q1369 : (Jvm.Cond.static ({ cls := "FortyDaysModel", name := "in", desc := "(III)Z" } : Jvm.MethodName)) ∈ lw_all := lw_g (lw_at lw_m6 82 rfl) rfl
theorem q1370 : (Jvm.Cond.code ({ cls := "FortyDaysModel", name := "in", desc := "(III)Z" } : Jvm.MethodName) prog_21_method_3_code (3 : Nat) (Option.some Jvm.ClassFile.FieldType.boolean)) ∈ lw_all := lw_g (lw_at lw_m6 83 rfl) rfl
theorem q1371 : (Jvm.Cond.constantLong "FortyDaysModel" (46 : Nat) (255 : Int64)) ∈ lw_all := lw_g (lw_at lw_m6 84 rfl) rfl
theorem q1373 : (Jvm.Cond.instanceMethod ({ cls := "FortyDaysModel", name := "port", desc := "()I" } : Jvm.MethodName)) ∈ lw_all := lw_g (lw_at lw_m6 86 rfl) rfl
theorem q1374 : (Jvm.Cond.selects "FortyDaysModel" ({ cls := "FortyDaysModel", name := "port", desc := "()I" } : Jvm.MethodName) ({ cls := "FortyDaysModel", name := "port", desc := "()I" } : Jvm.MethodName)) ∈ lw_all := lw_g (lw_at lw_m6 87 rfl) rfl
theorem q1375 : (Jvm.Cond.code ({ cls := "FortyDaysModel", name := "port", desc := "()I" } : Jvm.MethodName) prog_21_method_21_code (2 : Nat) (Option.some Jvm.ClassFile.FieldType.int)) ∈ lw_all := lw_g (lw_at lw_m6 88 rfl) rfl
theorem q1376 : (Jvm.Cond.methodLink "FortyDaysModel" (131 : Nat) ({ cls := "FortyDaysModel", name := "clause", desc := "()V" } : Jvm.MethodName)) ∈ lw_all := lw_g (lw_at lw_m6 89 rfl) rfl
theorem q1377 : (Jvm.Cond.privateMethod ({ cls := "FortyDaysModel", name := "clause", desc := "()V" } : Jvm.MethodName)) ∈ lw_tbl := lw_at lw_m6 90 rfl
theorem q1378 : (Jvm.Cond.instanceMethod ({ cls := "FortyDaysModel", name := "clause", desc := "()V" } : Jvm.MethodName)) ∈ lw_all := lw_g (lw_at lw_m6 91 rfl) rfl
theorem q1379 : (Jvm.Cond.code ({ cls := "FortyDaysModel", name := "clause", desc := "()V" } : Jvm.MethodName) prog_21_method_20_code (1 : Nat) (Option.none : Option Jvm.ClassFile.FieldType)) ∈ lw_all := lw_g (lw_at lw_m6 92 rfl) rfl
theorem q1380 : (Jvm.Cond.methodLink "FortyDaysModel" (58 : Nat) ({ cls := "FortyDaysModel", name := "here", desc := "()I" } : Jvm.MethodName)) ∈ lw_all := lw_g (lw_at lw_m6 93 rfl) rfl
theorem q1381 : (Jvm.Cond.privateMethod ({ cls := "FortyDaysModel", name := "here", desc := "()I" } : Jvm.MethodName)) ∈ lw_tbl := lw_at lw_m6 94 rfl
theorem q1382 : (Jvm.Cond.instanceMethod ({ cls := "FortyDaysModel", name := "here", desc := "()I" } : Jvm.MethodName)) ∈ lw_all := lw_g (lw_at lw_m6 95 rfl) rfl
theorem q1383 : (Jvm.Cond.code ({ cls := "FortyDaysModel", name := "here", desc := "()I" } : Jvm.MethodName) prog_21_method_8_code (1 : Nat) (Option.some Jvm.ClassFile.FieldType.int)) ∈ lw_all := lw_g (lw_at lw_m6 96 rfl) rfl
theorem q1384 : (Jvm.Cond.methodLink "FortyDaysModel" (118 : Nat) ({ cls := "FortyDaysModel", name := "clauseOfH", desc := "()V" } : Jvm.MethodName)) ∈ lw_all := lw_g (lw_at lw_m6 97 rfl) rfl
theorem q1385 : (Jvm.Cond.privateMethod ({ cls := "FortyDaysModel", name := "clauseOfH", desc := "()V" } : Jvm.MethodName)) ∈ lw_tbl := lw_at lw_m6 98 rfl
theorem q1386 : (Jvm.Cond.instanceMethod ({ cls := "FortyDaysModel", name := "clauseOfH", desc := "()V" } : Jvm.MethodName)) ∈ lw_all := lw_g (lw_at lw_m6 99 rfl) rfl
theorem q1387 : (Jvm.Cond.code ({ cls := "FortyDaysModel", name := "clauseOfH", desc := "()V" } : Jvm.MethodName) prog_21_method_19_code (1 : Nat) (Option.none : Option Jvm.ClassFile.FieldType)) ∈ lw_all := lw_g (lw_at lw_m6 100 rfl) rfl
theorem q1388 : (Jvm.Cond.methodLink "FortyDaysModel" (71 : Nat) ({ cls := "FortyDaysModel", name := "must", desc := "(I)V" } : Jvm.MethodName)) ∈ lw_all := lw_g (lw_at lw_m6 101 rfl) rfl
theorem q1389 : (Jvm.Cond.privateMethod ({ cls := "FortyDaysModel", name := "must", desc := "(I)V" } : Jvm.MethodName)) ∈ lw_tbl := lw_at lw_m6 102 rfl
theorem q1390 : (Jvm.Cond.instanceMethod ({ cls := "FortyDaysModel", name := "must", desc := "(I)V" } : Jvm.MethodName)) ∈ lw_all := lw_g (lw_at lw_m6 103 rfl) rfl
theorem q1391 : (Jvm.Cond.code ({ cls := "FortyDaysModel", name := "must", desc := "(I)V" } : Jvm.MethodName) prog_21_method_9_code (2 : Nat) (Option.none : Option Jvm.ClassFile.FieldType)) ∈ lw_all := lw_g (lw_at lw_m6 104 rfl) rfl
theorem q1392 : (Jvm.Cond.methodLink "FortyDaysModel" (110 : Nat) ({ cls := "FortyDaysModel", name := "holdings", desc := "()V" } : Jvm.MethodName)) ∈ lw_all := lw_g (lw_at lw_m6 105 rfl) rfl
theorem q1393 : (Jvm.Cond.privateMethod ({ cls := "FortyDaysModel", name := "holdings", desc := "()V" } : Jvm.MethodName)) ∈ lw_tbl := lw_at lw_m6 106 rfl
theorem q1394 : (Jvm.Cond.instanceMethod ({ cls := "FortyDaysModel", name := "holdings", desc := "()V" } : Jvm.MethodName)) ∈ lw_all := lw_g (lw_at lw_m6 107 rfl) rfl
theorem q1395 : (Jvm.Cond.code ({ cls := "FortyDaysModel", name := "holdings", desc := "()V" } : Jvm.MethodName) prog_21_method_18_code (2 : Nat) (Option.none : Option Jvm.ClassFile.FieldType)) ∈ lw_all := lw_g (lw_at lw_m6 108 rfl) rfl
theorem q1396 : (Jvm.Cond.stringRef "FortyDaysModel" (108 : Nat) "ld ") ∈ lw_tbl := lw_at lw_m6 109 rfl
theorem q1397 : (Jvm.Cond.methodLink "FortyDaysModel" (96 : Nat) ({ cls := "FortyDaysModel", name := "spells", desc := "(Ljava/lang/String;)V" } : Jvm.MethodName)) ∈ lw_all := lw_g (lw_at lw_m6 110 rfl) rfl
theorem q1398 : (Jvm.Cond.privateMethod ({ cls := "FortyDaysModel", name := "spells", desc := "(Ljava/lang/String;)V" } : Jvm.MethodName)) ∈ lw_tbl := lw_at lw_m6 111 rfl
theorem q1399 : (Jvm.Cond.instanceMethod ({ cls := "FortyDaysModel", name := "spells", desc := "(Ljava/lang/String;)V" } : Jvm.MethodName)) ∈ lw_all := lw_g (lw_at lw_m6 112 rfl) rfl
theorem q1400 : (Jvm.Cond.code ({ cls := "FortyDaysModel", name := "spells", desc := "(Ljava/lang/String;)V" } : Jvm.MethodName) prog_21_method_10_code (3 : Nat) (Option.none : Option Jvm.ClassFile.FieldType)) ∈ lw_all := lw_g (lw_at lw_m6 113 rfl) rfl
theorem q1401 : (Jvm.Cond.methodLink "FortyDaysModel" (62 : Nat) ({ cls := "java/lang/String", name := "length", desc := "()I" } : Jvm.MethodName)) ∈ lw_all := lw_g (lw_at lw_m6 114 rfl) rfl
theorem q1411 : (Jvm.Cond.methodLink "FortyDaysModel" (67 : Nat) ({ cls := "java/lang/String", name := "charAt", desc := "(I)C" } : Jvm.MethodName)) ∈ lw_all := lw_g (lw_at lw_m6 124 rfl) rfl
theorem q1447 : (Jvm.Cond.methodLink "FortyDaysModel" (90 : Nat) ({ cls := "FortyDaysModel", name := "figures", desc := "()I" } : Jvm.MethodName)) ∈ lw_all := lw_g (lw_at lw_m6 160 rfl) rfl
theorem q1448 : (Jvm.Cond.privateMethod ({ cls := "FortyDaysModel", name := "figures", desc := "()I" } : Jvm.MethodName)) ∈ lw_tbl := lw_at lw_m6 161 rfl
theorem q1449 : (Jvm.Cond.instanceMethod ({ cls := "FortyDaysModel", name := "figures", desc := "()I" } : Jvm.MethodName)) ∈ lw_all := lw_g (lw_at lw_m6 162 rfl) rfl
theorem q1450 : (Jvm.Cond.code ({ cls := "FortyDaysModel", name := "figures", desc := "()I" } : Jvm.MethodName) prog_21_method_11_code (3 : Nat) (Option.some Jvm.ClassFile.FieldType.int)) ∈ lw_all := lw_g (lw_at lw_m6 163 rfl) rfl
theorem q1451 : (Jvm.Cond.methodLink "FortyDaysModel" (87 : Nat) ({ cls := "FortyDaysModel", name := "some", desc := "()V" } : Jvm.MethodName)) ∈ lw_all := lw_g (lw_at lw_m6 164 rfl) rfl
theorem q1452 : (Jvm.Cond.privateMethod ({ cls := "FortyDaysModel", name := "some", desc := "()V" } : Jvm.MethodName)) ∈ lw_tbl := lw_at lw_m6 165 rfl
theorem q1453 : (Jvm.Cond.instanceMethod ({ cls := "FortyDaysModel", name := "some", desc := "()V" } : Jvm.MethodName)) ∈ lw_all := lw_g (lw_at lw_m6 166 rfl) rfl
theorem q1454 : (Jvm.Cond.code ({ cls := "FortyDaysModel", name := "some", desc := "()V" } : Jvm.MethodName) prog_21_method_15_code (1 : Nat) (Option.none : Option Jvm.ClassFile.FieldType)) ∈ lw_all := lw_g (lw_at lw_m6 167 rfl) rfl
theorem q1455 : (Jvm.Cond.methodLink "FortyDaysModel" (93 : Nat) ({ cls := "FortyDaysModel", name := "every", desc := "()V" } : Jvm.MethodName)) ∈ lw_all := lw_g (lw_at lw_m6 168 rfl) rfl
theorem q1456 : (Jvm.Cond.privateMethod ({ cls := "FortyDaysModel", name := "every", desc := "()V" } : Jvm.MethodName)) ∈ lw_tbl := lw_at lw_m6 169 rfl
theorem q1457 : (Jvm.Cond.instanceMethod ({ cls := "FortyDaysModel", name := "every", desc := "()V" } : Jvm.MethodName)) ∈ lw_all := lw_g (lw_at lw_m6 170 rfl) rfl
theorem q1458 : (Jvm.Cond.code ({ cls := "FortyDaysModel", name := "every", desc := "()V" } : Jvm.MethodName) prog_21_method_14_code (1 : Nat) (Option.none : Option Jvm.ClassFile.FieldType)) ∈ lw_all := lw_g (lw_at lw_m6 171 rfl) rfl
theorem q1459 : (Jvm.Cond.methodLink "FortyDaysModel" (81 : Nat) ({ cls := "FortyDaysModel", name := "factor", desc := "()V" } : Jvm.MethodName)) ∈ lw_all := lw_g (lw_at lw_m6 172 rfl) rfl
theorem q1460 : (Jvm.Cond.privateMethod ({ cls := "FortyDaysModel", name := "factor", desc := "()V" } : Jvm.MethodName)) ∈ lw_tbl := lw_at lw_m6 173 rfl
theorem q1461 : (Jvm.Cond.instanceMethod ({ cls := "FortyDaysModel", name := "factor", desc := "()V" } : Jvm.MethodName)) ∈ lw_all := lw_g (lw_at lw_m6 174 rfl) rfl
theorem q1462 : (Jvm.Cond.code ({ cls := "FortyDaysModel", name := "factor", desc := "()V" } : Jvm.MethodName) prog_21_method_13_code (4 : Nat) (Option.none : Option Jvm.ClassFile.FieldType)) ∈ lw_all := lw_g (lw_at lw_m6 175 rfl) rfl
theorem q1463 : (Jvm.Cond.methodLink "FortyDaysModel" (84 : Nat) ({ cls := "FortyDaysModel", name := "emits", desc := "(I)V" } : Jvm.MethodName)) ∈ lw_all := lw_g (lw_at lw_m6 176 rfl) rfl
theorem q1464 : (Jvm.Cond.privateMethod ({ cls := "FortyDaysModel", name := "emits", desc := "(I)V" } : Jvm.MethodName)) ∈ lw_tbl := lw_at lw_m6 177 rfl
theorem q1465 : (Jvm.Cond.instanceMethod ({ cls := "FortyDaysModel", name := "emits", desc := "(I)V" } : Jvm.MethodName)) ∈ lw_all := lw_g (lw_at lw_m6 178 rfl) rfl
theorem q1466 : (Jvm.Cond.code ({ cls := "FortyDaysModel", name := "emits", desc := "(I)V" } : Jvm.MethodName) prog_21_method_12_code (2 : Nat) (Option.none : Option Jvm.ClassFile.FieldType)) ∈ lw_all := lw_g (lw_at lw_m6 179 rfl) rfl
theorem q1467 : (Jvm.Cond.stringRef "FortyDaysModel" (113 : Nat) "rm ") ∈ lw_tbl := lw_at lw_m6 180 rfl
theorem q1468 : (Jvm.Cond.methodLink "FortyDaysModel" (104 : Nat) ({ cls := "FortyDaysModel", name := "tells", desc := "(ILjava/lang/String;)V" } : Jvm.MethodName)) ∈ lw_all := lw_g (lw_at lw_m6 181 rfl) rfl
theorem q1469 : (Jvm.Cond.privateMethod ({ cls := "FortyDaysModel", name := "tells", desc := "(ILjava/lang/String;)V" } : Jvm.MethodName)) ∈ lw_tbl := lw_at lw_m6 182 rfl
theorem q1470 : (Jvm.Cond.instanceMethod ({ cls := "FortyDaysModel", name := "tells", desc := "(ILjava/lang/String;)V" } : Jvm.MethodName)) ∈ lw_all := lw_g (lw_at lw_m6 183 rfl) rfl
theorem q1471 : (Jvm.Cond.code ({ cls := "FortyDaysModel", name := "tells", desc := "(ILjava/lang/String;)V" } : Jvm.MethodName) prog_21_method_16_code (4 : Nat) (Option.none : Option Jvm.ClassFile.FieldType)) ∈ lw_all := lw_g (lw_at lw_m6 184 rfl) rfl
theorem q1472 : (Jvm.Cond.methodLink "FortyDaysModel" (115 : Nat) ({ cls := "FortyDaysModel", name := "haves", desc := "()V" } : Jvm.MethodName)) ∈ lw_all := lw_g (lw_at lw_m6 185 rfl) rfl
theorem q1473 : (Jvm.Cond.privateMethod ({ cls := "FortyDaysModel", name := "haves", desc := "()V" } : Jvm.MethodName)) ∈ lw_tbl := lw_at lw_m6 186 rfl
theorem q1474 : (Jvm.Cond.instanceMethod ({ cls := "FortyDaysModel", name := "haves", desc := "()V" } : Jvm.MethodName)) ∈ lw_all := lw_g (lw_at lw_m6 187 rfl) rfl
theorem q1475 : (Jvm.Cond.code ({ cls := "FortyDaysModel", name := "haves", desc := "()V" } : Jvm.MethodName) prog_21_method_17_code (2 : Nat) (Option.none : Option Jvm.ClassFile.FieldType)) ∈ lw_all := lw_g (lw_at lw_m6 188 rfl) rfl
theorem q1476 : (Jvm.Cond.stringRef "FortyDaysModel" (100 : Nat) "ve ") ∈ lw_tbl := lw_at lw_m6 189 rfl
theorem q1477 : (Jvm.Cond.stringRef "FortyDaysModel" (102 : Nat) " ") ∈ lw_tbl := lw_at lw_m6 190 rfl
theorem q1478 : (Jvm.Cond.stringRef "FortyDaysModel" (121 : Nat) "give ") ∈ lw_tbl := lw_at lw_m6 191 rfl
theorem q1479 : (Jvm.Cond.stringRef "FortyDaysModel" (123 : Nat) "show ") ∈ lw_tbl := lw_at lw_m6 192 rfl
theorem q1480 : (Jvm.Cond.stringRef "FortyDaysModel" (125 : Nat) "over ") ∈ lw_tbl := lw_at lw_m6 193 rfl
theorem q1481 : (Jvm.Cond.stringRef "FortyDaysModel" (127 : Nat) "look ") ∈ lw_tbl := lw_at lw_m6 194 rfl
theorem q1482 : (Jvm.Cond.stringRef "FortyDaysModel" (129 : Nat) "miss ") ∈ lw_tbl := lw_at lw_m6 195 rfl
theorem q1484 : (Jvm.Cond.instanceMethod ({ cls := "FortyDaysModel", name := "told", desc := "(II)I" } : Jvm.MethodName)) ∈ lw_all := lw_g (lw_at lw_m6 197 rfl) rfl
theorem q1485 : (Jvm.Cond.selects "FortyDaysModel" ({ cls := "FortyDaysModel", name := "told", desc := "(II)I" } : Jvm.MethodName) ({ cls := "FortyDaysModel", name := "told", desc := "(II)I" } : Jvm.MethodName)) ∈ lw_all := lw_g (lw_at lw_m6 198 rfl) rfl
theorem q1486 : (Jvm.Cond.code ({ cls := "FortyDaysModel", name := "told", desc := "(II)I" } : Jvm.MethodName) prog_21_method_22_code (3 : Nat) (Option.some Jvm.ClassFile.FieldType.int)) ∈ lw_all := lw_g (lw_at lw_m6 199 rfl) rfl
theorem q1487 : (Jvm.Cond.methodLink "FortyDaysModel" (134 : Nat) ({ cls := "FortyDaysModel", name := "isPort", desc := "(I)Z" } : Jvm.MethodName)) ∈ lw_all := lw_g (lw_at lw_m6 200 rfl) rfl
theorem q1488 : (Jvm.Cond.privateMethod ({ cls := "FortyDaysModel", name := "isPort", desc := "(I)Z" } : Jvm.MethodName)) ∈ lw_tbl := lw_at lw_m6 201 rfl
theorem q1489 : (Jvm.Cond.instanceMethod ({ cls := "FortyDaysModel", name := "isPort", desc := "(I)Z" } : Jvm.MethodName)) ∈ lw_all := lw_g (lw_at lw_m6 202 rfl) rfl
theorem q1490 : (Jvm.Cond.code ({ cls := "FortyDaysModel", name := "isPort", desc := "(I)Z" } : Jvm.MethodName) prog_21_method_4_code (2 : Nat) (Option.some Jvm.ClassFile.FieldType.boolean)) ∈ lw_all := lw_g (lw_at lw_m6 203 rfl) rfl
theorem q1492 : (Jvm.Cond.instanceMethod ({ cls := "FortyDaysModel", name := "holds", desc := "(IIII)I" } : Jvm.MethodName)) ∈ lw_all := lw_g (lw_at lw_m6 205 rfl) rfl
theorem q1493 : (Jvm.Cond.selects "FortyDaysModel" ({ cls := "FortyDaysModel", name := "holds", desc := "(IIII)I" } : Jvm.MethodName) ({ cls := "FortyDaysModel", name := "holds", desc := "(IIII)I" } : Jvm.MethodName)) ∈ lw_all := lw_g (lw_at lw_m6 206 rfl) rfl
theorem q1494 : (Jvm.Cond.code ({ cls := "FortyDaysModel", name := "holds", desc := "(IIII)I" } : Jvm.MethodName) prog_21_method_24_code (5 : Nat) (Option.some Jvm.ClassFile.FieldType.int)) ∈ lw_all := lw_g (lw_at lw_m6 207 rfl) rfl
theorem q1495 : (Jvm.Cond.methodLink "FortyDaysModel" (138 : Nat) ({ cls := "FortyDaysModel", name := "holdOf", desc := "(IIII)I" } : Jvm.MethodName)) ∈ lw_all := lw_g (lw_at lw_m6 208 rfl) rfl
theorem q1496 : (Jvm.Cond.privateMethod ({ cls := "FortyDaysModel", name := "holdOf", desc := "(IIII)I" } : Jvm.MethodName)) ∈ lw_tbl := lw_at lw_m6 209 rfl
theorem q1497 : (Jvm.Cond.instanceMethod ({ cls := "FortyDaysModel", name := "holdOf", desc := "(IIII)I" } : Jvm.MethodName)) ∈ lw_all := lw_g (lw_at lw_m6 210 rfl) rfl
theorem q1498 : (Jvm.Cond.code ({ cls := "FortyDaysModel", name := "holdOf", desc := "(IIII)I" } : Jvm.MethodName) prog_21_method_23_code (13 : Nat) (Option.some Jvm.ClassFile.FieldType.int)) ∈ lw_all := lw_g (lw_at lw_m6 211 rfl) rfl
theorem q1500 : (Jvm.Cond.instanceMethod ({ cls := "FortyDaysModel", name := "ship", desc := "(III)I" } : Jvm.MethodName)) ∈ lw_all := lw_g (lw_at lw_m6 213 rfl) rfl
theorem q1501 : (Jvm.Cond.selects "FortyDaysModel" ({ cls := "FortyDaysModel", name := "ship", desc := "(III)I" } : Jvm.MethodName) ({ cls := "FortyDaysModel", name := "ship", desc := "(III)I" } : Jvm.MethodName)) ∈ lw_all := lw_g (lw_at lw_m6 214 rfl) rfl
theorem q1502 : (Jvm.Cond.code ({ cls := "FortyDaysModel", name := "ship", desc := "(III)I" } : Jvm.MethodName) prog_21_method_37_code (5 : Nat) (Option.some Jvm.ClassFile.FieldType.int)) ∈ lw_all := lw_g (lw_at lw_m6 215 rfl) rfl
theorem q1503 : (Jvm.Cond.methodLink "FortyDaysModel" (187 : Nat) ({ cls := "FortyDaysModel", name := "thinksAnew", desc := "(II)V" } : Jvm.MethodName)) ∈ lw_all := lw_g (lw_at lw_m6 216 rfl) rfl
theorem q1504 : (Jvm.Cond.privateMethod ({ cls := "FortyDaysModel", name := "thinksAnew", desc := "(II)V" } : Jvm.MethodName)) ∈ lw_tbl := lw_at lw_m6 217 rfl
theorem q1505 : (Jvm.Cond.instanceMethod ({ cls := "FortyDaysModel", name := "thinksAnew", desc := "(II)V" } : Jvm.MethodName)) ∈ lw_all := lw_g (lw_at lw_m6 218 rfl) rfl
theorem q1506 : (Jvm.Cond.code ({ cls := "FortyDaysModel", name := "thinksAnew", desc := "(II)V" } : Jvm.MethodName) prog_21_method_36_code (3 : Nat) (Option.none : Option Jvm.ClassFile.FieldType)) ∈ lw_all := lw_g (lw_at lw_m6 219 rfl) rfl
theorem q1507 : (Jvm.Cond.methodLink "FortyDaysModel" (178 : Nat) ({ cls := "FortyDaysModel", name := "takes", desc := "(I)V" } : Jvm.MethodName)) ∈ lw_all := lw_g (lw_at lw_m6 220 rfl) rfl
theorem q1508 : (Jvm.Cond.privateMethod ({ cls := "FortyDaysModel", name := "takes", desc := "(I)V" } : Jvm.MethodName)) ∈ lw_tbl := lw_at lw_m6 221 rfl
theorem q1509 : (Jvm.Cond.instanceMethod ({ cls := "FortyDaysModel", name := "takes", desc := "(I)V" } : Jvm.MethodName)) ∈ lw_all := lw_g (lw_at lw_m6 222 rfl) rfl
theorem q1510 : (Jvm.Cond.code ({ cls := "FortyDaysModel", name := "takes", desc := "(I)V" } : Jvm.MethodName) prog_21_method_34_code (3 : Nat) (Option.none : Option Jvm.ClassFile.FieldType)) ∈ lw_all := lw_g (lw_at lw_m6 223 rfl) rfl
theorem q1511 : (Jvm.Cond.methodLink "FortyDaysModel" (181 : Nat) ({ cls := "FortyDaysModel", name := "anew", desc := "(III)V" } : Jvm.MethodName)) ∈ lw_all := lw_g (lw_at lw_m6 224 rfl) rfl
theorem q1512 : (Jvm.Cond.privateMethod ({ cls := "FortyDaysModel", name := "anew", desc := "(III)V" } : Jvm.MethodName)) ∈ lw_tbl := lw_at lw_m6 225 rfl
theorem q1513 : (Jvm.Cond.instanceMethod ({ cls := "FortyDaysModel", name := "anew", desc := "(III)V" } : Jvm.MethodName)) ∈ lw_all := lw_g (lw_at lw_m6 226 rfl) rfl
theorem q1514 : (Jvm.Cond.code ({ cls := "FortyDaysModel", name := "anew", desc := "(III)V" } : Jvm.MethodName) prog_21_method_28_code (7 : Nat) (Option.none : Option Jvm.ClassFile.FieldType)) ∈ lw_all := lw_g (lw_at lw_m6 227 rfl) rfl
theorem q1515 : (Jvm.Cond.constant "FortyDaysModel" (154 : Nat) (1000000 : Int32)) ∈ lw_all := lw_g (lw_at lw_m6 228 rfl) rfl
theorem q1516 : (Jvm.Cond.methodLink "FortyDaysModel" (158 : Nat) ({ cls := "FortyDaysModel", name := "moves", desc := "(III)V" } : Jvm.MethodName)) ∈ lw_all := lw_g (lw_at lw_m6 229 rfl) rfl
theorem q1517 : (Jvm.Cond.privateMethod ({ cls := "FortyDaysModel", name := "moves", desc := "(III)V" } : Jvm.MethodName)) ∈ lw_tbl := lw_at lw_m6 230 rfl
theorem q1518 : (Jvm.Cond.instanceMethod ({ cls := "FortyDaysModel", name := "moves", desc := "(III)V" } : Jvm.MethodName)) ∈ lw_all := lw_g (lw_at lw_m6 231 rfl) rfl
theorem q1519 : (Jvm.Cond.code ({ cls := "FortyDaysModel", name := "moves", desc := "(III)V" } : Jvm.MethodName) prog_21_method_27_code (5 : Nat) (Option.none : Option Jvm.ClassFile.FieldType)) ∈ lw_all := lw_g (lw_at lw_m6 232 rfl) rfl
theorem q1520 : (Jvm.Cond.methodLink "FortyDaysModel" (150 : Nat) ({ cls := "FortyDaysModel", name := "part", desc := "(II)J" } : Jvm.MethodName)) ∈ lw_all := lw_g (lw_at lw_m6 233 rfl) rfl
theorem q1521 : (Jvm.Cond.static ({ cls := "FortyDaysModel", name := "part", desc := "(II)J" } : Jvm.MethodName)) ∈ lw_all := lw_g (lw_at lw_m6 234 rfl) rfl
theorem q1522 : (Jvm.Cond.code ({ cls := "FortyDaysModel", name := "part", desc := "(II)J" } : Jvm.MethodName) prog_21_method_26_code (2 : Nat) (Option.some Jvm.ClassFile.FieldType.long)) ∈ lw_all := lw_g (lw_at lw_m6 235 rfl) rfl
theorem q1523 : (Jvm.Cond.constantLong "FortyDaysModel" (148 : Nat) (1000 : Int64)) ∈ lw_all := lw_g (lw_at lw_m6 236 rfl) rfl
theorem q1524 : (Jvm.Cond.methodLink "FortyDaysModel" (184 : Nat) ({ cls := "FortyDaysModel", name := "puts", desc := "(I)V" } : Jvm.MethodName)) ∈ lw_all := lw_g (lw_at lw_m6 237 rfl) rfl
theorem q1525 : (Jvm.Cond.privateMethod ({ cls := "FortyDaysModel", name := "puts", desc := "(I)V" } : Jvm.MethodName)) ∈ lw_tbl := lw_at lw_m6 238 rfl
theorem q1526 : (Jvm.Cond.instanceMethod ({ cls := "FortyDaysModel", name := "puts", desc := "(I)V" } : Jvm.MethodName)) ∈ lw_all := lw_g (lw_at lw_m6 239 rfl) rfl
theorem q1527 : (Jvm.Cond.code ({ cls := "FortyDaysModel", name := "puts", desc := "(I)V" } : Jvm.MethodName) prog_21_method_35_code (3 : Nat) (Option.none : Option Jvm.ClassFile.FieldType)) ∈ lw_all := lw_g (lw_at lw_m7 0 rfl) rfl
theorem q1529 : (Jvm.Cond.instanceMethod ({ cls := "FortyDaysModel", name := "says", desc := "(II)I" } : Jvm.MethodName)) ∈ lw_all := lw_g (lw_at lw_m7 2 rfl) rfl
theorem q1530 : (Jvm.Cond.selects "FortyDaysModel" ({ cls := "FortyDaysModel", name := "says", desc := "(II)I" } : Jvm.MethodName) ({ cls := "FortyDaysModel", name := "says", desc := "(II)I" } : Jvm.MethodName)) ∈ lw_all := lw_g (lw_at lw_m7 3 rfl) rfl
theorem q1531 : (Jvm.Cond.code ({ cls := "FortyDaysModel", name := "says", desc := "(II)I" } : Jvm.MethodName) prog_21_method_38_code (4 : Nat) (Option.some Jvm.ClassFile.FieldType.int)) ∈ lw_all := lw_g (lw_at lw_m7 4 rfl) rfl
theorem q1532 : (Jvm.Cond.methodLink "FortyDaysModel" (191 : Nat) ({ cls := "FortyDaysModel", name := "isShip", desc := "(I)Z" } : Jvm.MethodName)) ∈ lw_all := lw_g (lw_at lw_m7 5 rfl) rfl
theorem q1533 : (Jvm.Cond.privateMethod ({ cls := "FortyDaysModel", name := "isShip", desc := "(I)Z" } : Jvm.MethodName)) ∈ lw_tbl := lw_at lw_m7 6 rfl
theorem q1534 : (Jvm.Cond.instanceMethod ({ cls := "FortyDaysModel", name := "isShip", desc := "(I)Z" } : Jvm.MethodName)) ∈ lw_all := lw_g (lw_at lw_m7 7 rfl) rfl
theorem q1535 : (Jvm.Cond.code ({ cls := "FortyDaysModel", name := "isShip", desc := "(I)Z" } : Jvm.MethodName) prog_21_method_5_code (2 : Nat) (Option.some Jvm.ClassFile.FieldType.boolean)) ∈ lw_all := lw_g (lw_at lw_m7 8 rfl) rfl
theorem q1537 : (Jvm.Cond.instanceMethod ({ cls := "FortyDaysModel", name := "late", desc := "(II)I" } : Jvm.MethodName)) ∈ lw_all := lw_g (lw_at lw_m7 10 rfl) rfl
theorem q1538 : (Jvm.Cond.selects "FortyDaysModel" ({ cls := "FortyDaysModel", name := "late", desc := "(II)I" } : Jvm.MethodName) ({ cls := "FortyDaysModel", name := "late", desc := "(II)I" } : Jvm.MethodName)) ∈ lw_all := lw_g (lw_at lw_m7 11 rfl) rfl
theorem q1539 : (Jvm.Cond.code ({ cls := "FortyDaysModel", name := "late", desc := "(II)I" } : Jvm.MethodName) prog_21_method_39_code (3 : Nat) (Option.some Jvm.ClassFile.FieldType.int)) ∈ lw_all := lw_g (lw_at lw_m7 12 rfl) rfl
theorem q1541 : (Jvm.Cond.instanceMethod ({ cls := "FortyDaysModel", name := "of", desc := "(II)I" } : Jvm.MethodName)) ∈ lw_all := lw_g (lw_at lw_m7 14 rfl) rfl
theorem q1542 : (Jvm.Cond.selects "FortyDaysModel" ({ cls := "FortyDaysModel", name := "of", desc := "(II)I" } : Jvm.MethodName) ({ cls := "FortyDaysModel", name := "of", desc := "(II)I" } : Jvm.MethodName)) ∈ lw_all := lw_g (lw_at lw_m7 15 rfl) rfl
theorem q1543 : (Jvm.Cond.code ({ cls := "FortyDaysModel", name := "of", desc := "(II)I" } : Jvm.MethodName) prog_21_method_40_code (3 : Nat) (Option.some Jvm.ClassFile.FieldType.int)) ∈ lw_all := lw_g (lw_at lw_m7 16 rfl) rfl
theorem q1545 : (Jvm.Cond.instanceMethod ({ cls := "FortyDaysModel", name := "days", desc := "(II)I" } : Jvm.MethodName)) ∈ lw_all := lw_g (lw_at lw_m7 18 rfl) rfl
theorem q1546 : (Jvm.Cond.selects "FortyDaysModel" ({ cls := "FortyDaysModel", name := "days", desc := "(II)I" } : Jvm.MethodName) ({ cls := "FortyDaysModel", name := "days", desc := "(II)I" } : Jvm.MethodName)) ∈ lw_all := lw_g (lw_at lw_m7 19 rfl) rfl
theorem q1547 : (Jvm.Cond.code ({ cls := "FortyDaysModel", name := "days", desc := "(II)I" } : Jvm.MethodName) prog_21_method_41_code (5 : Nat) (Option.some Jvm.ClassFile.FieldType.int)) ∈ lw_all := lw_g (lw_at lw_m7 20 rfl) rfl
theorem q1548 : (Jvm.Cond.methodLink "FortyDaysModel" (194 : Nat) ({ cls := "FortyDaysModel", name := "aboard", desc := "(I)I" } : Jvm.MethodName)) ∈ lw_all := lw_g (lw_at lw_m7 21 rfl) rfl
theorem q1549 : (Jvm.Cond.privateMethod ({ cls := "FortyDaysModel", name := "aboard", desc := "(I)I" } : Jvm.MethodName)) ∈ lw_tbl := lw_at lw_m7 22 rfl
theorem q1550 : (Jvm.Cond.instanceMethod ({ cls := "FortyDaysModel", name := "aboard", desc := "(I)I" } : Jvm.MethodName)) ∈ lw_all := lw_g (lw_at lw_m7 23 rfl) rfl
theorem q1551 : (Jvm.Cond.code ({ cls := "FortyDaysModel", name := "aboard", desc := "(I)I" } : Jvm.MethodName) prog_21_method_30_code (5 : Nat) (Option.some Jvm.ClassFile.FieldType.int)) ∈ lw_all := lw_g (lw_at lw_m7 24 rfl) rfl
theorem q1552 : (Jvm.Cond.methodLink "FortyDaysModel" (164 : Nat) ({ cls := "FortyDaysModel", name := "chance", desc := "(I)I" } : Jvm.MethodName)) ∈ lw_all := lw_g (lw_at lw_m7 25 rfl) rfl
theorem q1553 : (Jvm.Cond.privateMethod ({ cls := "FortyDaysModel", name := "chance", desc := "(I)I" } : Jvm.MethodName)) ∈ lw_tbl := lw_at lw_m7 26 rfl
theorem q1554 : (Jvm.Cond.instanceMethod ({ cls := "FortyDaysModel", name := "chance", desc := "(I)I" } : Jvm.MethodName)) ∈ lw_all := lw_g (lw_at lw_m7 27 rfl) rfl
theorem q1555 : (Jvm.Cond.code ({ cls := "FortyDaysModel", name := "chance", desc := "(I)I" } : Jvm.MethodName) prog_21_method_25_code (3 : Nat) (Option.some Jvm.ClassFile.FieldType.int)) ∈ lw_all := lw_g (lw_at lw_m7 28 rfl) rfl
theorem q1556 : (Jvm.Cond.methodLink "FortyDaysModel" (168 : Nat) ({ cls := "FortyDaysModel", name := "led", desc := "(I)V" } : Jvm.MethodName)) ∈ lw_all := lw_g (lw_at lw_m7 29 rfl) rfl
theorem q1557 : (Jvm.Cond.privateMethod ({ cls := "FortyDaysModel", name := "led", desc := "(I)V" } : Jvm.MethodName)) ∈ lw_tbl := lw_at lw_m7 30 rfl
theorem q1558 : (Jvm.Cond.instanceMethod ({ cls := "FortyDaysModel", name := "led", desc := "(I)V" } : Jvm.MethodName)) ∈ lw_all := lw_g (lw_at lw_m7 31 rfl) rfl
theorem q1559 : (Jvm.Cond.code ({ cls := "FortyDaysModel", name := "led", desc := "(I)V" } : Jvm.MethodName) prog_21_method_29_code (6 : Nat) (Option.none : Option Jvm.ClassFile.FieldType)) ∈ lw_all := lw_g (lw_at lw_m7 32 rfl) rfl
theorem q1560 : (Jvm.Cond.constantLong "FortyDaysModel" (162 : Nat) (1000000 : Int64)) ∈ lw_all := lw_g (lw_at lw_m7 33 rfl) rfl
theorem q1562 : (Jvm.Cond.instanceMethod ({ cls := "FortyDaysModel", name := "look", desc := "(I)I" } : Jvm.MethodName)) ∈ lw_all := lw_g (lw_at lw_m7 35 rfl) rfl
theorem q1563 : (Jvm.Cond.selects "FortyDaysModel" ({ cls := "FortyDaysModel", name := "look", desc := "(I)I" } : Jvm.MethodName) ({ cls := "FortyDaysModel", name := "look", desc := "(I)I" } : Jvm.MethodName)) ∈ lw_all := lw_g (lw_at lw_m7 36 rfl) rfl
theorem q1564 : (Jvm.Cond.code ({ cls := "FortyDaysModel", name := "look", desc := "(I)I" } : Jvm.MethodName) prog_21_method_42_code (3 : Nat) (Option.some Jvm.ClassFile.FieldType.int)) ∈ lw_all := lw_g (lw_at lw_m7 37 rfl) rfl
theorem q1565 : (Jvm.Cond.methodLink "FortyDaysModel" (197 : Nat) ({ cls := "FortyDaysModel", name := "looks", desc := "(I)I" } : Jvm.MethodName)) ∈ lw_all := lw_g (lw_at lw_m7 38 rfl) rfl
theorem q1566 : (Jvm.Cond.privateMethod ({ cls := "FortyDaysModel", name := "looks", desc := "(I)I" } : Jvm.MethodName)) ∈ lw_tbl := lw_at lw_m7 39 rfl
theorem q1567 : (Jvm.Cond.instanceMethod ({ cls := "FortyDaysModel", name := "looks", desc := "(I)I" } : Jvm.MethodName)) ∈ lw_all := lw_g (lw_at lw_m7 40 rfl) rfl
theorem q1568 : (Jvm.Cond.code ({ cls := "FortyDaysModel", name := "looks", desc := "(I)I" } : Jvm.MethodName) prog_21_method_31_code (6 : Nat) (Option.some Jvm.ClassFile.FieldType.int)) ∈ lw_all := lw_g (lw_at lw_m7 41 rfl) rfl
theorem q1570 : (Jvm.Cond.instanceMethod ({ cls := "FortyDaysModel", name := "harm", desc := "(I)J" } : Jvm.MethodName)) ∈ lw_all := lw_g (lw_at lw_m7 43 rfl) rfl
theorem q1571 : (Jvm.Cond.selects "FortyDaysModel" ({ cls := "FortyDaysModel", name := "harm", desc := "(I)J" } : Jvm.MethodName) ({ cls := "FortyDaysModel", name := "harm", desc := "(I)J" } : Jvm.MethodName)) ∈ lw_all := lw_g (lw_at lw_m7 44 rfl) rfl
theorem q1572 : (Jvm.Cond.code ({ cls := "FortyDaysModel", name := "harm", desc := "(I)J" } : Jvm.MethodName) prog_21_method_43_code (2 : Nat) (Option.some Jvm.ClassFile.FieldType.long)) ∈ lw_all := lw_g (lw_at lw_m7 45 rfl) rfl
theorem q1573 : (Jvm.Cond.constantLong "FortyDaysModel" (200 : Nat) (-9223372036854775808 : Int64)) ∈ lw_all := lw_g (lw_at lw_m7 46 rfl) rfl
theorem q1574 : (Jvm.Cond.methodLink "FortyDaysModel" (202 : Nat) ({ cls := "FortyDaysModel", name := "harmOf", desc := "(I)J" } : Jvm.MethodName)) ∈ lw_all := lw_g (lw_at lw_m7 47 rfl) rfl
theorem q1575 : (Jvm.Cond.privateMethod ({ cls := "FortyDaysModel", name := "harmOf", desc := "(I)J" } : Jvm.MethodName)) ∈ lw_tbl := lw_at lw_m7 48 rfl
theorem q1576 : (Jvm.Cond.instanceMethod ({ cls := "FortyDaysModel", name := "harmOf", desc := "(I)J" } : Jvm.MethodName)) ∈ lw_all := lw_g (lw_at lw_m7 49 rfl) rfl
theorem q1577 : (Jvm.Cond.code ({ cls := "FortyDaysModel", name := "harmOf", desc := "(I)J" } : Jvm.MethodName) prog_21_method_32_code (2 : Nat) (Option.some Jvm.ClassFile.FieldType.long)) ∈ lw_all := lw_g (lw_at lw_m7 50 rfl) rfl
theorem q1578 : (Jvm.Cond.constantLong "FortyDaysModel" (171 : Nat) (2 : Int64)) ∈ lw_all := lw_g (lw_at lw_m7 51 rfl) rfl
theorem q1579 : (Jvm.Cond.constantLong "FortyDaysModel" (173 : Nat) (3 : Int64)) ∈ lw_all := lw_g (lw_at lw_m7 52 rfl) rfl
theorem q1581 : (Jvm.Cond.instanceMethod ({ cls := "FortyDaysModel", name := "rule", desc := "(II)I" } : Jvm.MethodName)) ∈ lw_all := lw_g (lw_at lw_m7 54 rfl) rfl
theorem q1582 : (Jvm.Cond.selects "FortyDaysModel" ({ cls := "FortyDaysModel", name := "rule", desc := "(II)I" } : Jvm.MethodName) ({ cls := "FortyDaysModel", name := "rule", desc := "(II)I" } : Jvm.MethodName)) ∈ lw_all := lw_g (lw_at lw_m7 55 rfl) rfl
theorem q1583 : (Jvm.Cond.code ({ cls := "FortyDaysModel", name := "rule", desc := "(II)I" } : Jvm.MethodName) prog_21_method_44_code (4 : Nat) (Option.some Jvm.ClassFile.FieldType.int)) ∈ lw_all := lw_g (lw_at lw_m7 56 rfl) rfl
theorem q1585 : (Jvm.Cond.instanceMethod ({ cls := "FortyDaysModel", name := "row", desc := "(II)I" } : Jvm.MethodName)) ∈ lw_all := lw_g (lw_at lw_m7 58 rfl) rfl
theorem q1586 : (Jvm.Cond.selects "FortyDaysModel" ({ cls := "FortyDaysModel", name := "row", desc := "(II)I" } : Jvm.MethodName) ({ cls := "FortyDaysModel", name := "row", desc := "(II)I" } : Jvm.MethodName)) ∈ lw_all := lw_g (lw_at lw_m7 59 rfl) rfl
theorem q1587 : (Jvm.Cond.code ({ cls := "FortyDaysModel", name := "row", desc := "(II)I" } : Jvm.MethodName) prog_21_method_45_code (3 : Nat) (Option.some Jvm.ClassFile.FieldType.int)) ∈ lw_all := lw_g (lw_at lw_m7 60 rfl) rfl
theorem q1588 : (Jvm.Cond.methodLink "FortyDaysModel" (206 : Nat) ({ cls := "FortyDaysModel", name := "isRule", desc := "(I)Z" } : Jvm.MethodName)) ∈ lw_all := lw_g (lw_at lw_m7 61 rfl) rfl
theorem q1589 : (Jvm.Cond.privateMethod ({ cls := "FortyDaysModel", name := "isRule", desc := "(I)Z" } : Jvm.MethodName)) ∈ lw_tbl := lw_at lw_m7 62 rfl
theorem q1590 : (Jvm.Cond.instanceMethod ({ cls := "FortyDaysModel", name := "isRule", desc := "(I)Z" } : Jvm.MethodName)) ∈ lw_all := lw_g (lw_at lw_m7 63 rfl) rfl
theorem q1591 : (Jvm.Cond.code ({ cls := "FortyDaysModel", name := "isRule", desc := "(I)Z" } : Jvm.MethodName) prog_21_method_6_code (2 : Nat) (Option.some Jvm.ClassFile.FieldType.boolean)) ∈ lw_all := lw_g (lw_at lw_m7 64 rfl) rfl
theorem q1593 : (Jvm.Cond.instanceMethod ({ cls := "FortyDaysModel", name := "lets", desc := "(III)I" } : Jvm.MethodName)) ∈ lw_all := lw_g (lw_at lw_m7 66 rfl) rfl
theorem q1594 : (Jvm.Cond.selects "FortyDaysModel" ({ cls := "FortyDaysModel", name := "lets", desc := "(III)I" } : Jvm.MethodName) ({ cls := "FortyDaysModel", name := "lets", desc := "(III)I" } : Jvm.MethodName)) ∈ lw_all := lw_g (lw_at lw_m7 67 rfl) rfl
theorem q1595 : (Jvm.Cond.code ({ cls := "FortyDaysModel", name := "lets", desc := "(III)I" } : Jvm.MethodName) prog_21_method_51_code (4 : Nat) (Option.some Jvm.ClassFile.FieldType.int)) ∈ lw_all := lw_g (lw_at lw_m7 68 rfl) rfl
theorem q1596 : (Jvm.Cond.methodLink "FortyDaysModel" (231 : Nat) ({ cls := "FortyDaysModel", name := "letsIn", desc := "(IIII)Z" } : Jvm.MethodName)) ∈ lw_all := lw_g (lw_at lw_m7 69 rfl) rfl
theorem q1597 : (Jvm.Cond.privateMethod ({ cls := "FortyDaysModel", name := "letsIn", desc := "(IIII)Z" } : Jvm.MethodName)) ∈ lw_tbl := lw_at lw_m7 70 rfl
theorem q1598 : (Jvm.Cond.instanceMethod ({ cls := "FortyDaysModel", name := "letsIn", desc := "(IIII)Z" } : Jvm.MethodName)) ∈ lw_all := lw_g (lw_at lw_m7 71 rfl) rfl
theorem q1599 : (Jvm.Cond.code ({ cls := "FortyDaysModel", name := "letsIn", desc := "(IIII)Z" } : Jvm.MethodName) prog_21_method_50_code (7 : Nat) (Option.some Jvm.ClassFile.FieldType.boolean)) ∈ lw_all := lw_g (lw_at lw_m7 72 rfl) rfl
theorem q1600 : (Jvm.Cond.methodLink "FortyDaysModel" (228 : Nat) ({ cls := "FortyDaysModel", name := "bestBeside", desc := "(II)J" } : Jvm.MethodName)) ∈ lw_all := lw_g (lw_at lw_m7 73 rfl) rfl
theorem q1601 : (Jvm.Cond.privateMethod ({ cls := "FortyDaysModel", name := "bestBeside", desc := "(II)J" } : Jvm.MethodName)) ∈ lw_tbl := lw_at lw_m7 74 rfl
theorem q1602 : (Jvm.Cond.instanceMethod ({ cls := "FortyDaysModel", name := "bestBeside", desc := "(II)J" } : Jvm.MethodName)) ∈ lw_all := lw_g (lw_at lw_m7 75 rfl) rfl
theorem q1603 : (Jvm.Cond.code ({ cls := "FortyDaysModel", name := "bestBeside", desc := "(II)J" } : Jvm.MethodName) prog_21_method_49_code (3 : Nat) (Option.some Jvm.ClassFile.FieldType.long)) ∈ lw_all := lw_g (lw_at lw_m7 76 rfl) rfl
theorem q1604 : (Jvm.Cond.methodLink "FortyDaysModel" (225 : Nat) ({ cls := "FortyDaysModel", name := "copies", desc := "()V" } : Jvm.MethodName)) ∈ lw_all := lw_g (lw_at lw_m7 77 rfl) rfl
theorem q1605 : (Jvm.Cond.privateMethod ({ cls := "FortyDaysModel", name := "copies", desc := "()V" } : Jvm.MethodName)) ∈ lw_tbl := lw_at lw_m7 78 rfl
theorem q1606 : (Jvm.Cond.instanceMethod ({ cls := "FortyDaysModel", name := "copies", desc := "()V" } : Jvm.MethodName)) ∈ lw_all := lw_g (lw_at lw_m7 79 rfl) rfl
theorem q1607 : (Jvm.Cond.code ({ cls := "FortyDaysModel", name := "copies", desc := "()V" } : Jvm.MethodName) prog_21_method_48_code (2 : Nat) (Option.none : Option Jvm.ClassFile.FieldType)) ∈ lw_all := lw_g (lw_at lw_m7 80 rfl) rfl
theorem q1608 : (Jvm.Cond.methodLink "FortyDaysModel" (217 : Nat) ({ cls := "FortyDaysModel", name := "bestFrom", desc := "(III)J" } : Jvm.MethodName)) ∈ lw_all := lw_g (lw_at lw_m7 81 rfl) rfl
theorem q1609 : (Jvm.Cond.privateMethod ({ cls := "FortyDaysModel", name := "bestFrom", desc := "(III)J" } : Jvm.MethodName)) ∈ lw_tbl := lw_at lw_m7 82 rfl
theorem q1610 : (Jvm.Cond.instanceMethod ({ cls := "FortyDaysModel", name := "bestFrom", desc := "(III)J" } : Jvm.MethodName)) ∈ lw_all := lw_g (lw_at lw_m7 83 rfl) rfl
theorem q1611 : (Jvm.Cond.code ({ cls := "FortyDaysModel", name := "bestFrom", desc := "(III)J" } : Jvm.MethodName) prog_21_method_47_code (11 : Nat) (Option.some Jvm.ClassFile.FieldType.long)) ∈ lw_all := lw_g (lw_at lw_m7 84 rfl) rfl
theorem q1612 : (Jvm.Cond.methodLink "FortyDaysModel" (214 : Nat) ({ cls := "FortyDaysModel", name := "costOf", desc := "(I)J" } : Jvm.MethodName)) ∈ lw_all := lw_g (lw_at lw_m7 85 rfl) rfl
theorem q1613 : (Jvm.Cond.privateMethod ({ cls := "FortyDaysModel", name := "costOf", desc := "(I)J" } : Jvm.MethodName)) ∈ lw_tbl := lw_at lw_m7 86 rfl
theorem q1614 : (Jvm.Cond.instanceMethod ({ cls := "FortyDaysModel", name := "costOf", desc := "(I)J" } : Jvm.MethodName)) ∈ lw_all := lw_g (lw_at lw_m7 87 rfl) rfl
theorem q1615 : (Jvm.Cond.code ({ cls := "FortyDaysModel", name := "costOf", desc := "(I)J" } : Jvm.MethodName) prog_21_method_33_code (2 : Nat) (Option.some Jvm.ClassFile.FieldType.long)) ∈ lw_all := lw_g (lw_at lw_m7 88 rfl) rfl
theorem q1616 : (Jvm.Cond.methodLink "FortyDaysModel" (221 : Nat) ({ cls := "FortyDaysModel", name := "held", desc := "(JJI)J" } : Jvm.MethodName)) ∈ lw_all := lw_g (lw_at lw_m7 89 rfl) rfl
theorem q1617 : (Jvm.Cond.static ({ cls := "FortyDaysModel", name := "held", desc := "(JJI)J" } : Jvm.MethodName)) ∈ lw_all := lw_g (lw_at lw_m7 90 rfl) rfl
theorem q1618 : (Jvm.Cond.code ({ cls := "FortyDaysModel", name := "held", desc := "(JJI)J" } : Jvm.MethodName) prog_21_method_46_code (5 : Nat) (Option.some Jvm.ClassFile.FieldType.long)) ∈ lw_all := lw_g (lw_at lw_m7 91 rfl) rfl
theorem q1619 : (Jvm.Cond.constantLong "FortyDaysModel" (209 : Nat) (10 : Int64)) ∈ lw_all := lw_g (lw_at lw_m7 92 rfl) rfl
theorem q1621 : (Jvm.Cond.instanceMethod ({ cls := "FortyDaysModel", name := "mean", desc := "(II)J" } : Jvm.MethodName)) ∈ lw_all := lw_g (lw_at lw_m7 94 rfl) rfl
theorem q1622 : (Jvm.Cond.selects "FortyDaysModel" ({ cls := "FortyDaysModel", name := "mean", desc := "(II)J" } : Jvm.MethodName) ({ cls := "FortyDaysModel", name := "mean", desc := "(II)J" } : Jvm.MethodName)) ∈ lw_all := lw_g (lw_at lw_m7 95 rfl) rfl
theorem q1623 : (Jvm.Cond.code ({ cls := "FortyDaysModel", name := "mean", desc := "(II)J" } : Jvm.MethodName) prog_21_method_54_code (3 : Nat) (Option.some Jvm.ClassFile.FieldType.long)) ∈ lw_all := lw_g (lw_at lw_m7 96 rfl) rfl
theorem q1624 : (Jvm.Cond.methodLink "FortyDaysModel" (239 : Nat) ({ cls := "FortyDaysModel", name := "meanOf", desc := "(I)J" } : Jvm.MethodName)) ∈ lw_all := lw_g (lw_at lw_m7 97 rfl) rfl
theorem q1625 : (Jvm.Cond.privateMethod ({ cls := "FortyDaysModel", name := "meanOf", desc := "(I)J" } : Jvm.MethodName)) ∈ lw_tbl := lw_at lw_m7 98 rfl
theorem q1626 : (Jvm.Cond.instanceMethod ({ cls := "FortyDaysModel", name := "meanOf", desc := "(I)J" } : Jvm.MethodName)) ∈ lw_all := lw_g (lw_at lw_m7 99 rfl) rfl
theorem q1627 : (Jvm.Cond.code ({ cls := "FortyDaysModel", name := "meanOf", desc := "(I)J" } : Jvm.MethodName) prog_21_method_53_code (2 : Nat) (Option.some Jvm.ClassFile.FieldType.long)) ∈ lw_all := lw_g (lw_at lw_m7 100 rfl) rfl
theorem q1628 : (Jvm.Cond.methodLink "FortyDaysModel" (235 : Nat) ({ cls := "FortyDaysModel", name := "meanFrom", desc := "(IIII)J" } : Jvm.MethodName)) ∈ lw_all := lw_g (lw_at lw_m7 101 rfl) rfl
theorem q1629 : (Jvm.Cond.privateMethod ({ cls := "FortyDaysModel", name := "meanFrom", desc := "(IIII)J" } : Jvm.MethodName)) ∈ lw_tbl := lw_at lw_m7 102 rfl
theorem q1630 : (Jvm.Cond.instanceMethod ({ cls := "FortyDaysModel", name := "meanFrom", desc := "(IIII)J" } : Jvm.MethodName)) ∈ lw_all := lw_g (lw_at lw_m7 103 rfl) rfl
theorem q1631 : (Jvm.Cond.code ({ cls := "FortyDaysModel", name := "meanFrom", desc := "(IIII)J" } : Jvm.MethodName) prog_21_method_52_code (8 : Nat) (Option.some Jvm.ClassFile.FieldType.long)) ∈ lw_all := lw_g (lw_at lw_m7 104 rfl) rfl
theorem q1633 : (Jvm.Cond.instanceMethod ({ cls := "FortyDaysModel", name := "best", desc := "(IIII)J" } : Jvm.MethodName)) ∈ lw_all := lw_g (lw_at lw_m7 106 rfl) rfl
theorem q1634 : (Jvm.Cond.selects "FortyDaysModel" ({ cls := "FortyDaysModel", name := "best", desc := "(IIII)J" } : Jvm.MethodName) ({ cls := "FortyDaysModel", name := "best", desc := "(IIII)J" } : Jvm.MethodName)) ∈ lw_all := lw_g (lw_at lw_m7 107 rfl) rfl
theorem q1635 : (Jvm.Cond.code ({ cls := "FortyDaysModel", name := "best", desc := "(IIII)J" } : Jvm.MethodName) prog_21_method_55_code (7 : Nat) (Option.some Jvm.ClassFile.FieldType.long)) ∈ lw_all := lw_g (lw_at lw_m7 108 rfl) rfl
theorem q1637 : (Jvm.Cond.instanceMethod ({ cls := "FortyDaysModel", name := "plain", desc := "(II)I" } : Jvm.MethodName)) ∈ lw_all := lw_g (lw_at lw_m7 110 rfl) rfl
theorem q1638 : (Jvm.Cond.selects "FortyDaysModel" ({ cls := "FortyDaysModel", name := "plain", desc := "(II)I" } : Jvm.MethodName) ({ cls := "FortyDaysModel", name := "plain", desc := "(II)I" } : Jvm.MethodName)) ∈ lw_all := lw_g (lw_at lw_m7 111 rfl) rfl
theorem q1639 : (Jvm.Cond.code ({ cls := "FortyDaysModel", name := "plain", desc := "(II)I" } : Jvm.MethodName) prog_21_method_57_code (3 : Nat) (Option.some Jvm.ClassFile.FieldType.int)) ∈ lw_all := lw_g (lw_at lw_m7 112 rfl) rfl
theorem q1640 : (Jvm.Cond.methodLink "FortyDaysModel" (242 : Nat) ({ cls := "FortyDaysModel", name := "leastOf", desc := "(IIII)I" } : Jvm.MethodName)) ∈ lw_all := lw_g (lw_at lw_m7 113 rfl) rfl
theorem q1641 : (Jvm.Cond.privateMethod ({ cls := "FortyDaysModel", name := "leastOf", desc := "(IIII)I" } : Jvm.MethodName)) ∈ lw_tbl := lw_at lw_m7 114 rfl
theorem q1642 : (Jvm.Cond.instanceMethod ({ cls := "FortyDaysModel", name := "leastOf", desc := "(IIII)I" } : Jvm.MethodName)) ∈ lw_all := lw_g (lw_at lw_m7 115 rfl) rfl
theorem q1643 : (Jvm.Cond.code ({ cls := "FortyDaysModel", name := "leastOf", desc := "(IIII)I" } : Jvm.MethodName) prog_21_method_56_code (11 : Nat) (Option.some Jvm.ClassFile.FieldType.int)) ∈ lw_all := lw_g (lw_at lw_m7 116 rfl) rfl
theorem q1645 : (Jvm.Cond.instanceMethod ({ cls := "FortyDaysModel", name := "loses", desc := "(I)J" } : Jvm.MethodName)) ∈ lw_all := lw_g (lw_at lw_m7 118 rfl) rfl
theorem q1646 : (Jvm.Cond.selects "FortyDaysModel" ({ cls := "FortyDaysModel", name := "loses", desc := "(I)J" } : Jvm.MethodName) ({ cls := "FortyDaysModel", name := "loses", desc := "(I)J" } : Jvm.MethodName)) ∈ lw_all := lw_g (lw_at lw_m7 119 rfl) rfl
theorem q1647 : (Jvm.Cond.code ({ cls := "FortyDaysModel", name := "loses", desc := "(I)J" } : Jvm.MethodName) prog_21_method_58_code (5 : Nat) (Option.some Jvm.ClassFile.FieldType.long)) ∈ lw_all := lw_g (lw_at lw_m7 120 rfl) rfl
theorem q1649 : (Jvm.Cond.instanceMethod ({ cls := "FortyDaysModel", name := "judged", desc := "(II)I" } : Jvm.MethodName)) ∈ lw_all := lw_g (lw_at lw_m7 122 rfl) rfl
theorem q1650 : (Jvm.Cond.selects "FortyDaysModel" ({ cls := "FortyDaysModel", name := "judged", desc := "(II)I" } : Jvm.MethodName) ({ cls := "FortyDaysModel", name := "judged", desc := "(II)I" } : Jvm.MethodName)) ∈ lw_all := lw_g (lw_at lw_m7 123 rfl) rfl
theorem q1651 : (Jvm.Cond.code ({ cls := "FortyDaysModel", name := "judged", desc := "(II)I" } : Jvm.MethodName) prog_21_method_59_code (8 : Nat) (Option.some Jvm.ClassFile.FieldType.int)) ∈ lw_all := lw_g (lw_at lw_m7 124 rfl) rfl
theorem q1653 : (Jvm.Cond.instanceMethod ({ cls := "FortyDaysModel", name := "room", desc := "(II)I" } : Jvm.MethodName)) ∈ lw_all := lw_g (lw_at lw_m7 126 rfl) rfl
theorem q1654 : (Jvm.Cond.selects "FortyDaysModel" ({ cls := "FortyDaysModel", name := "room", desc := "(II)I" } : Jvm.MethodName) ({ cls := "FortyDaysModel", name := "room", desc := "(II)I" } : Jvm.MethodName)) ∈ lw_all := lw_g (lw_at lw_m7 127 rfl) rfl
theorem q1655 : (Jvm.Cond.code ({ cls := "FortyDaysModel", name := "room", desc := "(II)I" } : Jvm.MethodName) prog_21_method_60_code (12 : Nat) (Option.some Jvm.ClassFile.FieldType.int)) ∈ lw_all := lw_g (lw_at lw_m7 128 rfl) rfl
theorem q1657 : (Jvm.Cond.instanceMethod ({ cls := "FortyDaysModel", name := "lies", desc := "(II)I" } : Jvm.MethodName)) ∈ lw_all := lw_g (lw_at lw_m7 130 rfl) rfl
theorem q1658 : (Jvm.Cond.selects "FortyDaysModel" ({ cls := "FortyDaysModel", name := "lies", desc := "(II)I" } : Jvm.MethodName) ({ cls := "FortyDaysModel", name := "lies", desc := "(II)I" } : Jvm.MethodName)) ∈ lw_all := lw_g (lw_at lw_m7 131 rfl) rfl
theorem q1659 : (Jvm.Cond.code ({ cls := "FortyDaysModel", name := "lies", desc := "(II)I" } : Jvm.MethodName) prog_21_method_62_code (9 : Nat) (Option.some Jvm.ClassFile.FieldType.int)) ∈ lw_all := lw_g (lw_at lw_m7 132 rfl) rfl
theorem q1660 : (Jvm.Cond.methodLink "FortyDaysModel" (245 : Nat) ({ cls := "FortyDaysModel", name := "meanFromPlace", desc := "(III)J" } : Jvm.MethodName)) ∈ lw_all := lw_g (lw_at lw_m7 133 rfl) rfl
theorem q1661 : (Jvm.Cond.privateMethod ({ cls := "FortyDaysModel", name := "meanFromPlace", desc := "(III)J" } : Jvm.MethodName)) ∈ lw_tbl := lw_at lw_m7 134 rfl
theorem q1662 : (Jvm.Cond.instanceMethod ({ cls := "FortyDaysModel", name := "meanFromPlace", desc := "(III)J" } : Jvm.MethodName)) ∈ lw_all := lw_g (lw_at lw_m7 135 rfl) rfl
theorem q1663 : (Jvm.Cond.code ({ cls := "FortyDaysModel", name := "meanFromPlace", desc := "(III)J" } : Jvm.MethodName) prog_21_method_61_code (4 : Nat) (Option.some Jvm.ClassFile.FieldType.long)) ∈ lw_all := lw_g (lw_at lw_m7 136 rfl) rfl
theorem q1665 : (Jvm.Cond.instanceMethod ({ cls := "FortyDaysModel", name := "fine", desc := "(II)I" } : Jvm.MethodName)) ∈ lw_all := lw_g (lw_at lw_m7 138 rfl) rfl
theorem q1666 : (Jvm.Cond.selects "FortyDaysModel" ({ cls := "FortyDaysModel", name := "fine", desc := "(II)I" } : Jvm.MethodName) ({ cls := "FortyDaysModel", name := "fine", desc := "(II)I" } : Jvm.MethodName)) ∈ lw_all := lw_g (lw_at lw_m7 139 rfl) rfl
theorem q1667 : (Jvm.Cond.code ({ cls := "FortyDaysModel", name := "fine", desc := "(II)I" } : Jvm.MethodName) prog_21_method_63_code (10 : Nat) (Option.some Jvm.ClassFile.FieldType.int)) ∈ lw_all := lw_g (lw_at lw_m7 140 rfl) rfl
theorem q1668 : (Jvm.Cond.constantLong "FortyDaysModel" (248 : Nat) (499 : Int64)) ∈ lw_all := lw_g (lw_at lw_m7 141 rfl) rfl
theorem q1669 : (Jvm.Cond.constantLong "FortyDaysModel" (250 : Nat) (500 : Int64)) ∈ lw_all := lw_g (lw_at lw_m7 142 rfl) rfl
theorem q1670 : (Jvm.Cond.constantLong "FortyDaysModel" (252 : Nat) (999 : Int64)) ∈ lw_all := lw_g (lw_at lw_m7 143 rfl) rfl
theorem q1672 : (Jvm.Cond.instanceMethod ({ cls := "FortyDaysModel", name := "rest", desc := "(III)I" } : Jvm.MethodName)) ∈ lw_all := lw_g (lw_at lw_m7 145 rfl) rfl
theorem q1673 : (Jvm.Cond.selects "FortyDaysModel" ({ cls := "FortyDaysModel", name := "rest", desc := "(III)I" } : Jvm.MethodName) ({ cls := "FortyDaysModel", name := "rest", desc := "(III)I" } : Jvm.MethodName)) ∈ lw_all := lw_g (lw_at lw_m7 146 rfl) rfl
theorem q1674 : (Jvm.Cond.code ({ cls := "FortyDaysModel", name := "rest", desc := "(III)I" } : Jvm.MethodName) prog_21_method_67_code (6 : Nat) (Option.some Jvm.ClassFile.FieldType.int)) ∈ lw_all := lw_g (lw_at lw_m7 147 rfl) rfl
theorem q1675 : (Jvm.Cond.methodLink "FortyDaysModel" (257 : Nat) ({ cls := "FortyDaysModel", name := "sides", desc := "(IIII)V" } : Jvm.MethodName)) ∈ lw_all := lw_g (lw_at lw_m7 148 rfl) rfl
theorem q1676 : (Jvm.Cond.privateMethod ({ cls := "FortyDaysModel", name := "sides", desc := "(IIII)V" } : Jvm.MethodName)) ∈ lw_tbl := lw_at lw_m7 149 rfl
theorem q1677 : (Jvm.Cond.instanceMethod ({ cls := "FortyDaysModel", name := "sides", desc := "(IIII)V" } : Jvm.MethodName)) ∈ lw_all := lw_g (lw_at lw_m7 150 rfl) rfl
theorem q1678 : (Jvm.Cond.code ({ cls := "FortyDaysModel", name := "sides", desc := "(IIII)V" } : Jvm.MethodName) prog_21_method_64_code (8 : Nat) (Option.none : Option Jvm.ClassFile.FieldType)) ∈ lw_all := lw_g (lw_at lw_m7 151 rfl) rfl
theorem q1679 : (Jvm.Cond.methodLink "FortyDaysModel" (261 : Nat) ({ cls := "FortyDaysModel", name := "isRest", desc := "(II)Z" } : Jvm.MethodName)) ∈ lw_all := lw_g (lw_at lw_m7 152 rfl) rfl
theorem q1680 : (Jvm.Cond.privateMethod ({ cls := "FortyDaysModel", name := "isRest", desc := "(II)Z" } : Jvm.MethodName)) ∈ lw_tbl := lw_at lw_m7 153 rfl
theorem q1681 : (Jvm.Cond.instanceMethod ({ cls := "FortyDaysModel", name := "isRest", desc := "(II)Z" } : Jvm.MethodName)) ∈ lw_all := lw_g (lw_at lw_m7 154 rfl) rfl
theorem q1682 : (Jvm.Cond.code ({ cls := "FortyDaysModel", name := "isRest", desc := "(II)Z" } : Jvm.MethodName) prog_21_method_66_code (5 : Nat) (Option.some Jvm.ClassFile.FieldType.boolean)) ∈ lw_all := lw_g (lw_at lw_m7 155 rfl) rfl
theorem q1683 : (Jvm.Cond.methodLink "FortyDaysModel" (254 : Nat) ({ cls := "FortyDaysModel", name := "sideOf", desc := "(III)J" } : Jvm.MethodName)) ∈ lw_all := lw_g (lw_at lw_m7 156 rfl) rfl
theorem q1684 : (Jvm.Cond.privateMethod ({ cls := "FortyDaysModel", name := "sideOf", desc := "(III)J" } : Jvm.MethodName)) ∈ lw_tbl := lw_at lw_m7 157 rfl
theorem q1685 : (Jvm.Cond.instanceMethod ({ cls := "FortyDaysModel", name := "sideOf", desc := "(III)J" } : Jvm.MethodName)) ∈ lw_all := lw_g (lw_at lw_m7 158 rfl) rfl
theorem q1686 : (Jvm.Cond.code ({ cls := "FortyDaysModel", name := "sideOf", desc := "(III)J" } : Jvm.MethodName) prog_21_method_65_code (5 : Nat) (Option.some Jvm.ClassFile.FieldType.long)) ∈ lw_all := lw_g (lw_at lw_m7 159 rfl) rfl
theorem q1688 : (Jvm.Cond.instanceMethod ({ cls := "FortyDaysModel", name := "matter", desc := "(I)I" } : Jvm.MethodName)) ∈ lw_all := lw_g (lw_at lw_m7 161 rfl) rfl
theorem q1689 : (Jvm.Cond.selects "FortyDaysModel" ({ cls := "FortyDaysModel", name := "matter", desc := "(I)I" } : Jvm.MethodName) ({ cls := "FortyDaysModel", name := "matter", desc := "(I)I" } : Jvm.MethodName)) ∈ lw_all := lw_g (lw_at lw_m7 162 rfl) rfl
theorem q1690 : (Jvm.Cond.code ({ cls := "FortyDaysModel", name := "matter", desc := "(I)I" } : Jvm.MethodName) prog_21_method_68_code (5 : Nat) (Option.some Jvm.ClassFile.FieldType.int)) ∈ lw_all := lw_g (lw_at lw_m7 163 rfl) rfl
theorem q1692 : (Jvm.Cond.instanceMethod ({ cls := "FortyDaysModel", name := "edge", desc := "(I)I" } : Jvm.MethodName)) ∈ lw_all := lw_g (lw_at lw_m7 165 rfl) rfl
theorem q1693 : (Jvm.Cond.selects "FortyDaysModel" ({ cls := "FortyDaysModel", name := "edge", desc := "(I)I" } : Jvm.MethodName) ({ cls := "FortyDaysModel", name := "edge", desc := "(I)I" } : Jvm.MethodName)) ∈ lw_all := lw_g (lw_at lw_m7 166 rfl) rfl
theorem q1694 : (Jvm.Cond.code ({ cls := "FortyDaysModel", name := "edge", desc := "(I)I" } : Jvm.MethodName) prog_21_method_69_code (5 : Nat) (Option.some Jvm.ClassFile.FieldType.int)) ∈ lw_all := lw_g (lw_at lw_m7 167 rfl) rfl
theorem q1696 : (Jvm.Cond.instanceMethod ({ cls := "FortyDaysModel", name := "run", desc := "(III)I" } : Jvm.MethodName)) ∈ lw_all := lw_g (lw_at lw_m7 169 rfl) rfl
theorem q1697 : (Jvm.Cond.selects "FortyDaysModel" ({ cls := "FortyDaysModel", name := "run", desc := "(III)I" } : Jvm.MethodName) ({ cls := "FortyDaysModel", name := "run", desc := "(III)I" } : Jvm.MethodName)) ∈ lw_all := lw_g (lw_at lw_m7 170 rfl) rfl
theorem q1698 : (Jvm.Cond.code ({ cls := "FortyDaysModel", name := "run", desc := "(III)I" } : Jvm.MethodName) prog_21_method_70_code (10 : Nat) (Option.some Jvm.ClassFile.FieldType.int)) ∈ lw_all := lw_g (lw_at lw_m7 171 rfl) rfl
theorem q1700 : (Jvm.Cond.instanceMethod ({ cls := "FortyDaysModel", name := "act", desc := "(III)I" } : Jvm.MethodName)) ∈ lw_all := lw_g (lw_at lw_m7 173 rfl) rfl
theorem q1701 : (Jvm.Cond.selects "FortyDaysModel" ({ cls := "FortyDaysModel", name := "act", desc := "(III)I" } : Jvm.MethodName) ({ cls := "FortyDaysModel", name := "act", desc := "(III)I" } : Jvm.MethodName)) ∈ lw_all := lw_g (lw_at lw_m7 174 rfl) rfl
theorem q1702 : (Jvm.Cond.code ({ cls := "FortyDaysModel", name := "act", desc := "(III)I" } : Jvm.MethodName) prog_21_method_79_code (4 : Nat) (Option.some Jvm.ClassFile.FieldType.int)) ∈ lw_all := lw_g (lw_at lw_m7 175 rfl) rfl
theorem q1703 : (Jvm.Cond.methodLink "FortyDaysModel" (280 : Nat) ({ cls := "FortyDaysModel", name := "holdsActs", desc := "(I)I" } : Jvm.MethodName)) ∈ lw_all := lw_g (lw_at lw_m7 176 rfl) rfl
theorem q1704 : (Jvm.Cond.privateMethod ({ cls := "FortyDaysModel", name := "holdsActs", desc := "(I)I" } : Jvm.MethodName)) ∈ lw_tbl := lw_at lw_m7 177 rfl
theorem q1705 : (Jvm.Cond.instanceMethod ({ cls := "FortyDaysModel", name := "holdsActs", desc := "(I)I" } : Jvm.MethodName)) ∈ lw_all := lw_g (lw_at lw_m7 178 rfl) rfl
theorem q1706 : (Jvm.Cond.code ({ cls := "FortyDaysModel", name := "holdsActs", desc := "(I)I" } : Jvm.MethodName) prog_21_method_74_code (2 : Nat) (Option.some Jvm.ClassFile.FieldType.int)) ∈ lw_all := lw_g (lw_at lw_m7 179 rfl) rfl
theorem q1707 : (Jvm.Cond.methodLink "FortyDaysModel" (268 : Nat) ({ cls := "FortyDaysModel", name := "runs", desc := "(I)V" } : Jvm.MethodName)) ∈ lw_all := lw_g (lw_at lw_m7 180 rfl) rfl
theorem q1708 : (Jvm.Cond.privateMethod ({ cls := "FortyDaysModel", name := "runs", desc := "(I)V" } : Jvm.MethodName)) ∈ lw_tbl := lw_at lw_m7 181 rfl
theorem q1709 : (Jvm.Cond.instanceMethod ({ cls := "FortyDaysModel", name := "runs", desc := "(I)V" } : Jvm.MethodName)) ∈ lw_all := lw_g (lw_at lw_m7 182 rfl) rfl
theorem q1710 : (Jvm.Cond.code ({ cls := "FortyDaysModel", name := "runs", desc := "(I)V" } : Jvm.MethodName) prog_21_method_71_code (2 : Nat) (Option.none : Option Jvm.ClassFile.FieldType)) ∈ lw_all := lw_g (lw_at lw_m7 183 rfl) rfl
theorem q1711 : (Jvm.Cond.methodLink "FortyDaysModel" (277 : Nat) ({ cls := "FortyDaysModel", name := "plainHolds", desc := "(I)I" } : Jvm.MethodName)) ∈ lw_all := lw_g (lw_at lw_m7 184 rfl) rfl
theorem q1712 : (Jvm.Cond.privateMethod ({ cls := "FortyDaysModel", name := "plainHolds", desc := "(I)I" } : Jvm.MethodName)) ∈ lw_tbl := lw_at lw_m7 185 rfl
theorem q1713 : (Jvm.Cond.instanceMethod ({ cls := "FortyDaysModel", name := "plainHolds", desc := "(I)I" } : Jvm.MethodName)) ∈ lw_all := lw_g (lw_at lw_m7 186 rfl) rfl
theorem q1714 : (Jvm.Cond.code ({ cls := "FortyDaysModel", name := "plainHolds", desc := "(I)I" } : Jvm.MethodName) prog_21_method_73_code (2 : Nat) (Option.some Jvm.ClassFile.FieldType.int)) ∈ lw_all := lw_g (lw_at lw_m7 187 rfl) rfl
theorem q1715 : (Jvm.Cond.methodLink "FortyDaysModel" (292 : Nat) ({ cls := "FortyDaysModel", name := "letsActs", desc := "(I)I" } : Jvm.MethodName)) ∈ lw_all := lw_g (lw_at lw_m7 188 rfl) rfl
theorem q1716 : (Jvm.Cond.privateMethod ({ cls := "FortyDaysModel", name := "letsActs", desc := "(I)I" } : Jvm.MethodName)) ∈ lw_tbl := lw_at lw_m7 189 rfl
theorem q1717 : (Jvm.Cond.instanceMethod ({ cls := "FortyDaysModel", name := "letsActs", desc := "(I)I" } : Jvm.MethodName)) ∈ lw_all := lw_g (lw_at lw_m7 190 rfl) rfl
theorem q1718 : (Jvm.Cond.code ({ cls := "FortyDaysModel", name := "letsActs", desc := "(I)I" } : Jvm.MethodName) prog_21_method_76_code (2 : Nat) (Option.some Jvm.ClassFile.FieldType.int)) ∈ lw_all := lw_g (lw_at lw_m7 191 rfl) rfl
theorem q1719 : (Jvm.Cond.methodLink "FortyDaysModel" (286 : Nat) ({ cls := "FortyDaysModel", name := "plainLets", desc := "(I)I" } : Jvm.MethodName)) ∈ lw_all := lw_g (lw_at lw_m7 192 rfl) rfl
theorem q1720 : (Jvm.Cond.privateMethod ({ cls := "FortyDaysModel", name := "plainLets", desc := "(I)I" } : Jvm.MethodName)) ∈ lw_tbl := lw_at lw_m7 193 rfl
theorem q1721 : (Jvm.Cond.instanceMethod ({ cls := "FortyDaysModel", name := "plainLets", desc := "(I)I" } : Jvm.MethodName)) ∈ lw_all := lw_g (lw_at lw_m7 194 rfl) rfl
theorem q1722 : (Jvm.Cond.code ({ cls := "FortyDaysModel", name := "plainLets", desc := "(I)I" } : Jvm.MethodName) prog_21_method_75_code (2 : Nat) (Option.some Jvm.ClassFile.FieldType.int)) ∈ lw_all := lw_g (lw_at lw_m7 195 rfl) rfl
theorem q1723 : (Jvm.Cond.methodLink "FortyDaysModel" (289 : Nat) ({ cls := "FortyDaysModel", name := "isUnder", desc := "(II)Z" } : Jvm.MethodName)) ∈ lw_all := lw_g (lw_at lw_m7 196 rfl) rfl
theorem q1724 : (Jvm.Cond.static ({ cls := "FortyDaysModel", name := "isUnder", desc := "(II)Z" } : Jvm.MethodName)) ∈ lw_all := lw_g (lw_at lw_m7 197 rfl) rfl
theorem q1725 : (Jvm.Cond.code ({ cls := "FortyDaysModel", name := "isUnder", desc := "(II)Z" } : Jvm.MethodName) prog_21_method_72_code (2 : Nat) (Option.some Jvm.ClassFile.FieldType.boolean)) ∈ lw_all := lw_g (lw_at lw_m7 198 rfl) rfl
theorem q1726 : (Jvm.Cond.methodLink "FortyDaysModel" (298 : Nat) ({ cls := "FortyDaysModel", name := "costsActs", desc := "(I)I" } : Jvm.MethodName)) ∈ lw_all := lw_g (lw_at lw_m7 199 rfl) rfl
theorem q1727 : (Jvm.Cond.privateMethod ({ cls := "FortyDaysModel", name := "costsActs", desc := "(I)I" } : Jvm.MethodName)) ∈ lw_tbl := lw_at lw_m7 200 rfl
theorem q1728 : (Jvm.Cond.instanceMethod ({ cls := "FortyDaysModel", name := "costsActs", desc := "(I)I" } : Jvm.MethodName)) ∈ lw_all := lw_g (lw_at lw_m7 201 rfl) rfl
theorem q1729 : (Jvm.Cond.code ({ cls := "FortyDaysModel", name := "costsActs", desc := "(I)I" } : Jvm.MethodName) prog_21_method_78_code (3 : Nat) (Option.some Jvm.ClassFile.FieldType.int)) ∈ lw_all := lw_g (lw_at lw_m7 202 rfl) rfl
theorem q1730 : (Jvm.Cond.methodLink "FortyDaysModel" (295 : Nat) ({ cls := "FortyDaysModel", name := "plainCosts", desc := "(I)I" } : Jvm.MethodName)) ∈ lw_all := lw_g (lw_at lw_m7 203 rfl) rfl
theorem q1731 : (Jvm.Cond.privateMethod ({ cls := "FortyDaysModel", name := "plainCosts", desc := "(I)I" } : Jvm.MethodName)) ∈ lw_tbl := lw_at lw_m7 204 rfl
theorem q1732 : (Jvm.Cond.instanceMethod ({ cls := "FortyDaysModel", name := "plainCosts", desc := "(I)I" } : Jvm.MethodName)) ∈ lw_all := lw_g (lw_at lw_m7 205 rfl) rfl
theorem q1733 : (Jvm.Cond.code ({ cls := "FortyDaysModel", name := "plainCosts", desc := "(I)I" } : Jvm.MethodName) prog_21_method_77_code (2 : Nat) (Option.some Jvm.ClassFile.FieldType.int)) ∈ lw_all := lw_g (lw_at lw_m7 206 rfl) rfl
theorem q1735 : (Jvm.Cond.instanceMethod ({ cls := "FortyDaysModel", name := "trace", desc := "(I)I" } : Jvm.MethodName)) ∈ lw_all := lw_g (lw_at lw_m7 208 rfl) rfl
theorem q1736 : (Jvm.Cond.selects "FortyDaysModel" ({ cls := "FortyDaysModel", name := "trace", desc := "(I)I" } : Jvm.MethodName) ({ cls := "FortyDaysModel", name := "trace", desc := "(I)I" } : Jvm.MethodName)) ∈ lw_all := lw_g (lw_at lw_m7 209 rfl) rfl
theorem q1737 : (Jvm.Cond.code ({ cls := "FortyDaysModel", name := "trace", desc := "(I)I" } : Jvm.MethodName) prog_21_method_80_code (2 : Nat) (Option.some Jvm.ClassFile.FieldType.int)) ∈ lw_all := lw_g (lw_at lw_m7 210 rfl) rfl
theorem q1739 : (Jvm.Cond.instanceMethod ({ cls := "FortyDaysModel", name := "as", desc := "(II)I" } : Jvm.MethodName)) ∈ lw_all := lw_g (lw_at lw_m7 212 rfl) rfl
theorem q1740 : (Jvm.Cond.selects "FortyDaysModel" ({ cls := "FortyDaysModel", name := "as", desc := "(II)I" } : Jvm.MethodName) ({ cls := "FortyDaysModel", name := "as", desc := "(II)I" } : Jvm.MethodName)) ∈ lw_all := lw_g (lw_at lw_m7 213 rfl) rfl
theorem q1741 : (Jvm.Cond.code ({ cls := "FortyDaysModel", name := "as", desc := "(II)I" } : Jvm.MethodName) prog_21_method_81_code (3 : Nat) (Option.some Jvm.ClassFile.FieldType.int)) ∈ lw_all := lw_g (lw_at lw_m7 214 rfl) rfl
theorem q1743 : (Jvm.Cond.instanceMethod ({ cls := "FortyDaysModel", name := "image", desc := "()I" } : Jvm.MethodName)) ∈ lw_all := lw_g (lw_at lw_m7 216 rfl) rfl
theorem q1744 : (Jvm.Cond.selects "FortyDaysModel" ({ cls := "FortyDaysModel", name := "image", desc := "()I" } : Jvm.MethodName) ({ cls := "FortyDaysModel", name := "image", desc := "()I" } : Jvm.MethodName)) ∈ lw_all := lw_g (lw_at lw_m7 217 rfl) rfl
theorem q1745 : (Jvm.Cond.code ({ cls := "FortyDaysModel", name := "image", desc := "()I" } : Jvm.MethodName) prog_21_method_82_code (2 : Nat) (Option.some Jvm.ClassFile.FieldType.int)) ∈ lw_all := lw_g (lw_at lw_m7 218 rfl) rfl
theorem q1747 : (Jvm.Cond.instanceMethod ({ cls := "FortyDaysModel", name := "undo", desc := "()I" } : Jvm.MethodName)) ∈ lw_all := lw_g (lw_at lw_m7 220 rfl) rfl
theorem q1748 : (Jvm.Cond.selects "FortyDaysModel" ({ cls := "FortyDaysModel", name := "undo", desc := "()I" } : Jvm.MethodName) ({ cls := "FortyDaysModel", name := "undo", desc := "()I" } : Jvm.MethodName)) ∈ lw_all := lw_g (lw_at lw_m7 221 rfl) rfl
theorem q1749 : (Jvm.Cond.code ({ cls := "FortyDaysModel", name := "undo", desc := "()I" } : Jvm.MethodName) prog_21_method_83_code (2 : Nat) (Option.some Jvm.ClassFile.FieldType.int)) ∈ lw_all := lw_g (lw_at lw_m7 222 rfl) rfl
theorem q1751 : (Jvm.Cond.instanceMethod ({ cls := "FortyDaysModel", name := "count", desc := "(I)I" } : Jvm.MethodName)) ∈ lw_all := lw_g (lw_at lw_m7 224 rfl) rfl
theorem q1752 : (Jvm.Cond.selects "FortyDaysModel" ({ cls := "FortyDaysModel", name := "count", desc := "(I)I" } : Jvm.MethodName) ({ cls := "FortyDaysModel", name := "count", desc := "(I)I" } : Jvm.MethodName)) ∈ lw_all := lw_g (lw_at lw_m7 225 rfl) rfl
theorem q1753 : (Jvm.Cond.code ({ cls := "FortyDaysModel", name := "count", desc := "(I)I" } : Jvm.MethodName) prog_21_method_84_code (2 : Nat) (Option.some Jvm.ClassFile.FieldType.int)) ∈ lw_all := lw_g (lw_at lw_m7 226 rfl) rfl
theorem q1769 : (Jvm.Cond.castable "FortyDaysModel" "java/lang/Object") ∈ lw_tbl := lw_at lw_m8 2 rfl
theorem in_X4 : ∀ w ∈ wsX40, w ∈ lw_all := lw_in wsX40 [1314, 1316, 1318, 1320, 1322, 1324, 1326, 1328, 1330, 1332, 1334, 1336, 1338, 1340, 1342, 1344, 1346, 1348, 1350, 1352, 1354, 1356, 1358, 1360] (by decide +kernel) (by decide +kernel)
