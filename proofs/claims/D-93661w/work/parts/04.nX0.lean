/-! FortyDays -/
set_option maxRecDepth 100000
def RX0 : String := "FortyDays"
def TX0 : u_T := fun k => match k with
  | 0 => ("FortyDays", "tape", "[B", true)
  | 1 => ("FortyDays", "taped", "I", false)
  | 2 => ("FortyDays", "ports", "Ljava/util/ArrayList;", true)
  | 3 => ("FortyDays", "reader", "LFortyDays$Reader;", true)
  | 4 => ("FortyDays", "ships", "Ljava/util/ArrayList;", true)
  | 5 => ("FortyDays", "on", "[LFortyDays$Thought;", true)
  | 6 => ("FortyDays", "costs", "[J", true)
  | 7 => ("FortyDays", "harms", "[J", true)
  | 8 => ("FortyDays", "shown", "[I", true)
  | 9 => ("FortyDays", "looked", "LFortyDays$Thought;", true)
  | 10 => ("FortyDays", "first", "LFortyDays$Thought;", true)
  | 11 => ("FortyDays", "ran", "I", false)
  | 12 => ("FortyDays", "bodies", "[I", true)
  | 13 => ("FortyDays", "beside", "LFortyDays$Beside;", true)
  | 14 => ("FortyDays", "rules", "Ljava/util/ArrayList;", true)
  | 15 => ("FortyDays", "said", "[J", true)
  | 16 => ("FortyDays", "with", "[[J", true)
  | 17 => ("FortyDays", "without", "[[J", true)
  | _ => ("FortyDays", "image", "LFortyDays$Image;", false)
def tyX0 : Nat → FieldType := fun k => match k with
  | 0 => .array .byte
  | 1 => .int
  | 2 => .object "java/util/ArrayList"
  | 3 => .object "FortyDays$Reader"
  | 4 => .object "java/util/ArrayList"
  | 5 => .array (.object "FortyDays$Thought")
  | 6 => .array .long
  | 7 => .array .long
  | 8 => .array .int
  | 9 => .object "FortyDays$Thought"
  | 10 => .object "FortyDays$Thought"
  | 11 => .int
  | 12 => .array .int
  | 13 => .object "FortyDays$Beside"
  | 14 => .object "java/util/ArrayList"
  | 15 => .array .long
  | 16 => .array (.array .long)
  | 17 => .array (.array .long)
  | _ => .object "FortyDays$Image"
abbrev wsX00 : List Cond := u_ws RX0 TX0 19
set_option maxRecDepth 100000 in
theorem nmX0 : ∀ a, a < 19 → ∀ b, b < 19 → a ≠ b → (TX0 a).2.1 ≠ (TX0 b).2.1 := by decide +kernel
set_option maxRecDepth 100000 in
theorem tyX0_ok : ∀ k, k < 19 → parseFieldDescriptor (TX0 k).2.2.1 = some (tyX0 k) := by decide +kernel
abbrev cX0_init : ByteArray := prog_1_method_4_code
def yX0_init : MethodName := ⟨RX0, "<init>", "()V"⟩
def dkwX0_init_7 : List UInt8 := [42, 5, 16, 10, 197, 0, 89, 2, 181, 0, 91, 42, 5, 16, 10, 197, 0, 89, 2, 181, 0, 94, 177]
abbrev dktX0_init_7 : List UInt8 := dkwX0_init_7 ++ []
def dkwX0_init_6 : List UInt8 := [183, 0, 78, 181, 0, 79, 42, 187, 0, 14, 89, 183, 0, 35, 181, 0, 83, 42, 7, 188, 11, 181, 0, 86]
abbrev dktX0_init_6 : List UInt8 := dkwX0_init_6 ++ dktX0_init_7
def dkwX0_init_5 : List UInt8 := [183, 0, 65, 83, 132, 1, 1, 167, 255, 234, 42, 16, 20, 188, 10, 181, 0, 73, 42, 187, 0, 76, 89, 42]
abbrev dktX0_init_5 : List UInt8 := dkwX0_init_5 ++ dktX0_init_6
def dkwX0_init_4 : List UInt8 := [183, 0, 65, 181, 0, 70, 3, 60, 27, 16, 20, 163, 0, 22, 42, 180, 0, 50, 27, 187, 0, 48, 89]
abbrev dktX0_init_4 : List UInt8 := dkwX0_init_4 ++ dktX0_init_5
def dkwX0_init_3 : List UInt8 := [42, 16, 21, 188, 10, 181, 0, 61, 42, 187, 0, 48, 89, 183, 0, 65, 181, 0, 66, 42, 187, 0, 48, 89]
abbrev dktX0_init_3 : List UInt8 := dkwX0_init_3 ++ dktX0_init_4
def dkwX0_init_2 : List UInt8 := [16, 21, 189, 0, 48, 181, 0, 50, 42, 16, 21, 188, 11, 181, 0, 54, 42, 16, 21, 188, 11, 181, 0, 58]
abbrev dktX0_init_2 : List UInt8 := dkwX0_init_2 ++ dktX0_init_3
def dkwX0_init_1 : List UInt8 := [187, 0, 36, 89, 42, 183, 0, 38, 181, 0, 41, 42, 187, 0, 14, 89, 183, 0, 35, 181, 0, 45, 42]
abbrev dktX0_init_1 : List UInt8 := dkwX0_init_1 ++ dktX0_init_2
def dkwX0_init_0 : List UInt8 := [42, 183, 0, 25, 42, 16, 120, 188, 8, 181, 0, 31, 42, 187, 0, 14, 89, 183, 0, 35, 181, 0, 9, 42]
abbrev dktX0_init_0 : List UInt8 := dkwX0_init_0 ++ dktX0_init_1
theorem dksX0_init_0 : cX0_init.data.toList.drop 0 = dktX0_init_0 := by decide +kernel
theorem dksX0_init_1 : cX0_init.data.toList.drop 24 = dktX0_init_1 := dk_seg dksX0_init_0 24 rfl rfl
theorem dksX0_init_2 : cX0_init.data.toList.drop 47 = dktX0_init_2 := dk_seg dksX0_init_1 23 rfl rfl
theorem dksX0_init_3 : cX0_init.data.toList.drop 71 = dktX0_init_3 := dk_seg dksX0_init_2 24 rfl rfl
theorem dksX0_init_4 : cX0_init.data.toList.drop 95 = dktX0_init_4 := dk_seg dksX0_init_3 24 rfl rfl
theorem dksX0_init_5 : cX0_init.data.toList.drop 118 = dktX0_init_5 := dk_seg dksX0_init_4 23 rfl rfl
theorem dksX0_init_6 : cX0_init.data.toList.drop 142 = dktX0_init_6 := dk_seg dksX0_init_5 24 rfl rfl
theorem dksX0_init_7 : cX0_init.data.toList.drop 166 = dktX0_init_7 := dk_seg dksX0_init_6 24 rfl rfl
theorem dX0_init_0 : decode cX0_init 0 = .ok (.aload_n 0, 1) := dk_42 (dk_at dksX0_init_0 0 rfl rfl)
theorem dX0_init_1 : decode cX0_init 1 = .ok (.invokespecial 25, 3) := dk_183 0 25 (dk_at dksX0_init_0 1 rfl rfl)
theorem dX0_init_4 : decode cX0_init 4 = .ok (.aload_n 0, 1) := dk_42 (dk_at dksX0_init_0 4 rfl rfl)
theorem dX0_init_5 : decode cX0_init 5 = .ok (.bipush 120, 2) := dk_16 120 (dk_at dksX0_init_0 5 rfl rfl)
theorem dX0_init_7 : decode cX0_init 7 = .ok (.newarray .byte, 2) := dk_188_8 (dk_at dksX0_init_0 7 rfl rfl)
theorem dX0_init_9 : decode cX0_init 9 = .ok (.putfield 31, 3) := dk_181 0 31 (dk_at dksX0_init_0 9 rfl rfl)
theorem dX0_init_12 : decode cX0_init 12 = .ok (.aload_n 0, 1) := dk_42 (dk_at dksX0_init_0 12 rfl rfl)
theorem dX0_init_13 : decode cX0_init 13 = .ok (.new 14, 3) := dk_187 0 14 (dk_at dksX0_init_0 13 rfl rfl)
theorem dX0_init_16 : decode cX0_init 16 = .ok (.dup, 1) := dk_89 (dk_at dksX0_init_0 16 rfl rfl)
theorem dX0_init_17 : decode cX0_init 17 = .ok (.invokespecial 35, 3) := dk_183 0 35 (dk_at dksX0_init_0 17 rfl rfl)
theorem dX0_init_20 : decode cX0_init 20 = .ok (.putfield 9, 3) := dk_181 0 9 (dk_at dksX0_init_0 20 rfl rfl)
theorem dX0_init_23 : decode cX0_init 23 = .ok (.aload_n 0, 1) := dk_42 (dk_at dksX0_init_0 23 rfl rfl)
theorem dX0_init_24 : decode cX0_init 24 = .ok (.new 36, 3) := dk_187 0 36 (dk_at dksX0_init_1 0 rfl rfl)
theorem dX0_init_27 : decode cX0_init 27 = .ok (.dup, 1) := dk_89 (dk_at dksX0_init_1 3 rfl rfl)
theorem dX0_init_28 : decode cX0_init 28 = .ok (.aload_n 0, 1) := dk_42 (dk_at dksX0_init_1 4 rfl rfl)
theorem dX0_init_29 : decode cX0_init 29 = .ok (.invokespecial 38, 3) := dk_183 0 38 (dk_at dksX0_init_1 5 rfl rfl)
theorem dX0_init_32 : decode cX0_init 32 = .ok (.putfield 41, 3) := dk_181 0 41 (dk_at dksX0_init_1 8 rfl rfl)
theorem dX0_init_35 : decode cX0_init 35 = .ok (.aload_n 0, 1) := dk_42 (dk_at dksX0_init_1 11 rfl rfl)
theorem dX0_init_36 : decode cX0_init 36 = .ok (.new 14, 3) := dk_187 0 14 (dk_at dksX0_init_1 12 rfl rfl)
theorem dX0_init_39 : decode cX0_init 39 = .ok (.dup, 1) := dk_89 (dk_at dksX0_init_1 15 rfl rfl)
theorem dX0_init_40 : decode cX0_init 40 = .ok (.invokespecial 35, 3) := dk_183 0 35 (dk_at dksX0_init_1 16 rfl rfl)
theorem dX0_init_43 : decode cX0_init 43 = .ok (.putfield 45, 3) := dk_181 0 45 (dk_at dksX0_init_1 19 rfl rfl)
theorem dX0_init_46 : decode cX0_init 46 = .ok (.aload_n 0, 1) := dk_42 (dk_at dksX0_init_1 22 rfl rfl)
theorem dX0_init_47 : decode cX0_init 47 = .ok (.bipush 21, 2) := dk_16 21 (dk_at dksX0_init_2 0 rfl rfl)
theorem dX0_init_49 : decode cX0_init 49 = .ok (.anewarray 48, 3) := dk_189 0 48 (dk_at dksX0_init_2 2 rfl rfl)
theorem dX0_init_52 : decode cX0_init 52 = .ok (.putfield 50, 3) := dk_181 0 50 (dk_at dksX0_init_2 5 rfl rfl)
theorem dX0_init_55 : decode cX0_init 55 = .ok (.aload_n 0, 1) := dk_42 (dk_at dksX0_init_2 8 rfl rfl)
theorem dX0_init_56 : decode cX0_init 56 = .ok (.bipush 21, 2) := dk_16 21 (dk_at dksX0_init_2 9 rfl rfl)
theorem dX0_init_58 : decode cX0_init 58 = .ok (.newarray .long, 2) := dk_188_11 (dk_at dksX0_init_2 11 rfl rfl)
theorem dX0_init_60 : decode cX0_init 60 = .ok (.putfield 54, 3) := dk_181 0 54 (dk_at dksX0_init_2 13 rfl rfl)
theorem dX0_init_63 : decode cX0_init 63 = .ok (.aload_n 0, 1) := dk_42 (dk_at dksX0_init_2 16 rfl rfl)
theorem dX0_init_64 : decode cX0_init 64 = .ok (.bipush 21, 2) := dk_16 21 (dk_at dksX0_init_2 17 rfl rfl)
theorem dX0_init_66 : decode cX0_init 66 = .ok (.newarray .long, 2) := dk_188_11 (dk_at dksX0_init_2 19 rfl rfl)
theorem dX0_init_68 : decode cX0_init 68 = .ok (.putfield 58, 3) := dk_181 0 58 (dk_at dksX0_init_2 21 rfl rfl)
theorem dX0_init_71 : decode cX0_init 71 = .ok (.aload_n 0, 1) := dk_42 (dk_at dksX0_init_3 0 rfl rfl)
theorem dX0_init_72 : decode cX0_init 72 = .ok (.bipush 21, 2) := dk_16 21 (dk_at dksX0_init_3 1 rfl rfl)
theorem dX0_init_74 : decode cX0_init 74 = .ok (.newarray .int, 2) := dk_188_10 (dk_at dksX0_init_3 3 rfl rfl)
theorem dX0_init_76 : decode cX0_init 76 = .ok (.putfield 61, 3) := dk_181 0 61 (dk_at dksX0_init_3 5 rfl rfl)
theorem dX0_init_79 : decode cX0_init 79 = .ok (.aload_n 0, 1) := dk_42 (dk_at dksX0_init_3 8 rfl rfl)
theorem dX0_init_80 : decode cX0_init 80 = .ok (.new 48, 3) := dk_187 0 48 (dk_at dksX0_init_3 9 rfl rfl)
theorem dX0_init_83 : decode cX0_init 83 = .ok (.dup, 1) := dk_89 (dk_at dksX0_init_3 12 rfl rfl)
theorem dX0_init_84 : decode cX0_init 84 = .ok (.invokespecial 65, 3) := dk_183 0 65 (dk_at dksX0_init_3 13 rfl rfl)
theorem dX0_init_87 : decode cX0_init 87 = .ok (.putfield 66, 3) := dk_181 0 66 (dk_at dksX0_init_3 16 rfl rfl)
theorem dX0_init_90 : decode cX0_init 90 = .ok (.aload_n 0, 1) := dk_42 (dk_at dksX0_init_3 19 rfl rfl)
theorem dX0_init_91 : decode cX0_init 91 = .ok (.new 48, 3) := dk_187 0 48 (dk_at dksX0_init_3 20 rfl rfl)
theorem dX0_init_94 : decode cX0_init 94 = .ok (.dup, 1) := dk_89 (dk_at dksX0_init_3 23 rfl rfl)
theorem dX0_init_95 : decode cX0_init 95 = .ok (.invokespecial 65, 3) := dk_183 0 65 (dk_at dksX0_init_4 0 rfl rfl)
theorem dX0_init_98 : decode cX0_init 98 = .ok (.putfield 70, 3) := dk_181 0 70 (dk_at dksX0_init_4 3 rfl rfl)
theorem dX0_init_101 : decode cX0_init 101 = .ok (.iconst 0, 1) := dk_3 (dk_at dksX0_init_4 6 rfl rfl)
theorem dX0_init_102 : decode cX0_init 102 = .ok (.istore_n 1, 1) := dk_60 (dk_at dksX0_init_4 7 rfl rfl)
theorem dX0_init_103 : decode cX0_init 103 = .ok (.iload_n 1, 1) := dk_27 (dk_at dksX0_init_4 8 rfl rfl)
theorem dX0_init_104 : decode cX0_init 104 = .ok (.bipush 20, 2) := dk_16 20 (dk_at dksX0_init_4 9 rfl rfl)
theorem dX0_init_106 : decode cX0_init 106 = .ok (.if_icmp .gt 22, 3) := dk_163 0 22 (dk_at dksX0_init_4 11 rfl rfl)
theorem dX0_init_109 : decode cX0_init 109 = .ok (.aload_n 0, 1) := dk_42 (dk_at dksX0_init_4 14 rfl rfl)
theorem dX0_init_110 : decode cX0_init 110 = .ok (.getfield 50, 3) := dk_180 0 50 (dk_at dksX0_init_4 15 rfl rfl)
theorem dX0_init_113 : decode cX0_init 113 = .ok (.iload_n 1, 1) := dk_27 (dk_at dksX0_init_4 18 rfl rfl)
theorem dX0_init_114 : decode cX0_init 114 = .ok (.new 48, 3) := dk_187 0 48 (dk_at dksX0_init_4 19 rfl rfl)
theorem dX0_init_117 : decode cX0_init 117 = .ok (.dup, 1) := dk_89 (dk_at dksX0_init_4 22 rfl rfl)
theorem dX0_init_118 : decode cX0_init 118 = .ok (.invokespecial 65, 3) := dk_183 0 65 (dk_at dksX0_init_5 0 rfl rfl)
theorem dX0_init_121 : decode cX0_init 121 = .ok (.aastore, 1) := dk_83 (dk_at dksX0_init_5 3 rfl rfl)
theorem dX0_init_122 : decode cX0_init 122 = .ok (.iinc 1 1, 3) := dk_132 1 1 (dk_at dksX0_init_5 4 rfl rfl)
theorem dX0_init_125 : decode cX0_init 125 = .ok (.goto (-22), 3) := dk_167 255 234 (dk_at dksX0_init_5 7 rfl rfl)
theorem dX0_init_128 : decode cX0_init 128 = .ok (.aload_n 0, 1) := dk_42 (dk_at dksX0_init_5 10 rfl rfl)
theorem dX0_init_129 : decode cX0_init 129 = .ok (.bipush 20, 2) := dk_16 20 (dk_at dksX0_init_5 11 rfl rfl)
theorem dX0_init_131 : decode cX0_init 131 = .ok (.newarray .int, 2) := dk_188_10 (dk_at dksX0_init_5 13 rfl rfl)
theorem dX0_init_133 : decode cX0_init 133 = .ok (.putfield 73, 3) := dk_181 0 73 (dk_at dksX0_init_5 15 rfl rfl)
theorem dX0_init_136 : decode cX0_init 136 = .ok (.aload_n 0, 1) := dk_42 (dk_at dksX0_init_5 18 rfl rfl)
theorem dX0_init_137 : decode cX0_init 137 = .ok (.new 76, 3) := dk_187 0 76 (dk_at dksX0_init_5 19 rfl rfl)
theorem dX0_init_140 : decode cX0_init 140 = .ok (.dup, 1) := dk_89 (dk_at dksX0_init_5 22 rfl rfl)
theorem dX0_init_141 : decode cX0_init 141 = .ok (.aload_n 0, 1) := dk_42 (dk_at dksX0_init_5 23 rfl rfl)
theorem dX0_init_142 : decode cX0_init 142 = .ok (.invokespecial 78, 3) := dk_183 0 78 (dk_at dksX0_init_6 0 rfl rfl)
theorem dX0_init_145 : decode cX0_init 145 = .ok (.putfield 79, 3) := dk_181 0 79 (dk_at dksX0_init_6 3 rfl rfl)
theorem dX0_init_148 : decode cX0_init 148 = .ok (.aload_n 0, 1) := dk_42 (dk_at dksX0_init_6 6 rfl rfl)
theorem dX0_init_149 : decode cX0_init 149 = .ok (.new 14, 3) := dk_187 0 14 (dk_at dksX0_init_6 7 rfl rfl)
theorem dX0_init_152 : decode cX0_init 152 = .ok (.dup, 1) := dk_89 (dk_at dksX0_init_6 10 rfl rfl)
theorem dX0_init_153 : decode cX0_init 153 = .ok (.invokespecial 35, 3) := dk_183 0 35 (dk_at dksX0_init_6 11 rfl rfl)
theorem dX0_init_156 : decode cX0_init 156 = .ok (.putfield 83, 3) := dk_181 0 83 (dk_at dksX0_init_6 14 rfl rfl)
theorem dX0_init_159 : decode cX0_init 159 = .ok (.aload_n 0, 1) := dk_42 (dk_at dksX0_init_6 17 rfl rfl)
theorem dX0_init_160 : decode cX0_init 160 = .ok (.iconst 4, 1) := dk_7 (dk_at dksX0_init_6 18 rfl rfl)
theorem dX0_init_161 : decode cX0_init 161 = .ok (.newarray .long, 2) := dk_188_11 (dk_at dksX0_init_6 19 rfl rfl)
theorem dX0_init_163 : decode cX0_init 163 = .ok (.putfield 86, 3) := dk_181 0 86 (dk_at dksX0_init_6 21 rfl rfl)
theorem dX0_init_166 : decode cX0_init 166 = .ok (.aload_n 0, 1) := dk_42 (dk_at dksX0_init_7 0 rfl rfl)
theorem dX0_init_167 : decode cX0_init 167 = .ok (.iconst 2, 1) := dk_5 (dk_at dksX0_init_7 1 rfl rfl)
theorem dX0_init_168 : decode cX0_init 168 = .ok (.bipush 10, 2) := dk_16 10 (dk_at dksX0_init_7 2 rfl rfl)
theorem dX0_init_170 : decode cX0_init 170 = .ok (.multianewarray 89 2, 4) := by decide +kernel
theorem dX0_init_174 : decode cX0_init 174 = .ok (.putfield 91, 3) := dk_181 0 91 (dk_at dksX0_init_7 8 rfl rfl)
theorem dX0_init_177 : decode cX0_init 177 = .ok (.aload_n 0, 1) := dk_42 (dk_at dksX0_init_7 11 rfl rfl)
theorem dX0_init_178 : decode cX0_init 178 = .ok (.iconst 2, 1) := dk_5 (dk_at dksX0_init_7 12 rfl rfl)
theorem dX0_init_179 : decode cX0_init 179 = .ok (.bipush 10, 2) := dk_16 10 (dk_at dksX0_init_7 13 rfl rfl)
theorem dX0_init_181 : decode cX0_init 181 = .ok (.multianewarray 89 2, 4) := by decide +kernel
theorem dX0_init_185 : decode cX0_init 185 = .ok (.putfield 94, 3) := dk_181 0 94 (dk_at dksX0_init_7 19 rfl rfl)
theorem dX0_init_188 : decode cX0_init 188 = .ok (.return_, 1) := dk_177 (dk_at dksX0_init_7 22 rfl rfl)
abbrev cX0_feed : ByteArray := prog_1_method_5_code
def yX0_feed : MethodName := ⟨RX0, "feed", "(JI)I"⟩
def dkwX0_feed_3 : List UInt8 := [172]
abbrev dktX0_feed_3 : List UInt8 := dkwX0_feed_3 ++ []
def dkwX0_feed_2 : List UInt8 := [96, 181, 0, 97, 31, 16, 8, 21, 4, 104, 123, 136, 145, 84, 132, 4, 255, 167, 255, 223, 42, 180, 0, 97]
abbrev dktX0_feed_2 : List UInt8 := dkwX0_feed_2 ++ dktX0_feed_3
def dkwX0_feed_1 : List UInt8 := [16, 252, 172, 29, 4, 100, 54, 4, 21, 4, 155, 0, 34, 42, 180, 0, 31, 42, 89, 180, 0, 97, 90, 4]
abbrev dktX0_feed_1 : List UInt8 := dkwX0_feed_1 ++ dktX0_feed_2
def dkwX0_feed_0 : List UInt8 := [29, 4, 16, 8, 184, 0, 5, 154, 0, 6, 16, 254, 172, 42, 180, 0, 97, 29, 96, 16, 120, 164, 0, 6]
abbrev dktX0_feed_0 : List UInt8 := dkwX0_feed_0 ++ dktX0_feed_1
theorem dksX0_feed_0 : cX0_feed.data.toList.drop 0 = dktX0_feed_0 := by decide +kernel
theorem dksX0_feed_1 : cX0_feed.data.toList.drop 24 = dktX0_feed_1 := dk_seg dksX0_feed_0 24 rfl rfl
theorem dksX0_feed_2 : cX0_feed.data.toList.drop 48 = dktX0_feed_2 := dk_seg dksX0_feed_1 24 rfl rfl
theorem dksX0_feed_3 : cX0_feed.data.toList.drop 72 = dktX0_feed_3 := dk_seg dksX0_feed_2 24 rfl rfl
theorem dX0_feed_0 : decode cX0_feed 0 = .ok (.iload_n 3, 1) := dk_29 (dk_at dksX0_feed_0 0 rfl rfl)
theorem dX0_feed_1 : decode cX0_feed 1 = .ok (.iconst 1, 1) := dk_4 (dk_at dksX0_feed_0 1 rfl rfl)
theorem dX0_feed_2 : decode cX0_feed 2 = .ok (.bipush 8, 2) := dk_16 8 (dk_at dksX0_feed_0 2 rfl rfl)
theorem dX0_feed_4 : decode cX0_feed 4 = .ok (.invokestatic 5, 3) := dk_184 0 5 (dk_at dksX0_feed_0 4 rfl rfl)
theorem dX0_feed_7 : decode cX0_feed 7 = .ok (.ifCond .ne 6, 3) := dk_154 0 6 (dk_at dksX0_feed_0 7 rfl rfl)
theorem dX0_feed_10 : decode cX0_feed 10 = .ok (.bipush (-2), 2) := dk_16 254 (dk_at dksX0_feed_0 10 rfl rfl)
theorem dX0_feed_12 : decode cX0_feed 12 = .ok (.ireturn, 1) := dk_172 (dk_at dksX0_feed_0 12 rfl rfl)
theorem dX0_feed_13 : decode cX0_feed 13 = .ok (.aload_n 0, 1) := dk_42 (dk_at dksX0_feed_0 13 rfl rfl)
theorem dX0_feed_14 : decode cX0_feed 14 = .ok (.getfield 97, 3) := dk_180 0 97 (dk_at dksX0_feed_0 14 rfl rfl)
theorem dX0_feed_17 : decode cX0_feed 17 = .ok (.iload_n 3, 1) := dk_29 (dk_at dksX0_feed_0 17 rfl rfl)
theorem dX0_feed_18 : decode cX0_feed 18 = .ok (.iadd, 1) := dk_96 (dk_at dksX0_feed_0 18 rfl rfl)
theorem dX0_feed_19 : decode cX0_feed 19 = .ok (.bipush 120, 2) := dk_16 120 (dk_at dksX0_feed_0 19 rfl rfl)
theorem dX0_feed_21 : decode cX0_feed 21 = .ok (.if_icmp .le 6, 3) := dk_164 0 6 (dk_at dksX0_feed_0 21 rfl rfl)
theorem dX0_feed_24 : decode cX0_feed 24 = .ok (.bipush (-4), 2) := dk_16 252 (dk_at dksX0_feed_1 0 rfl rfl)
theorem dX0_feed_26 : decode cX0_feed 26 = .ok (.ireturn, 1) := dk_172 (dk_at dksX0_feed_1 2 rfl rfl)
theorem dX0_feed_27 : decode cX0_feed 27 = .ok (.iload_n 3, 1) := dk_29 (dk_at dksX0_feed_1 3 rfl rfl)
theorem dX0_feed_28 : decode cX0_feed 28 = .ok (.iconst 1, 1) := dk_4 (dk_at dksX0_feed_1 4 rfl rfl)
theorem dX0_feed_29 : decode cX0_feed 29 = .ok (.isub, 1) := dk_100 (dk_at dksX0_feed_1 5 rfl rfl)
theorem dX0_feed_30 : decode cX0_feed 30 = .ok (.istore 4, 2) := dk_54 4 (dk_at dksX0_feed_1 6 rfl rfl)
theorem dX0_feed_32 : decode cX0_feed 32 = .ok (.iload 4, 2) := dk_21 4 (dk_at dksX0_feed_1 8 rfl rfl)
theorem dX0_feed_34 : decode cX0_feed 34 = .ok (.ifCond .lt 34, 3) := dk_155 0 34 (dk_at dksX0_feed_1 10 rfl rfl)
theorem dX0_feed_37 : decode cX0_feed 37 = .ok (.aload_n 0, 1) := dk_42 (dk_at dksX0_feed_1 13 rfl rfl)
theorem dX0_feed_38 : decode cX0_feed 38 = .ok (.getfield 31, 3) := dk_180 0 31 (dk_at dksX0_feed_1 14 rfl rfl)
theorem dX0_feed_41 : decode cX0_feed 41 = .ok (.aload_n 0, 1) := dk_42 (dk_at dksX0_feed_1 17 rfl rfl)
theorem dX0_feed_42 : decode cX0_feed 42 = .ok (.dup, 1) := dk_89 (dk_at dksX0_feed_1 18 rfl rfl)
theorem dX0_feed_43 : decode cX0_feed 43 = .ok (.getfield 97, 3) := dk_180 0 97 (dk_at dksX0_feed_1 19 rfl rfl)
theorem dX0_feed_46 : decode cX0_feed 46 = .ok (.dup_x1, 1) := dk_90 (dk_at dksX0_feed_1 22 rfl rfl)
theorem dX0_feed_47 : decode cX0_feed 47 = .ok (.iconst 1, 1) := dk_4 (dk_at dksX0_feed_1 23 rfl rfl)
theorem dX0_feed_48 : decode cX0_feed 48 = .ok (.iadd, 1) := dk_96 (dk_at dksX0_feed_2 0 rfl rfl)
theorem dX0_feed_49 : decode cX0_feed 49 = .ok (.putfield 97, 3) := dk_181 0 97 (dk_at dksX0_feed_2 1 rfl rfl)
theorem dX0_feed_52 : decode cX0_feed 52 = .ok (.lload_n 1, 1) := dk_31 (dk_at dksX0_feed_2 4 rfl rfl)
theorem dX0_feed_53 : decode cX0_feed 53 = .ok (.bipush 8, 2) := dk_16 8 (dk_at dksX0_feed_2 5 rfl rfl)
theorem dX0_feed_55 : decode cX0_feed 55 = .ok (.iload 4, 2) := dk_21 4 (dk_at dksX0_feed_2 7 rfl rfl)
theorem dX0_feed_57 : decode cX0_feed 57 = .ok (.imul, 1) := dk_104 (dk_at dksX0_feed_2 9 rfl rfl)
theorem dX0_feed_58 : decode cX0_feed 58 = .ok (.lshr, 1) := dk_123 (dk_at dksX0_feed_2 10 rfl rfl)
theorem dX0_feed_59 : decode cX0_feed 59 = .ok (.l2i, 1) := dk_136 (dk_at dksX0_feed_2 11 rfl rfl)
theorem dX0_feed_60 : decode cX0_feed 60 = .ok (.i2b, 1) := dk_145 (dk_at dksX0_feed_2 12 rfl rfl)
theorem dX0_feed_61 : decode cX0_feed 61 = .ok (.bastore, 1) := dk_84 (dk_at dksX0_feed_2 13 rfl rfl)
theorem dX0_feed_62 : decode cX0_feed 62 = .ok (.iinc 4 (-1), 3) := dk_132 4 255 (dk_at dksX0_feed_2 14 rfl rfl)
theorem dX0_feed_65 : decode cX0_feed 65 = .ok (.goto (-33), 3) := dk_167 255 223 (dk_at dksX0_feed_2 17 rfl rfl)
theorem dX0_feed_68 : decode cX0_feed 68 = .ok (.aload_n 0, 1) := dk_42 (dk_at dksX0_feed_2 20 rfl rfl)
theorem dX0_feed_69 : decode cX0_feed 69 = .ok (.getfield 97, 3) := dk_180 0 97 (dk_at dksX0_feed_2 21 rfl rfl)
theorem dX0_feed_72 : decode cX0_feed 72 = .ok (.ireturn, 1) := dk_172 (dk_at dksX0_feed_3 0 rfl rfl)
abbrev cX0_in : ByteArray := prog_1_method_1_code
def yX0_in : MethodName := ⟨RX0, "in", "(III)Z"⟩
def dkwX0_in_0 : List UInt8 := [26, 27, 161, 0, 12, 26, 28, 163, 0, 7, 4, 167, 0, 4, 3, 172]
abbrev dktX0_in_0 : List UInt8 := dkwX0_in_0 ++ []
theorem dksX0_in_0 : cX0_in.data.toList.drop 0 = dktX0_in_0 := by decide +kernel
theorem dX0_in_0 : decode cX0_in 0 = .ok (.iload_n 0, 1) := dk_26 (dk_at dksX0_in_0 0 rfl rfl)
theorem dX0_in_1 : decode cX0_in 1 = .ok (.iload_n 1, 1) := dk_27 (dk_at dksX0_in_0 1 rfl rfl)
theorem dX0_in_2 : decode cX0_in 2 = .ok (.if_icmp .lt 12, 3) := dk_161 0 12 (dk_at dksX0_in_0 2 rfl rfl)
theorem dX0_in_5 : decode cX0_in 5 = .ok (.iload_n 0, 1) := dk_26 (dk_at dksX0_in_0 5 rfl rfl)
theorem dX0_in_6 : decode cX0_in 6 = .ok (.iload_n 2, 1) := dk_28 (dk_at dksX0_in_0 6 rfl rfl)
theorem dX0_in_7 : decode cX0_in 7 = .ok (.if_icmp .gt 7, 3) := dk_163 0 7 (dk_at dksX0_in_0 7 rfl rfl)
theorem dX0_in_10 : decode cX0_in 10 = .ok (.iconst 1, 1) := dk_4 (dk_at dksX0_in_0 10 rfl rfl)
theorem dX0_in_11 : decode cX0_in 11 = .ok (.goto 4, 3) := dk_167 0 4 (dk_at dksX0_in_0 11 rfl rfl)
theorem dX0_in_14 : decode cX0_in 14 = .ok (.iconst 0, 1) := dk_3 (dk_at dksX0_in_0 14 rfl rfl)
theorem dX0_in_15 : decode cX0_in 15 = .ok (.ireturn, 1) := dk_172 (dk_at dksX0_in_0 15 rfl rfl)
abbrev cX0_port : ByteArray := prog_1_method_6_code
def yX0_port : MethodName := ⟨RX0, "port", "()I"⟩
def dkwX0_port_2 : List UInt8 := [76, 16, 246, 43, 180, 0, 111, 100, 61, 42, 3, 181, 0, 97, 28, 172, 78, 42, 3, 181, 0, 97, 45, 191]
abbrev dktX0_port_2 : List UInt8 := dkwX0_port_2 ++ []
def dkwX0_port_1 : List UInt8 := [182, 0, 101, 182, 0, 105, 87, 42, 180, 0, 9, 182, 0, 13, 4, 100, 60, 42, 3, 181, 0, 97, 27, 172]
abbrev dktX0_port_1 : List UInt8 := dkwX0_port_1 ++ dktX0_port_2
def dkwX0_port_0 : List UInt8 := [42, 180, 0, 9, 182, 0, 13, 8, 160, 0, 6, 16, 252, 172, 42, 180, 0, 9, 42, 180, 0, 41]
abbrev dktX0_port_0 : List UInt8 := dkwX0_port_0 ++ dktX0_port_1
theorem dksX0_port_0 : cX0_port.data.toList.drop 0 = dktX0_port_0 := by decide +kernel
theorem dksX0_port_1 : cX0_port.data.toList.drop 22 = dktX0_port_1 := dk_seg dksX0_port_0 22 rfl rfl
theorem dksX0_port_2 : cX0_port.data.toList.drop 46 = dktX0_port_2 := dk_seg dksX0_port_1 24 rfl rfl
theorem dX0_port_0 : decode cX0_port 0 = .ok (.aload_n 0, 1) := dk_42 (dk_at dksX0_port_0 0 rfl rfl)
theorem dX0_port_1 : decode cX0_port 1 = .ok (.getfield 9, 3) := dk_180 0 9 (dk_at dksX0_port_0 1 rfl rfl)
theorem dX0_port_4 : decode cX0_port 4 = .ok (.invokevirtual 13, 3) := dk_182 0 13 (dk_at dksX0_port_0 4 rfl rfl)
theorem dX0_port_7 : decode cX0_port 7 = .ok (.iconst 5, 1) := dk_8 (dk_at dksX0_port_0 7 rfl rfl)
theorem dX0_port_8 : decode cX0_port 8 = .ok (.if_icmp .ne 6, 3) := dk_160 0 6 (dk_at dksX0_port_0 8 rfl rfl)
theorem dX0_port_11 : decode cX0_port 11 = .ok (.bipush (-4), 2) := dk_16 252 (dk_at dksX0_port_0 11 rfl rfl)
theorem dX0_port_13 : decode cX0_port 13 = .ok (.ireturn, 1) := dk_172 (dk_at dksX0_port_0 13 rfl rfl)
theorem dX0_port_14 : decode cX0_port 14 = .ok (.aload_n 0, 1) := dk_42 (dk_at dksX0_port_0 14 rfl rfl)
theorem dX0_port_15 : decode cX0_port 15 = .ok (.getfield 9, 3) := dk_180 0 9 (dk_at dksX0_port_0 15 rfl rfl)
theorem dX0_port_18 : decode cX0_port 18 = .ok (.aload_n 0, 1) := dk_42 (dk_at dksX0_port_0 18 rfl rfl)
theorem dX0_port_19 : decode cX0_port 19 = .ok (.getfield 41, 3) := dk_180 0 41 (dk_at dksX0_port_0 19 rfl rfl)
theorem dX0_port_22 : decode cX0_port 22 = .ok (.invokevirtual 101, 3) := dk_182 0 101 (dk_at dksX0_port_1 0 rfl rfl)
theorem dX0_port_25 : decode cX0_port 25 = .ok (.invokevirtual 105, 3) := dk_182 0 105 (dk_at dksX0_port_1 3 rfl rfl)
theorem dX0_port_28 : decode cX0_port 28 = .ok (.pop, 1) := dk_87 (dk_at dksX0_port_1 6 rfl rfl)
theorem dX0_port_29 : decode cX0_port 29 = .ok (.aload_n 0, 1) := dk_42 (dk_at dksX0_port_1 7 rfl rfl)
theorem dX0_port_30 : decode cX0_port 30 = .ok (.getfield 9, 3) := dk_180 0 9 (dk_at dksX0_port_1 8 rfl rfl)
theorem dX0_port_33 : decode cX0_port 33 = .ok (.invokevirtual 13, 3) := dk_182 0 13 (dk_at dksX0_port_1 11 rfl rfl)
theorem dX0_port_36 : decode cX0_port 36 = .ok (.iconst 1, 1) := dk_4 (dk_at dksX0_port_1 14 rfl rfl)
theorem dX0_port_37 : decode cX0_port 37 = .ok (.isub, 1) := dk_100 (dk_at dksX0_port_1 15 rfl rfl)
theorem dX0_port_38 : decode cX0_port 38 = .ok (.istore_n 1, 1) := dk_60 (dk_at dksX0_port_1 16 rfl rfl)
theorem dX0_port_39 : decode cX0_port 39 = .ok (.aload_n 0, 1) := dk_42 (dk_at dksX0_port_1 17 rfl rfl)
theorem dX0_port_40 : decode cX0_port 40 = .ok (.iconst 0, 1) := dk_3 (dk_at dksX0_port_1 18 rfl rfl)
theorem dX0_port_41 : decode cX0_port 41 = .ok (.putfield 97, 3) := dk_181 0 97 (dk_at dksX0_port_1 19 rfl rfl)
theorem dX0_port_44 : decode cX0_port 44 = .ok (.iload_n 1, 1) := dk_27 (dk_at dksX0_port_1 22 rfl rfl)
theorem dX0_port_45 : decode cX0_port 45 = .ok (.ireturn, 1) := dk_172 (dk_at dksX0_port_1 23 rfl rfl)
theorem dX0_port_46 : decode cX0_port 46 = .ok (.astore_n 1, 1) := dk_76 (dk_at dksX0_port_2 0 rfl rfl)
theorem dX0_port_47 : decode cX0_port 47 = .ok (.bipush (-10), 2) := dk_16 246 (dk_at dksX0_port_2 1 rfl rfl)
theorem dX0_port_49 : decode cX0_port 49 = .ok (.aload_n 1, 1) := dk_43 (dk_at dksX0_port_2 3 rfl rfl)
theorem dX0_port_50 : decode cX0_port 50 = .ok (.getfield 111, 3) := dk_180 0 111 (dk_at dksX0_port_2 4 rfl rfl)
theorem dX0_port_53 : decode cX0_port 53 = .ok (.isub, 1) := dk_100 (dk_at dksX0_port_2 7 rfl rfl)
theorem dX0_port_54 : decode cX0_port 54 = .ok (.istore_n 2, 1) := dk_61 (dk_at dksX0_port_2 8 rfl rfl)
theorem dX0_port_55 : decode cX0_port 55 = .ok (.aload_n 0, 1) := dk_42 (dk_at dksX0_port_2 9 rfl rfl)
theorem dX0_port_56 : decode cX0_port 56 = .ok (.iconst 0, 1) := dk_3 (dk_at dksX0_port_2 10 rfl rfl)
theorem dX0_port_57 : decode cX0_port 57 = .ok (.putfield 97, 3) := dk_181 0 97 (dk_at dksX0_port_2 11 rfl rfl)
theorem dX0_port_60 : decode cX0_port 60 = .ok (.iload_n 2, 1) := dk_28 (dk_at dksX0_port_2 14 rfl rfl)
theorem dX0_port_61 : decode cX0_port 61 = .ok (.ireturn, 1) := dk_172 (dk_at dksX0_port_2 15 rfl rfl)
theorem dX0_port_62 : decode cX0_port 62 = .ok (.astore_n 3, 1) := dk_78 (dk_at dksX0_port_2 16 rfl rfl)
theorem dX0_port_63 : decode cX0_port 63 = .ok (.aload_n 0, 1) := dk_42 (dk_at dksX0_port_2 17 rfl rfl)
theorem dX0_port_64 : decode cX0_port 64 = .ok (.iconst 0, 1) := dk_3 (dk_at dksX0_port_2 18 rfl rfl)
theorem dX0_port_65 : decode cX0_port 65 = .ok (.putfield 97, 3) := dk_181 0 97 (dk_at dksX0_port_2 19 rfl rfl)
theorem dX0_port_68 : decode cX0_port 68 = .ok (.aload_n 3, 1) := dk_45 (dk_at dksX0_port_2 22 rfl rfl)
theorem dX0_port_69 : decode cX0_port 69 = .ok (.athrow, 1) := dk_191 (dk_at dksX0_port_2 23 rfl rfl)
abbrev cX0_told : ByteArray := prog_1_method_7_code
def yX0_told : MethodName := ⟨RX0, "told", "(II)I"⟩
def dkwX0_told_1 : List UInt8 := [162, 0, 12, 45, 180, 0, 118, 28, 46, 167, 0, 11, 45, 180, 0, 121, 28, 7, 100, 46, 172]
abbrev dktX0_told_1 : List UInt8 := dkwX0_told_1 ++ []
def dkwX0_told_0 : List UInt8 := [42, 27, 182, 0, 114, 78, 45, 198, 0, 13, 28, 3, 16, 9, 184, 0, 5, 154, 0, 5, 2, 172, 28, 7]
abbrev dktX0_told_0 : List UInt8 := dkwX0_told_0 ++ dktX0_told_1
theorem dksX0_told_0 : cX0_told.data.toList.drop 0 = dktX0_told_0 := by decide +kernel
theorem dksX0_told_1 : cX0_told.data.toList.drop 24 = dktX0_told_1 := dk_seg dksX0_told_0 24 rfl rfl
theorem dX0_told_0 : decode cX0_told 0 = .ok (.aload_n 0, 1) := dk_42 (dk_at dksX0_told_0 0 rfl rfl)
theorem dX0_told_1 : decode cX0_told 1 = .ok (.iload_n 1, 1) := dk_27 (dk_at dksX0_told_0 1 rfl rfl)
theorem dX0_told_2 : decode cX0_told 2 = .ok (.invokevirtual 114, 3) := dk_182 0 114 (dk_at dksX0_told_0 2 rfl rfl)
theorem dX0_told_5 : decode cX0_told 5 = .ok (.astore_n 3, 1) := dk_78 (dk_at dksX0_told_0 5 rfl rfl)
theorem dX0_told_6 : decode cX0_told 6 = .ok (.aload_n 3, 1) := dk_45 (dk_at dksX0_told_0 6 rfl rfl)
theorem dX0_told_7 : decode cX0_told 7 = .ok (.ifnull 13, 3) := dk_198 0 13 (dk_at dksX0_told_0 7 rfl rfl)
theorem dX0_told_10 : decode cX0_told 10 = .ok (.iload_n 2, 1) := dk_28 (dk_at dksX0_told_0 10 rfl rfl)
theorem dX0_told_11 : decode cX0_told 11 = .ok (.iconst 0, 1) := dk_3 (dk_at dksX0_told_0 11 rfl rfl)
theorem dX0_told_12 : decode cX0_told 12 = .ok (.bipush 9, 2) := dk_16 9 (dk_at dksX0_told_0 12 rfl rfl)
theorem dX0_told_14 : decode cX0_told 14 = .ok (.invokestatic 5, 3) := dk_184 0 5 (dk_at dksX0_told_0 14 rfl rfl)
theorem dX0_told_17 : decode cX0_told 17 = .ok (.ifCond .ne 5, 3) := dk_154 0 5 (dk_at dksX0_told_0 17 rfl rfl)
theorem dX0_told_20 : decode cX0_told 20 = .ok (.iconst (-1), 1) := dk_2 (dk_at dksX0_told_0 20 rfl rfl)
theorem dX0_told_21 : decode cX0_told 21 = .ok (.ireturn, 1) := dk_172 (dk_at dksX0_told_0 21 rfl rfl)
theorem dX0_told_22 : decode cX0_told 22 = .ok (.iload_n 2, 1) := dk_28 (dk_at dksX0_told_0 22 rfl rfl)
theorem dX0_told_23 : decode cX0_told 23 = .ok (.iconst 4, 1) := dk_7 (dk_at dksX0_told_0 23 rfl rfl)
theorem dX0_told_24 : decode cX0_told 24 = .ok (.if_icmp .ge 12, 3) := dk_162 0 12 (dk_at dksX0_told_1 0 rfl rfl)
theorem dX0_told_27 : decode cX0_told 27 = .ok (.aload_n 3, 1) := dk_45 (dk_at dksX0_told_1 3 rfl rfl)
theorem dX0_told_28 : decode cX0_told 28 = .ok (.getfield 118, 3) := dk_180 0 118 (dk_at dksX0_told_1 4 rfl rfl)
theorem dX0_told_31 : decode cX0_told 31 = .ok (.iload_n 2, 1) := dk_28 (dk_at dksX0_told_1 7 rfl rfl)
theorem dX0_told_32 : decode cX0_told 32 = .ok (.iaload, 1) := dk_46 (dk_at dksX0_told_1 8 rfl rfl)
theorem dX0_told_33 : decode cX0_told 33 = .ok (.goto 11, 3) := dk_167 0 11 (dk_at dksX0_told_1 9 rfl rfl)
theorem dX0_told_36 : decode cX0_told 36 = .ok (.aload_n 3, 1) := dk_45 (dk_at dksX0_told_1 12 rfl rfl)
theorem dX0_told_37 : decode cX0_told 37 = .ok (.getfield 121, 3) := dk_180 0 121 (dk_at dksX0_told_1 13 rfl rfl)
theorem dX0_told_40 : decode cX0_told 40 = .ok (.iload_n 2, 1) := dk_28 (dk_at dksX0_told_1 16 rfl rfl)
theorem dX0_told_41 : decode cX0_told 41 = .ok (.iconst 4, 1) := dk_7 (dk_at dksX0_told_1 17 rfl rfl)
theorem dX0_told_42 : decode cX0_told 42 = .ok (.isub, 1) := dk_100 (dk_at dksX0_told_1 18 rfl rfl)
theorem dX0_told_43 : decode cX0_told 43 = .ok (.iaload, 1) := dk_46 (dk_at dksX0_told_1 19 rfl rfl)
theorem dX0_told_44 : decode cX0_told 44 = .ok (.ireturn, 1) := dk_172 (dk_at dksX0_told_1 20 rfl rfl)
abbrev cX0_portAt : ByteArray := prog_1_method_3_code
def yX0_portAt : MethodName := ⟨RX0, "portAt", "(I)LFortyDays$Port;"⟩
def dkwX0_portAt_1 : List UInt8 := [182, 0, 19, 192, 0, 23, 176]
abbrev dktX0_portAt_1 : List UInt8 := dkwX0_portAt_1 ++ []
def dkwX0_portAt_0 : List UInt8 := [27, 155, 0, 14, 27, 42, 180, 0, 9, 182, 0, 13, 161, 0, 7, 1, 167, 0, 14, 42, 180, 0, 9, 27]
abbrev dktX0_portAt_0 : List UInt8 := dkwX0_portAt_0 ++ dktX0_portAt_1
theorem dksX0_portAt_0 : cX0_portAt.data.toList.drop 0 = dktX0_portAt_0 := by decide +kernel
theorem dksX0_portAt_1 : cX0_portAt.data.toList.drop 24 = dktX0_portAt_1 := dk_seg dksX0_portAt_0 24 rfl rfl
theorem dX0_portAt_0 : decode cX0_portAt 0 = .ok (.iload_n 1, 1) := dk_27 (dk_at dksX0_portAt_0 0 rfl rfl)
theorem dX0_portAt_1 : decode cX0_portAt 1 = .ok (.ifCond .lt 14, 3) := dk_155 0 14 (dk_at dksX0_portAt_0 1 rfl rfl)
theorem dX0_portAt_4 : decode cX0_portAt 4 = .ok (.iload_n 1, 1) := dk_27 (dk_at dksX0_portAt_0 4 rfl rfl)
theorem dX0_portAt_5 : decode cX0_portAt 5 = .ok (.aload_n 0, 1) := dk_42 (dk_at dksX0_portAt_0 5 rfl rfl)
theorem dX0_portAt_6 : decode cX0_portAt 6 = .ok (.getfield 9, 3) := dk_180 0 9 (dk_at dksX0_portAt_0 6 rfl rfl)
theorem dX0_portAt_9 : decode cX0_portAt 9 = .ok (.invokevirtual 13, 3) := dk_182 0 13 (dk_at dksX0_portAt_0 9 rfl rfl)
theorem dX0_portAt_12 : decode cX0_portAt 12 = .ok (.if_icmp .lt 7, 3) := dk_161 0 7 (dk_at dksX0_portAt_0 12 rfl rfl)
theorem dX0_portAt_15 : decode cX0_portAt 15 = .ok (.aconst_null, 1) := dk_1 (dk_at dksX0_portAt_0 15 rfl rfl)
theorem dX0_portAt_16 : decode cX0_portAt 16 = .ok (.goto 14, 3) := dk_167 0 14 (dk_at dksX0_portAt_0 16 rfl rfl)
theorem dX0_portAt_19 : decode cX0_portAt 19 = .ok (.aload_n 0, 1) := dk_42 (dk_at dksX0_portAt_0 19 rfl rfl)
theorem dX0_portAt_20 : decode cX0_portAt 20 = .ok (.getfield 9, 3) := dk_180 0 9 (dk_at dksX0_portAt_0 20 rfl rfl)
theorem dX0_portAt_23 : decode cX0_portAt 23 = .ok (.iload_n 1, 1) := dk_27 (dk_at dksX0_portAt_0 23 rfl rfl)
theorem dX0_portAt_24 : decode cX0_portAt 24 = .ok (.invokevirtual 19, 3) := dk_182 0 19 (dk_at dksX0_portAt_1 0 rfl rfl)
theorem dX0_portAt_27 : decode cX0_portAt 27 = .ok (.checkcast 23, 3) := dk_192 0 23 (dk_at dksX0_portAt_1 3 rfl rfl)
theorem dX0_portAt_30 : decode cX0_portAt 30 = .ok (.areturn, 1) := dk_176 (dk_at dksX0_portAt_1 6 rfl rfl)
abbrev cX0_holds : ByteArray := prog_1_method_8_code
def yX0_holds : MethodName := ⟨RX0, "holds", "(IIII)I"⟩
def dkwX0_holds_2 : List UInt8 := [182, 0, 128, 167, 0, 5, 16, 254, 172]
abbrev dktX0_holds_2 : List UInt8 := dkwX0_holds_2 ++ []
def dkwX0_holds_1 : List UInt8 := [29, 4, 16, 20, 184, 0, 5, 153, 0, 23, 21, 4, 184, 0, 124, 153, 0, 15, 25, 5, 28, 29, 21, 4]
abbrev dktX0_holds_1 : List UInt8 := dkwX0_holds_1 ++ dktX0_holds_2
def dkwX0_holds_0 : List UInt8 := [42, 27, 182, 0, 114, 58, 5, 25, 5, 199, 0, 5, 2, 172, 28, 3, 16, 99, 184, 0, 5, 153, 0, 33]
abbrev dktX0_holds_0 : List UInt8 := dkwX0_holds_0 ++ dktX0_holds_1
theorem dksX0_holds_0 : cX0_holds.data.toList.drop 0 = dktX0_holds_0 := by decide +kernel
theorem dksX0_holds_1 : cX0_holds.data.toList.drop 24 = dktX0_holds_1 := dk_seg dksX0_holds_0 24 rfl rfl
theorem dksX0_holds_2 : cX0_holds.data.toList.drop 48 = dktX0_holds_2 := dk_seg dksX0_holds_1 24 rfl rfl
theorem dX0_holds_0 : decode cX0_holds 0 = .ok (.aload_n 0, 1) := dk_42 (dk_at dksX0_holds_0 0 rfl rfl)
theorem dX0_holds_1 : decode cX0_holds 1 = .ok (.iload_n 1, 1) := dk_27 (dk_at dksX0_holds_0 1 rfl rfl)
theorem dX0_holds_2 : decode cX0_holds 2 = .ok (.invokevirtual 114, 3) := dk_182 0 114 (dk_at dksX0_holds_0 2 rfl rfl)
theorem dX0_holds_5 : decode cX0_holds 5 = .ok (.astore 5, 2) := dk_58 5 (dk_at dksX0_holds_0 5 rfl rfl)
theorem dX0_holds_7 : decode cX0_holds 7 = .ok (.aload 5, 2) := dk_25 5 (dk_at dksX0_holds_0 7 rfl rfl)
theorem dX0_holds_9 : decode cX0_holds 9 = .ok (.ifnonnull 5, 3) := dk_199 0 5 (dk_at dksX0_holds_0 9 rfl rfl)
theorem dX0_holds_12 : decode cX0_holds 12 = .ok (.iconst (-1), 1) := dk_2 (dk_at dksX0_holds_0 12 rfl rfl)
theorem dX0_holds_13 : decode cX0_holds 13 = .ok (.ireturn, 1) := dk_172 (dk_at dksX0_holds_0 13 rfl rfl)
theorem dX0_holds_14 : decode cX0_holds 14 = .ok (.iload_n 2, 1) := dk_28 (dk_at dksX0_holds_0 14 rfl rfl)
theorem dX0_holds_15 : decode cX0_holds 15 = .ok (.iconst 0, 1) := dk_3 (dk_at dksX0_holds_0 15 rfl rfl)
theorem dX0_holds_16 : decode cX0_holds 16 = .ok (.bipush 99, 2) := dk_16 99 (dk_at dksX0_holds_0 16 rfl rfl)
theorem dX0_holds_18 : decode cX0_holds 18 = .ok (.invokestatic 5, 3) := dk_184 0 5 (dk_at dksX0_holds_0 18 rfl rfl)
theorem dX0_holds_21 : decode cX0_holds 21 = .ok (.ifCond .eq 33, 3) := dk_153 0 33 (dk_at dksX0_holds_0 21 rfl rfl)
theorem dX0_holds_24 : decode cX0_holds 24 = .ok (.iload_n 3, 1) := dk_29 (dk_at dksX0_holds_1 0 rfl rfl)
theorem dX0_holds_25 : decode cX0_holds 25 = .ok (.iconst 1, 1) := dk_4 (dk_at dksX0_holds_1 1 rfl rfl)
theorem dX0_holds_26 : decode cX0_holds 26 = .ok (.bipush 20, 2) := dk_16 20 (dk_at dksX0_holds_1 2 rfl rfl)
theorem dX0_holds_28 : decode cX0_holds 28 = .ok (.invokestatic 5, 3) := dk_184 0 5 (dk_at dksX0_holds_1 4 rfl rfl)
theorem dX0_holds_31 : decode cX0_holds 31 = .ok (.ifCond .eq 23, 3) := dk_153 0 23 (dk_at dksX0_holds_1 7 rfl rfl)
theorem dX0_holds_34 : decode cX0_holds 34 = .ok (.iload 4, 2) := dk_21 4 (dk_at dksX0_holds_1 10 rfl rfl)
theorem dX0_holds_36 : decode cX0_holds 36 = .ok (.invokestatic 124, 3) := dk_184 0 124 (dk_at dksX0_holds_1 12 rfl rfl)
theorem dX0_holds_39 : decode cX0_holds 39 = .ok (.ifCond .eq 15, 3) := dk_153 0 15 (dk_at dksX0_holds_1 15 rfl rfl)
theorem dX0_holds_42 : decode cX0_holds 42 = .ok (.aload 5, 2) := dk_25 5 (dk_at dksX0_holds_1 18 rfl rfl)
theorem dX0_holds_44 : decode cX0_holds 44 = .ok (.iload_n 2, 1) := dk_28 (dk_at dksX0_holds_1 20 rfl rfl)
theorem dX0_holds_45 : decode cX0_holds 45 = .ok (.iload_n 3, 1) := dk_29 (dk_at dksX0_holds_1 21 rfl rfl)
theorem dX0_holds_46 : decode cX0_holds 46 = .ok (.iload 4, 2) := dk_21 4 (dk_at dksX0_holds_1 22 rfl rfl)
theorem dX0_holds_48 : decode cX0_holds 48 = .ok (.invokevirtual 128, 3) := dk_182 0 128 (dk_at dksX0_holds_2 0 rfl rfl)
theorem dX0_holds_51 : decode cX0_holds 51 = .ok (.goto 5, 3) := dk_167 0 5 (dk_at dksX0_holds_2 3 rfl rfl)
theorem dX0_holds_54 : decode cX0_holds 54 = .ok (.bipush (-2), 2) := dk_16 254 (dk_at dksX0_holds_2 6 rfl rfl)
theorem dX0_holds_56 : decode cX0_holds 56 = .ok (.ireturn, 1) := dk_172 (dk_at dksX0_holds_2 8 rfl rfl)
abbrev cX0_isPlace : ByteArray := prog_1_method_2_code
def yX0_isPlace : MethodName := ⟨RX0, "isPlace", "(I)Z"⟩
def dkwX0_isPlace_0 : List UInt8 := [26, 3, 6, 184, 0, 5, 172]
abbrev dktX0_isPlace_0 : List UInt8 := dkwX0_isPlace_0 ++ []
theorem dksX0_isPlace_0 : cX0_isPlace.data.toList.drop 0 = dktX0_isPlace_0 := by decide +kernel
theorem dX0_isPlace_0 : decode cX0_isPlace 0 = .ok (.iload_n 0, 1) := dk_26 (dk_at dksX0_isPlace_0 0 rfl rfl)
theorem dX0_isPlace_1 : decode cX0_isPlace 1 = .ok (.iconst 0, 1) := dk_3 (dk_at dksX0_isPlace_0 1 rfl rfl)
theorem dX0_isPlace_2 : decode cX0_isPlace 2 = .ok (.iconst 3, 1) := dk_6 (dk_at dksX0_isPlace_0 2 rfl rfl)
theorem dX0_isPlace_3 : decode cX0_isPlace 3 = .ok (.invokestatic 5, 3) := dk_184 0 5 (dk_at dksX0_isPlace_0 3 rfl rfl)
theorem dX0_isPlace_6 : decode cX0_isPlace 6 = .ok (.ireturn, 1) := dk_172 (dk_at dksX0_isPlace_0 6 rfl rfl)
abbrev cX0_ship : ByteArray := prog_1_method_10_code
def yX0_ship : MethodName := ⟨RX0, "ship", "(III)I"⟩
def dkwX0_ship_3 : List UInt8 := [180, 0, 45, 182, 0, 13, 4, 100, 172]
abbrev dktX0_ship_3 : List UInt8 := dkwX0_ship_3 ++ []
def dkwX0_ship_2 : List UInt8 := [16, 252, 172, 42, 180, 0, 45, 187, 0, 132, 89, 25, 4, 28, 29, 183, 0, 134, 182, 0, 105, 87, 42]
abbrev dktX0_ship_2 : List UInt8 := dkwX0_ship_2 ++ dktX0_ship_3
def dkwX0_ship_1 : List UInt8 := [16, 20, 184, 0, 5, 154, 0, 6, 16, 254, 172, 42, 180, 0, 45, 182, 0, 13, 16, 12, 160, 0, 6]
abbrev dktX0_ship_1 : List UInt8 := dkwX0_ship_1 ++ dktX0_ship_2
def dkwX0_ship_0 : List UInt8 := [42, 27, 182, 0, 114, 58, 4, 25, 4, 198, 0, 10, 28, 184, 0, 124, 154, 0, 5, 2, 172, 29, 4]
abbrev dktX0_ship_0 : List UInt8 := dkwX0_ship_0 ++ dktX0_ship_1
theorem dksX0_ship_0 : cX0_ship.data.toList.drop 0 = dktX0_ship_0 := by decide +kernel
theorem dksX0_ship_1 : cX0_ship.data.toList.drop 23 = dktX0_ship_1 := dk_seg dksX0_ship_0 23 rfl rfl
theorem dksX0_ship_2 : cX0_ship.data.toList.drop 46 = dktX0_ship_2 := dk_seg dksX0_ship_1 23 rfl rfl
theorem dksX0_ship_3 : cX0_ship.data.toList.drop 69 = dktX0_ship_3 := dk_seg dksX0_ship_2 23 rfl rfl
theorem dX0_ship_0 : decode cX0_ship 0 = .ok (.aload_n 0, 1) := dk_42 (dk_at dksX0_ship_0 0 rfl rfl)
theorem dX0_ship_1 : decode cX0_ship 1 = .ok (.iload_n 1, 1) := dk_27 (dk_at dksX0_ship_0 1 rfl rfl)
theorem dX0_ship_2 : decode cX0_ship 2 = .ok (.invokevirtual 114, 3) := dk_182 0 114 (dk_at dksX0_ship_0 2 rfl rfl)
theorem dX0_ship_5 : decode cX0_ship 5 = .ok (.astore 4, 2) := dk_58 4 (dk_at dksX0_ship_0 5 rfl rfl)
theorem dX0_ship_7 : decode cX0_ship 7 = .ok (.aload 4, 2) := dk_25 4 (dk_at dksX0_ship_0 7 rfl rfl)
theorem dX0_ship_9 : decode cX0_ship 9 = .ok (.ifnull 10, 3) := dk_198 0 10 (dk_at dksX0_ship_0 9 rfl rfl)
theorem dX0_ship_12 : decode cX0_ship 12 = .ok (.iload_n 2, 1) := dk_28 (dk_at dksX0_ship_0 12 rfl rfl)
theorem dX0_ship_13 : decode cX0_ship 13 = .ok (.invokestatic 124, 3) := dk_184 0 124 (dk_at dksX0_ship_0 13 rfl rfl)
theorem dX0_ship_16 : decode cX0_ship 16 = .ok (.ifCond .ne 5, 3) := dk_154 0 5 (dk_at dksX0_ship_0 16 rfl rfl)
theorem dX0_ship_19 : decode cX0_ship 19 = .ok (.iconst (-1), 1) := dk_2 (dk_at dksX0_ship_0 19 rfl rfl)
theorem dX0_ship_20 : decode cX0_ship 20 = .ok (.ireturn, 1) := dk_172 (dk_at dksX0_ship_0 20 rfl rfl)
theorem dX0_ship_21 : decode cX0_ship 21 = .ok (.iload_n 3, 1) := dk_29 (dk_at dksX0_ship_0 21 rfl rfl)
theorem dX0_ship_22 : decode cX0_ship 22 = .ok (.iconst 1, 1) := dk_4 (dk_at dksX0_ship_0 22 rfl rfl)
theorem dX0_ship_23 : decode cX0_ship 23 = .ok (.bipush 20, 2) := dk_16 20 (dk_at dksX0_ship_1 0 rfl rfl)
theorem dX0_ship_25 : decode cX0_ship 25 = .ok (.invokestatic 5, 3) := dk_184 0 5 (dk_at dksX0_ship_1 2 rfl rfl)
theorem dX0_ship_28 : decode cX0_ship 28 = .ok (.ifCond .ne 6, 3) := dk_154 0 6 (dk_at dksX0_ship_1 5 rfl rfl)
theorem dX0_ship_31 : decode cX0_ship 31 = .ok (.bipush (-2), 2) := dk_16 254 (dk_at dksX0_ship_1 8 rfl rfl)
theorem dX0_ship_33 : decode cX0_ship 33 = .ok (.ireturn, 1) := dk_172 (dk_at dksX0_ship_1 10 rfl rfl)
theorem dX0_ship_34 : decode cX0_ship 34 = .ok (.aload_n 0, 1) := dk_42 (dk_at dksX0_ship_1 11 rfl rfl)
theorem dX0_ship_35 : decode cX0_ship 35 = .ok (.getfield 45, 3) := dk_180 0 45 (dk_at dksX0_ship_1 12 rfl rfl)
theorem dX0_ship_38 : decode cX0_ship 38 = .ok (.invokevirtual 13, 3) := dk_182 0 13 (dk_at dksX0_ship_1 15 rfl rfl)
theorem dX0_ship_41 : decode cX0_ship 41 = .ok (.bipush 12, 2) := dk_16 12 (dk_at dksX0_ship_1 18 rfl rfl)
theorem dX0_ship_43 : decode cX0_ship 43 = .ok (.if_icmp .ne 6, 3) := dk_160 0 6 (dk_at dksX0_ship_1 20 rfl rfl)
theorem dX0_ship_46 : decode cX0_ship 46 = .ok (.bipush (-4), 2) := dk_16 252 (dk_at dksX0_ship_2 0 rfl rfl)
theorem dX0_ship_48 : decode cX0_ship 48 = .ok (.ireturn, 1) := dk_172 (dk_at dksX0_ship_2 2 rfl rfl)
theorem dX0_ship_49 : decode cX0_ship 49 = .ok (.aload_n 0, 1) := dk_42 (dk_at dksX0_ship_2 3 rfl rfl)
theorem dX0_ship_50 : decode cX0_ship 50 = .ok (.getfield 45, 3) := dk_180 0 45 (dk_at dksX0_ship_2 4 rfl rfl)
theorem dX0_ship_53 : decode cX0_ship 53 = .ok (.new 132, 3) := dk_187 0 132 (dk_at dksX0_ship_2 7 rfl rfl)
theorem dX0_ship_56 : decode cX0_ship 56 = .ok (.dup, 1) := dk_89 (dk_at dksX0_ship_2 10 rfl rfl)
theorem dX0_ship_57 : decode cX0_ship 57 = .ok (.aload 4, 2) := dk_25 4 (dk_at dksX0_ship_2 11 rfl rfl)
theorem dX0_ship_59 : decode cX0_ship 59 = .ok (.iload_n 2, 1) := dk_28 (dk_at dksX0_ship_2 13 rfl rfl)
theorem dX0_ship_60 : decode cX0_ship 60 = .ok (.iload_n 3, 1) := dk_29 (dk_at dksX0_ship_2 14 rfl rfl)
theorem dX0_ship_61 : decode cX0_ship 61 = .ok (.invokespecial 134, 3) := dk_183 0 134 (dk_at dksX0_ship_2 15 rfl rfl)
theorem dX0_ship_64 : decode cX0_ship 64 = .ok (.invokevirtual 105, 3) := dk_182 0 105 (dk_at dksX0_ship_2 18 rfl rfl)
theorem dX0_ship_67 : decode cX0_ship 67 = .ok (.pop, 1) := dk_87 (dk_at dksX0_ship_2 21 rfl rfl)
theorem dX0_ship_68 : decode cX0_ship 68 = .ok (.aload_n 0, 1) := dk_42 (dk_at dksX0_ship_2 22 rfl rfl)
theorem dX0_ship_69 : decode cX0_ship 69 = .ok (.getfield 45, 3) := dk_180 0 45 (dk_at dksX0_ship_3 0 rfl rfl)
theorem dX0_ship_72 : decode cX0_ship 72 = .ok (.invokevirtual 13, 3) := dk_182 0 13 (dk_at dksX0_ship_3 3 rfl rfl)
theorem dX0_ship_75 : decode cX0_ship 75 = .ok (.iconst 1, 1) := dk_4 (dk_at dksX0_ship_3 6 rfl rfl)
theorem dX0_ship_76 : decode cX0_ship 76 = .ok (.isub, 1) := dk_100 (dk_at dksX0_ship_3 7 rfl rfl)
theorem dX0_ship_77 : decode cX0_ship 77 = .ok (.ireturn, 1) := dk_172 (dk_at dksX0_ship_3 8 rfl rfl)
abbrev cX0_says : ByteArray := prog_1_method_11_code
def yX0_says : MethodName := ⟨RX0, "says", "(II)I"⟩
def dkwX0_says_1 : List UInt8 := [180, 0, 144, 54, 4, 45, 28, 3, 182, 0, 147, 21, 4, 172]
abbrev dktX0_says_1 : List UInt8 := dkwX0_says_1 ++ []
def dkwX0_says_0 : List UInt8 := [42, 27, 182, 0, 137, 78, 45, 198, 0, 10, 28, 184, 0, 124, 154, 0, 5, 2, 172, 45, 180, 0, 141]
abbrev dktX0_says_0 : List UInt8 := dkwX0_says_0 ++ dktX0_says_1
theorem dksX0_says_0 : cX0_says.data.toList.drop 0 = dktX0_says_0 := by decide +kernel
theorem dksX0_says_1 : cX0_says.data.toList.drop 23 = dktX0_says_1 := dk_seg dksX0_says_0 23 rfl rfl
theorem dX0_says_0 : decode cX0_says 0 = .ok (.aload_n 0, 1) := dk_42 (dk_at dksX0_says_0 0 rfl rfl)
theorem dX0_says_1 : decode cX0_says 1 = .ok (.iload_n 1, 1) := dk_27 (dk_at dksX0_says_0 1 rfl rfl)
theorem dX0_says_2 : decode cX0_says 2 = .ok (.invokevirtual 137, 3) := dk_182 0 137 (dk_at dksX0_says_0 2 rfl rfl)
theorem dX0_says_5 : decode cX0_says 5 = .ok (.astore_n 3, 1) := dk_78 (dk_at dksX0_says_0 5 rfl rfl)
theorem dX0_says_6 : decode cX0_says 6 = .ok (.aload_n 3, 1) := dk_45 (dk_at dksX0_says_0 6 rfl rfl)
theorem dX0_says_7 : decode cX0_says 7 = .ok (.ifnull 10, 3) := dk_198 0 10 (dk_at dksX0_says_0 7 rfl rfl)
theorem dX0_says_10 : decode cX0_says 10 = .ok (.iload_n 2, 1) := dk_28 (dk_at dksX0_says_0 10 rfl rfl)
theorem dX0_says_11 : decode cX0_says 11 = .ok (.invokestatic 124, 3) := dk_184 0 124 (dk_at dksX0_says_0 11 rfl rfl)
theorem dX0_says_14 : decode cX0_says 14 = .ok (.ifCond .ne 5, 3) := dk_154 0 5 (dk_at dksX0_says_0 14 rfl rfl)
theorem dX0_says_17 : decode cX0_says 17 = .ok (.iconst (-1), 1) := dk_2 (dk_at dksX0_says_0 17 rfl rfl)
theorem dX0_says_18 : decode cX0_says 18 = .ok (.ireturn, 1) := dk_172 (dk_at dksX0_says_0 18 rfl rfl)
theorem dX0_says_19 : decode cX0_says 19 = .ok (.aload_n 3, 1) := dk_45 (dk_at dksX0_says_0 19 rfl rfl)
theorem dX0_says_20 : decode cX0_says 20 = .ok (.getfield 141, 3) := dk_180 0 141 (dk_at dksX0_says_0 20 rfl rfl)
theorem dX0_says_23 : decode cX0_says 23 = .ok (.getfield 144, 3) := dk_180 0 144 (dk_at dksX0_says_1 0 rfl rfl)
theorem dX0_says_26 : decode cX0_says 26 = .ok (.istore 4, 2) := dk_54 4 (dk_at dksX0_says_1 3 rfl rfl)
theorem dX0_says_28 : decode cX0_says 28 = .ok (.aload_n 3, 1) := dk_45 (dk_at dksX0_says_1 5 rfl rfl)
theorem dX0_says_29 : decode cX0_says 29 = .ok (.iload_n 2, 1) := dk_28 (dk_at dksX0_says_1 6 rfl rfl)
theorem dX0_says_30 : decode cX0_says 30 = .ok (.iconst 0, 1) := dk_3 (dk_at dksX0_says_1 7 rfl rfl)
theorem dX0_says_31 : decode cX0_says 31 = .ok (.invokevirtual 147, 3) := dk_182 0 147 (dk_at dksX0_says_1 8 rfl rfl)
theorem dX0_says_34 : decode cX0_says 34 = .ok (.iload 4, 2) := dk_21 4 (dk_at dksX0_says_1 11 rfl rfl)
theorem dX0_says_36 : decode cX0_says 36 = .ok (.ireturn, 1) := dk_172 (dk_at dksX0_says_1 13 rfl rfl)
abbrev cX0_shipAt : ByteArray := prog_1_method_9_code
def yX0_shipAt : MethodName := ⟨RX0, "shipAt", "(I)LFortyDays$Ship;"⟩
def dkwX0_shipAt_1 : List UInt8 := [182, 0, 19, 192, 0, 132, 176]
abbrev dktX0_shipAt_1 : List UInt8 := dkwX0_shipAt_1 ++ []
def dkwX0_shipAt_0 : List UInt8 := [27, 155, 0, 14, 27, 42, 180, 0, 45, 182, 0, 13, 161, 0, 7, 1, 167, 0, 14, 42, 180, 0, 45, 27]
abbrev dktX0_shipAt_0 : List UInt8 := dkwX0_shipAt_0 ++ dktX0_shipAt_1
theorem dksX0_shipAt_0 : cX0_shipAt.data.toList.drop 0 = dktX0_shipAt_0 := by decide +kernel
theorem dksX0_shipAt_1 : cX0_shipAt.data.toList.drop 24 = dktX0_shipAt_1 := dk_seg dksX0_shipAt_0 24 rfl rfl
theorem dX0_shipAt_0 : decode cX0_shipAt 0 = .ok (.iload_n 1, 1) := dk_27 (dk_at dksX0_shipAt_0 0 rfl rfl)
theorem dX0_shipAt_1 : decode cX0_shipAt 1 = .ok (.ifCond .lt 14, 3) := dk_155 0 14 (dk_at dksX0_shipAt_0 1 rfl rfl)
theorem dX0_shipAt_4 : decode cX0_shipAt 4 = .ok (.iload_n 1, 1) := dk_27 (dk_at dksX0_shipAt_0 4 rfl rfl)
theorem dX0_shipAt_5 : decode cX0_shipAt 5 = .ok (.aload_n 0, 1) := dk_42 (dk_at dksX0_shipAt_0 5 rfl rfl)
theorem dX0_shipAt_6 : decode cX0_shipAt 6 = .ok (.getfield 45, 3) := dk_180 0 45 (dk_at dksX0_shipAt_0 6 rfl rfl)
theorem dX0_shipAt_9 : decode cX0_shipAt 9 = .ok (.invokevirtual 13, 3) := dk_182 0 13 (dk_at dksX0_shipAt_0 9 rfl rfl)
theorem dX0_shipAt_12 : decode cX0_shipAt 12 = .ok (.if_icmp .lt 7, 3) := dk_161 0 7 (dk_at dksX0_shipAt_0 12 rfl rfl)
theorem dX0_shipAt_15 : decode cX0_shipAt 15 = .ok (.aconst_null, 1) := dk_1 (dk_at dksX0_shipAt_0 15 rfl rfl)
theorem dX0_shipAt_16 : decode cX0_shipAt 16 = .ok (.goto 14, 3) := dk_167 0 14 (dk_at dksX0_shipAt_0 16 rfl rfl)
theorem dX0_shipAt_19 : decode cX0_shipAt 19 = .ok (.aload_n 0, 1) := dk_42 (dk_at dksX0_shipAt_0 19 rfl rfl)
theorem dX0_shipAt_20 : decode cX0_shipAt 20 = .ok (.getfield 45, 3) := dk_180 0 45 (dk_at dksX0_shipAt_0 20 rfl rfl)
theorem dX0_shipAt_23 : decode cX0_shipAt 23 = .ok (.iload_n 1, 1) := dk_27 (dk_at dksX0_shipAt_0 23 rfl rfl)
theorem dX0_shipAt_24 : decode cX0_shipAt 24 = .ok (.invokevirtual 19, 3) := dk_182 0 19 (dk_at dksX0_shipAt_1 0 rfl rfl)
theorem dX0_shipAt_27 : decode cX0_shipAt 27 = .ok (.checkcast 132, 3) := dk_192 0 132 (dk_at dksX0_shipAt_1 3 rfl rfl)
theorem dX0_shipAt_30 : decode cX0_shipAt 30 = .ok (.areturn, 1) := dk_176 (dk_at dksX0_shipAt_1 6 rfl rfl)
abbrev cX0_late : ByteArray := prog_1_method_12_code
def yX0_late : MethodName := ⟨RX0, "late", "(II)I"⟩
def dkwX0_late_1 : List UInt8 := [172, 45, 45, 180, 0, 141, 180, 0, 144, 28, 182, 0, 147, 45, 180, 0, 141, 182, 0, 151, 172]
abbrev dktX0_late_1 : List UInt8 := dkwX0_late_1 ++ []
def dkwX0_late_0 : List UInt8 := [42, 27, 182, 0, 137, 78, 45, 199, 0, 5, 2, 172, 28, 3, 16, 99, 184, 0, 5, 154, 0, 6, 16, 254]
abbrev dktX0_late_0 : List UInt8 := dkwX0_late_0 ++ dktX0_late_1
theorem dksX0_late_0 : cX0_late.data.toList.drop 0 = dktX0_late_0 := by decide +kernel
theorem dksX0_late_1 : cX0_late.data.toList.drop 24 = dktX0_late_1 := dk_seg dksX0_late_0 24 rfl rfl
theorem dX0_late_0 : decode cX0_late 0 = .ok (.aload_n 0, 1) := dk_42 (dk_at dksX0_late_0 0 rfl rfl)
theorem dX0_late_1 : decode cX0_late 1 = .ok (.iload_n 1, 1) := dk_27 (dk_at dksX0_late_0 1 rfl rfl)
theorem dX0_late_2 : decode cX0_late 2 = .ok (.invokevirtual 137, 3) := dk_182 0 137 (dk_at dksX0_late_0 2 rfl rfl)
theorem dX0_late_5 : decode cX0_late 5 = .ok (.astore_n 3, 1) := dk_78 (dk_at dksX0_late_0 5 rfl rfl)
theorem dX0_late_6 : decode cX0_late 6 = .ok (.aload_n 3, 1) := dk_45 (dk_at dksX0_late_0 6 rfl rfl)
theorem dX0_late_7 : decode cX0_late 7 = .ok (.ifnonnull 5, 3) := dk_199 0 5 (dk_at dksX0_late_0 7 rfl rfl)
theorem dX0_late_10 : decode cX0_late 10 = .ok (.iconst (-1), 1) := dk_2 (dk_at dksX0_late_0 10 rfl rfl)
theorem dX0_late_11 : decode cX0_late 11 = .ok (.ireturn, 1) := dk_172 (dk_at dksX0_late_0 11 rfl rfl)
theorem dX0_late_12 : decode cX0_late 12 = .ok (.iload_n 2, 1) := dk_28 (dk_at dksX0_late_0 12 rfl rfl)
theorem dX0_late_13 : decode cX0_late 13 = .ok (.iconst 0, 1) := dk_3 (dk_at dksX0_late_0 13 rfl rfl)
theorem dX0_late_14 : decode cX0_late 14 = .ok (.bipush 99, 2) := dk_16 99 (dk_at dksX0_late_0 14 rfl rfl)
theorem dX0_late_16 : decode cX0_late 16 = .ok (.invokestatic 5, 3) := dk_184 0 5 (dk_at dksX0_late_0 16 rfl rfl)
theorem dX0_late_19 : decode cX0_late 19 = .ok (.ifCond .ne 6, 3) := dk_154 0 6 (dk_at dksX0_late_0 19 rfl rfl)
theorem dX0_late_22 : decode cX0_late 22 = .ok (.bipush (-2), 2) := dk_16 254 (dk_at dksX0_late_0 22 rfl rfl)
theorem dX0_late_24 : decode cX0_late 24 = .ok (.ireturn, 1) := dk_172 (dk_at dksX0_late_1 0 rfl rfl)
theorem dX0_late_25 : decode cX0_late 25 = .ok (.aload_n 3, 1) := dk_45 (dk_at dksX0_late_1 1 rfl rfl)
theorem dX0_late_26 : decode cX0_late 26 = .ok (.aload_n 3, 1) := dk_45 (dk_at dksX0_late_1 2 rfl rfl)
theorem dX0_late_27 : decode cX0_late 27 = .ok (.getfield 141, 3) := dk_180 0 141 (dk_at dksX0_late_1 3 rfl rfl)
theorem dX0_late_30 : decode cX0_late 30 = .ok (.getfield 144, 3) := dk_180 0 144 (dk_at dksX0_late_1 6 rfl rfl)
theorem dX0_late_33 : decode cX0_late 33 = .ok (.iload_n 2, 1) := dk_28 (dk_at dksX0_late_1 9 rfl rfl)
theorem dX0_late_34 : decode cX0_late 34 = .ok (.invokevirtual 147, 3) := dk_182 0 147 (dk_at dksX0_late_1 10 rfl rfl)
theorem dX0_late_37 : decode cX0_late 37 = .ok (.aload_n 3, 1) := dk_45 (dk_at dksX0_late_1 13 rfl rfl)
theorem dX0_late_38 : decode cX0_late 38 = .ok (.getfield 141, 3) := dk_180 0 141 (dk_at dksX0_late_1 14 rfl rfl)
theorem dX0_late_41 : decode cX0_late 41 = .ok (.invokevirtual 151, 3) := dk_182 0 151 (dk_at dksX0_late_1 17 rfl rfl)
theorem dX0_late_44 : decode cX0_late 44 = .ok (.ireturn, 1) := dk_172 (dk_at dksX0_late_1 20 rfl rfl)
abbrev cX0_of : ByteArray := prog_1_method_13_code
def yX0_of : MethodName := ⟨RX0, "of", "(II)I"⟩
def dkwX0_of_4 : List UInt8 := [180, 0, 141, 180, 0, 168, 28, 46, 167, 0, 4, 2, 172]
abbrev dktX0_of_4 : List UInt8 := dkwX0_of_4 ++ []
def dkwX0_of_3 : List UInt8 := [45, 180, 0, 162, 172, 45, 180, 0, 141, 180, 0, 165, 172, 28, 3, 6, 184, 0, 5, 153, 0, 15, 45]
abbrev dktX0_of_3 : List UInt8 := dkwX0_of_3 ++ dktX0_of_4
def dkwX0_of_2 : List UInt8 := [45, 180, 0, 141, 180, 0, 154, 180, 0, 158, 172, 45, 180, 0, 161, 172, 45, 180, 0, 141, 180, 0, 144, 172]
abbrev dktX0_of_2 : List UInt8 := dkwX0_of_2 ++ dktX0_of_3
def dkwX0_of_1 : List UInt8 := [170, 0, 0, 0, 0, 0, 72, 0, 0, 0, 4, 0, 0, 0, 8, 0, 0, 0, 35, 0, 0, 0, 46, 0, 0, 0, 51, 0, 0, 0, 59, 0, 0, 0, 64]
abbrev dktX0_of_1 : List UInt8 := dkwX0_of_1 ++ dktX0_of_2
def dkwX0_of_0 : List UInt8 := [42, 27, 182, 0, 137, 78, 45, 199, 0, 5, 2, 172, 28]
abbrev dktX0_of_0 : List UInt8 := dkwX0_of_0 ++ dktX0_of_1
theorem dksX0_of_0 : cX0_of.data.toList.drop 0 = dktX0_of_0 := by decide +kernel
theorem dksX0_of_1 : cX0_of.data.toList.drop 13 = dktX0_of_1 := dk_seg dksX0_of_0 13 rfl rfl
theorem dksX0_of_2 : cX0_of.data.toList.drop 48 = dktX0_of_2 := dk_seg dksX0_of_1 35 rfl rfl
theorem dksX0_of_3 : cX0_of.data.toList.drop 72 = dktX0_of_3 := dk_seg dksX0_of_2 24 rfl rfl
theorem dksX0_of_4 : cX0_of.data.toList.drop 95 = dktX0_of_4 := dk_seg dksX0_of_3 23 rfl rfl
theorem dX0_of_0 : decode cX0_of 0 = .ok (.aload_n 0, 1) := dk_42 (dk_at dksX0_of_0 0 rfl rfl)
theorem dX0_of_1 : decode cX0_of 1 = .ok (.iload_n 1, 1) := dk_27 (dk_at dksX0_of_0 1 rfl rfl)
theorem dX0_of_2 : decode cX0_of 2 = .ok (.invokevirtual 137, 3) := dk_182 0 137 (dk_at dksX0_of_0 2 rfl rfl)
theorem dX0_of_5 : decode cX0_of 5 = .ok (.astore_n 3, 1) := dk_78 (dk_at dksX0_of_0 5 rfl rfl)
theorem dX0_of_6 : decode cX0_of 6 = .ok (.aload_n 3, 1) := dk_45 (dk_at dksX0_of_0 6 rfl rfl)
theorem dX0_of_7 : decode cX0_of 7 = .ok (.ifnonnull 5, 3) := dk_199 0 5 (dk_at dksX0_of_0 7 rfl rfl)
theorem dX0_of_10 : decode cX0_of 10 = .ok (.iconst (-1), 1) := dk_2 (dk_at dksX0_of_0 10 rfl rfl)
theorem dX0_of_11 : decode cX0_of 11 = .ok (.ireturn, 1) := dk_172 (dk_at dksX0_of_0 11 rfl rfl)
theorem dX0_of_12 : decode cX0_of 12 = .ok (.iload_n 2, 1) := dk_28 (dk_at dksX0_of_0 12 rfl rfl)
theorem dX0_of_13 : decode cX0_of 13 = .ok (.tableswitch 72 4 8 #[35, 46, 51, 59, 64], 35) := by decide +kernel
theorem dX0_of_48 : decode cX0_of 48 = .ok (.aload_n 3, 1) := dk_45 (dk_at dksX0_of_2 0 rfl rfl)
theorem dX0_of_49 : decode cX0_of 49 = .ok (.getfield 141, 3) := dk_180 0 141 (dk_at dksX0_of_2 1 rfl rfl)
theorem dX0_of_52 : decode cX0_of 52 = .ok (.getfield 154, 3) := dk_180 0 154 (dk_at dksX0_of_2 4 rfl rfl)
theorem dX0_of_55 : decode cX0_of 55 = .ok (.getfield 158, 3) := dk_180 0 158 (dk_at dksX0_of_2 7 rfl rfl)
theorem dX0_of_58 : decode cX0_of 58 = .ok (.ireturn, 1) := dk_172 (dk_at dksX0_of_2 10 rfl rfl)
theorem dX0_of_59 : decode cX0_of 59 = .ok (.aload_n 3, 1) := dk_45 (dk_at dksX0_of_2 11 rfl rfl)
theorem dX0_of_60 : decode cX0_of 60 = .ok (.getfield 161, 3) := dk_180 0 161 (dk_at dksX0_of_2 12 rfl rfl)
theorem dX0_of_63 : decode cX0_of 63 = .ok (.ireturn, 1) := dk_172 (dk_at dksX0_of_2 15 rfl rfl)
theorem dX0_of_64 : decode cX0_of 64 = .ok (.aload_n 3, 1) := dk_45 (dk_at dksX0_of_2 16 rfl rfl)
theorem dX0_of_65 : decode cX0_of 65 = .ok (.getfield 141, 3) := dk_180 0 141 (dk_at dksX0_of_2 17 rfl rfl)
theorem dX0_of_68 : decode cX0_of 68 = .ok (.getfield 144, 3) := dk_180 0 144 (dk_at dksX0_of_2 20 rfl rfl)
theorem dX0_of_71 : decode cX0_of 71 = .ok (.ireturn, 1) := dk_172 (dk_at dksX0_of_2 23 rfl rfl)
theorem dX0_of_72 : decode cX0_of 72 = .ok (.aload_n 3, 1) := dk_45 (dk_at dksX0_of_3 0 rfl rfl)
theorem dX0_of_73 : decode cX0_of 73 = .ok (.getfield 162, 3) := dk_180 0 162 (dk_at dksX0_of_3 1 rfl rfl)
theorem dX0_of_76 : decode cX0_of 76 = .ok (.ireturn, 1) := dk_172 (dk_at dksX0_of_3 4 rfl rfl)
theorem dX0_of_77 : decode cX0_of 77 = .ok (.aload_n 3, 1) := dk_45 (dk_at dksX0_of_3 5 rfl rfl)
theorem dX0_of_78 : decode cX0_of 78 = .ok (.getfield 141, 3) := dk_180 0 141 (dk_at dksX0_of_3 6 rfl rfl)
theorem dX0_of_81 : decode cX0_of 81 = .ok (.getfield 165, 3) := dk_180 0 165 (dk_at dksX0_of_3 9 rfl rfl)
theorem dX0_of_84 : decode cX0_of 84 = .ok (.ireturn, 1) := dk_172 (dk_at dksX0_of_3 12 rfl rfl)
theorem dX0_of_85 : decode cX0_of 85 = .ok (.iload_n 2, 1) := dk_28 (dk_at dksX0_of_3 13 rfl rfl)
theorem dX0_of_86 : decode cX0_of 86 = .ok (.iconst 0, 1) := dk_3 (dk_at dksX0_of_3 14 rfl rfl)
theorem dX0_of_87 : decode cX0_of 87 = .ok (.iconst 3, 1) := dk_6 (dk_at dksX0_of_3 15 rfl rfl)
theorem dX0_of_88 : decode cX0_of 88 = .ok (.invokestatic 5, 3) := dk_184 0 5 (dk_at dksX0_of_3 16 rfl rfl)
theorem dX0_of_91 : decode cX0_of 91 = .ok (.ifCond .eq 15, 3) := dk_153 0 15 (dk_at dksX0_of_3 19 rfl rfl)
theorem dX0_of_94 : decode cX0_of 94 = .ok (.aload_n 3, 1) := dk_45 (dk_at dksX0_of_3 22 rfl rfl)
theorem dX0_of_95 : decode cX0_of 95 = .ok (.getfield 141, 3) := dk_180 0 141 (dk_at dksX0_of_4 0 rfl rfl)
theorem dX0_of_98 : decode cX0_of 98 = .ok (.getfield 168, 3) := dk_180 0 168 (dk_at dksX0_of_4 3 rfl rfl)
theorem dX0_of_101 : decode cX0_of 101 = .ok (.iload_n 2, 1) := dk_28 (dk_at dksX0_of_4 6 rfl rfl)
theorem dX0_of_102 : decode cX0_of 102 = .ok (.iaload, 1) := dk_46 (dk_at dksX0_of_4 7 rfl rfl)
theorem dX0_of_103 : decode cX0_of 103 = .ok (.goto 4, 3) := dk_167 0 4 (dk_at dksX0_of_4 8 rfl rfl)
theorem dX0_of_106 : decode cX0_of 106 = .ok (.iconst (-1), 1) := dk_2 (dk_at dksX0_of_4 11 rfl rfl)
theorem dX0_of_107 : decode cX0_of 107 = .ok (.ireturn, 1) := dk_172 (dk_at dksX0_of_4 12 rfl rfl)
abbrev cX0_days : ByteArray := prog_1_method_14_code
def yX0_days : MethodName := ⟨RX0, "days", "(II)I"⟩
def dkwX0_days_2 : List UInt8 := [180, 0, 141, 180, 0, 174, 172]
abbrev dktX0_days_2 : List UInt8 := dkwX0_days_2 ++ []
def dkwX0_days_1 : List UInt8 := [172, 3, 54, 4, 21, 4, 28, 162, 0, 16, 45, 180, 0, 141, 182, 0, 171, 132, 4, 1, 167, 255, 240, 45]
abbrev dktX0_days_1 : List UInt8 := dkwX0_days_1 ++ dktX0_days_2
def dkwX0_days_0 : List UInt8 := [42, 27, 182, 0, 137, 78, 45, 199, 0, 5, 2, 172, 28, 4, 16, 30, 184, 0, 5, 154, 0, 6, 16, 254]
abbrev dktX0_days_0 : List UInt8 := dkwX0_days_0 ++ dktX0_days_1
theorem dksX0_days_0 : cX0_days.data.toList.drop 0 = dktX0_days_0 := by decide +kernel
theorem dksX0_days_1 : cX0_days.data.toList.drop 24 = dktX0_days_1 := dk_seg dksX0_days_0 24 rfl rfl
theorem dksX0_days_2 : cX0_days.data.toList.drop 48 = dktX0_days_2 := dk_seg dksX0_days_1 24 rfl rfl
theorem dX0_days_0 : decode cX0_days 0 = .ok (.aload_n 0, 1) := dk_42 (dk_at dksX0_days_0 0 rfl rfl)
theorem dX0_days_1 : decode cX0_days 1 = .ok (.iload_n 1, 1) := dk_27 (dk_at dksX0_days_0 1 rfl rfl)
theorem dX0_days_2 : decode cX0_days 2 = .ok (.invokevirtual 137, 3) := dk_182 0 137 (dk_at dksX0_days_0 2 rfl rfl)
theorem dX0_days_5 : decode cX0_days 5 = .ok (.astore_n 3, 1) := dk_78 (dk_at dksX0_days_0 5 rfl rfl)
theorem dX0_days_6 : decode cX0_days 6 = .ok (.aload_n 3, 1) := dk_45 (dk_at dksX0_days_0 6 rfl rfl)
theorem dX0_days_7 : decode cX0_days 7 = .ok (.ifnonnull 5, 3) := dk_199 0 5 (dk_at dksX0_days_0 7 rfl rfl)
theorem dX0_days_10 : decode cX0_days 10 = .ok (.iconst (-1), 1) := dk_2 (dk_at dksX0_days_0 10 rfl rfl)
theorem dX0_days_11 : decode cX0_days 11 = .ok (.ireturn, 1) := dk_172 (dk_at dksX0_days_0 11 rfl rfl)
theorem dX0_days_12 : decode cX0_days 12 = .ok (.iload_n 2, 1) := dk_28 (dk_at dksX0_days_0 12 rfl rfl)
theorem dX0_days_13 : decode cX0_days 13 = .ok (.iconst 1, 1) := dk_4 (dk_at dksX0_days_0 13 rfl rfl)
theorem dX0_days_14 : decode cX0_days 14 = .ok (.bipush 30, 2) := dk_16 30 (dk_at dksX0_days_0 14 rfl rfl)
theorem dX0_days_16 : decode cX0_days 16 = .ok (.invokestatic 5, 3) := dk_184 0 5 (dk_at dksX0_days_0 16 rfl rfl)
theorem dX0_days_19 : decode cX0_days 19 = .ok (.ifCond .ne 6, 3) := dk_154 0 6 (dk_at dksX0_days_0 19 rfl rfl)
theorem dX0_days_22 : decode cX0_days 22 = .ok (.bipush (-2), 2) := dk_16 254 (dk_at dksX0_days_0 22 rfl rfl)
theorem dX0_days_24 : decode cX0_days 24 = .ok (.ireturn, 1) := dk_172 (dk_at dksX0_days_1 0 rfl rfl)
theorem dX0_days_25 : decode cX0_days 25 = .ok (.iconst 0, 1) := dk_3 (dk_at dksX0_days_1 1 rfl rfl)
theorem dX0_days_26 : decode cX0_days 26 = .ok (.istore 4, 2) := dk_54 4 (dk_at dksX0_days_1 2 rfl rfl)
theorem dX0_days_28 : decode cX0_days 28 = .ok (.iload 4, 2) := dk_21 4 (dk_at dksX0_days_1 4 rfl rfl)
theorem dX0_days_30 : decode cX0_days 30 = .ok (.iload_n 2, 1) := dk_28 (dk_at dksX0_days_1 6 rfl rfl)
theorem dX0_days_31 : decode cX0_days 31 = .ok (.if_icmp .ge 16, 3) := dk_162 0 16 (dk_at dksX0_days_1 7 rfl rfl)
theorem dX0_days_34 : decode cX0_days 34 = .ok (.aload_n 3, 1) := dk_45 (dk_at dksX0_days_1 10 rfl rfl)
theorem dX0_days_35 : decode cX0_days 35 = .ok (.getfield 141, 3) := dk_180 0 141 (dk_at dksX0_days_1 11 rfl rfl)
theorem dX0_days_38 : decode cX0_days 38 = .ok (.invokevirtual 171, 3) := dk_182 0 171 (dk_at dksX0_days_1 14 rfl rfl)
theorem dX0_days_41 : decode cX0_days 41 = .ok (.iinc 4 1, 3) := dk_132 4 1 (dk_at dksX0_days_1 17 rfl rfl)
theorem dX0_days_44 : decode cX0_days 44 = .ok (.goto (-16), 3) := dk_167 255 240 (dk_at dksX0_days_1 20 rfl rfl)
theorem dX0_days_47 : decode cX0_days 47 = .ok (.aload_n 3, 1) := dk_45 (dk_at dksX0_days_1 23 rfl rfl)
theorem dX0_days_48 : decode cX0_days 48 = .ok (.getfield 141, 3) := dk_180 0 141 (dk_at dksX0_days_2 0 rfl rfl)
theorem dX0_days_51 : decode cX0_days 51 = .ok (.getfield 174, 3) := dk_180 0 174 (dk_at dksX0_days_2 3 rfl rfl)
theorem dX0_days_54 : decode cX0_days 54 = .ok (.ireturn, 1) := dk_172 (dk_at dksX0_days_2 6 rfl rfl)
abbrev cX0_look : ByteArray := prog_1_method_15_code
def yX0_look : MethodName := ⟨RX0, "look", "(I)I"⟩
def dkwX0_look_1 : List UInt8 := [180, 0, 174, 172]
abbrev dktX0_look_1 : List UInt8 := dkwX0_look_1 ++ []
def dkwX0_look_0 : List UInt8 := [42, 27, 182, 0, 137, 77, 44, 199, 0, 5, 2, 172, 44, 180, 0, 141, 182, 0, 177, 44, 180, 0, 141]
abbrev dktX0_look_0 : List UInt8 := dkwX0_look_0 ++ dktX0_look_1
theorem dksX0_look_0 : cX0_look.data.toList.drop 0 = dktX0_look_0 := by decide +kernel
theorem dksX0_look_1 : cX0_look.data.toList.drop 23 = dktX0_look_1 := dk_seg dksX0_look_0 23 rfl rfl
theorem dX0_look_0 : decode cX0_look 0 = .ok (.aload_n 0, 1) := dk_42 (dk_at dksX0_look_0 0 rfl rfl)
theorem dX0_look_1 : decode cX0_look 1 = .ok (.iload_n 1, 1) := dk_27 (dk_at dksX0_look_0 1 rfl rfl)
theorem dX0_look_2 : decode cX0_look 2 = .ok (.invokevirtual 137, 3) := dk_182 0 137 (dk_at dksX0_look_0 2 rfl rfl)
theorem dX0_look_5 : decode cX0_look 5 = .ok (.astore_n 2, 1) := dk_77 (dk_at dksX0_look_0 5 rfl rfl)
theorem dX0_look_6 : decode cX0_look 6 = .ok (.aload_n 2, 1) := dk_44 (dk_at dksX0_look_0 6 rfl rfl)
theorem dX0_look_7 : decode cX0_look 7 = .ok (.ifnonnull 5, 3) := dk_199 0 5 (dk_at dksX0_look_0 7 rfl rfl)
theorem dX0_look_10 : decode cX0_look 10 = .ok (.iconst (-1), 1) := dk_2 (dk_at dksX0_look_0 10 rfl rfl)
theorem dX0_look_11 : decode cX0_look 11 = .ok (.ireturn, 1) := dk_172 (dk_at dksX0_look_0 11 rfl rfl)
theorem dX0_look_12 : decode cX0_look 12 = .ok (.aload_n 2, 1) := dk_44 (dk_at dksX0_look_0 12 rfl rfl)
theorem dX0_look_13 : decode cX0_look 13 = .ok (.getfield 141, 3) := dk_180 0 141 (dk_at dksX0_look_0 13 rfl rfl)
theorem dX0_look_16 : decode cX0_look 16 = .ok (.invokevirtual 177, 3) := dk_182 0 177 (dk_at dksX0_look_0 16 rfl rfl)
theorem dX0_look_19 : decode cX0_look 19 = .ok (.aload_n 2, 1) := dk_44 (dk_at dksX0_look_0 19 rfl rfl)
theorem dX0_look_20 : decode cX0_look 20 = .ok (.getfield 141, 3) := dk_180 0 141 (dk_at dksX0_look_0 20 rfl rfl)
theorem dX0_look_23 : decode cX0_look 23 = .ok (.getfield 174, 3) := dk_180 0 174 (dk_at dksX0_look_1 0 rfl rfl)
theorem dX0_look_26 : decode cX0_look 26 = .ok (.ireturn, 1) := dk_172 (dk_at dksX0_look_1 3 rfl rfl)
abbrev cX0_harm : ByteArray := prog_1_method_16_code
def yX0_harm : MethodName := ⟨RX0, "harm", "(I)J"⟩
def dkwX0_harm_1 : List UInt8 := [192, 0, 132, 180, 0, 141, 182, 0, 182, 173]
abbrev dktX0_harm_1 : List UInt8 := dkwX0_harm_1 ++ []
def dkwX0_harm_0 : List UInt8 := [42, 27, 182, 0, 137, 199, 0, 9, 20, 0, 180, 167, 0, 20, 42, 180, 0, 45, 27, 182, 0, 19]
abbrev dktX0_harm_0 : List UInt8 := dkwX0_harm_0 ++ dktX0_harm_1
theorem dksX0_harm_0 : cX0_harm.data.toList.drop 0 = dktX0_harm_0 := by decide +kernel
theorem dksX0_harm_1 : cX0_harm.data.toList.drop 22 = dktX0_harm_1 := dk_seg dksX0_harm_0 22 rfl rfl
theorem dX0_harm_0 : decode cX0_harm 0 = .ok (.aload_n 0, 1) := dk_42 (dk_at dksX0_harm_0 0 rfl rfl)
theorem dX0_harm_1 : decode cX0_harm 1 = .ok (.iload_n 1, 1) := dk_27 (dk_at dksX0_harm_0 1 rfl rfl)
theorem dX0_harm_2 : decode cX0_harm 2 = .ok (.invokevirtual 137, 3) := dk_182 0 137 (dk_at dksX0_harm_0 2 rfl rfl)
theorem dX0_harm_5 : decode cX0_harm 5 = .ok (.ifnonnull 9, 3) := dk_199 0 9 (dk_at dksX0_harm_0 5 rfl rfl)
theorem dX0_harm_8 : decode cX0_harm 8 = .ok (.ldc2_w 180, 3) := dk_20 0 180 (dk_at dksX0_harm_0 8 rfl rfl)
theorem dX0_harm_11 : decode cX0_harm 11 = .ok (.goto 20, 3) := dk_167 0 20 (dk_at dksX0_harm_0 11 rfl rfl)
theorem dX0_harm_14 : decode cX0_harm 14 = .ok (.aload_n 0, 1) := dk_42 (dk_at dksX0_harm_0 14 rfl rfl)
theorem dX0_harm_15 : decode cX0_harm 15 = .ok (.getfield 45, 3) := dk_180 0 45 (dk_at dksX0_harm_0 15 rfl rfl)
theorem dX0_harm_18 : decode cX0_harm 18 = .ok (.iload_n 1, 1) := dk_27 (dk_at dksX0_harm_0 18 rfl rfl)
theorem dX0_harm_19 : decode cX0_harm 19 = .ok (.invokevirtual 19, 3) := dk_182 0 19 (dk_at dksX0_harm_0 19 rfl rfl)
theorem dX0_harm_22 : decode cX0_harm 22 = .ok (.checkcast 132, 3) := dk_192 0 132 (dk_at dksX0_harm_1 0 rfl rfl)
theorem dX0_harm_25 : decode cX0_harm 25 = .ok (.getfield 141, 3) := dk_180 0 141 (dk_at dksX0_harm_1 3 rfl rfl)
theorem dX0_harm_28 : decode cX0_harm 28 = .ok (.invokevirtual 182, 3) := dk_182 0 182 (dk_at dksX0_harm_1 6 rfl rfl)
theorem dX0_harm_31 : decode cX0_harm 31 = .ok (.lreturn, 1) := dk_173 (dk_at dksX0_harm_1 9 rfl rfl)
abbrev cX0_rule : ByteArray := prog_1_method_27_code
def yX0_rule : MethodName := ⟨RX0, "rule", "(II)I"⟩
def dkwX0_rule_2 : List UInt8 := [182, 0, 245, 182, 0, 105, 87, 42, 180, 0, 83, 182, 0, 13, 4, 100, 172]
abbrev dktX0_rule_2 : List UInt8 := dkwX0_rule_2 ++ []
def dkwX0_rule_1 : List UInt8 := [172, 42, 180, 0, 83, 182, 0, 13, 16, 12, 160, 0, 6, 16, 252, 172, 42, 180, 0, 83, 42, 27, 28]
abbrev dktX0_rule_1 : List UInt8 := dkwX0_rule_1 ++ dktX0_rule_2
def dkwX0_rule_0 : List UInt8 := [27, 3, 16, 6, 184, 0, 5, 154, 0, 5, 2, 172, 28, 3, 16, 99, 184, 0, 5, 154, 0, 6, 16, 254]
abbrev dktX0_rule_0 : List UInt8 := dkwX0_rule_0 ++ dktX0_rule_1
theorem dksX0_rule_0 : cX0_rule.data.toList.drop 0 = dktX0_rule_0 := by decide +kernel
theorem dksX0_rule_1 : cX0_rule.data.toList.drop 24 = dktX0_rule_1 := dk_seg dksX0_rule_0 24 rfl rfl
theorem dksX0_rule_2 : cX0_rule.data.toList.drop 47 = dktX0_rule_2 := dk_seg dksX0_rule_1 23 rfl rfl
theorem dX0_rule_0 : decode cX0_rule 0 = .ok (.iload_n 1, 1) := dk_27 (dk_at dksX0_rule_0 0 rfl rfl)
theorem dX0_rule_1 : decode cX0_rule 1 = .ok (.iconst 0, 1) := dk_3 (dk_at dksX0_rule_0 1 rfl rfl)
theorem dX0_rule_2 : decode cX0_rule 2 = .ok (.bipush 6, 2) := dk_16 6 (dk_at dksX0_rule_0 2 rfl rfl)
theorem dX0_rule_4 : decode cX0_rule 4 = .ok (.invokestatic 5, 3) := dk_184 0 5 (dk_at dksX0_rule_0 4 rfl rfl)
theorem dX0_rule_7 : decode cX0_rule 7 = .ok (.ifCond .ne 5, 3) := dk_154 0 5 (dk_at dksX0_rule_0 7 rfl rfl)
theorem dX0_rule_10 : decode cX0_rule 10 = .ok (.iconst (-1), 1) := dk_2 (dk_at dksX0_rule_0 10 rfl rfl)
theorem dX0_rule_11 : decode cX0_rule 11 = .ok (.ireturn, 1) := dk_172 (dk_at dksX0_rule_0 11 rfl rfl)
theorem dX0_rule_12 : decode cX0_rule 12 = .ok (.iload_n 2, 1) := dk_28 (dk_at dksX0_rule_0 12 rfl rfl)
theorem dX0_rule_13 : decode cX0_rule 13 = .ok (.iconst 0, 1) := dk_3 (dk_at dksX0_rule_0 13 rfl rfl)
theorem dX0_rule_14 : decode cX0_rule 14 = .ok (.bipush 99, 2) := dk_16 99 (dk_at dksX0_rule_0 14 rfl rfl)
theorem dX0_rule_16 : decode cX0_rule 16 = .ok (.invokestatic 5, 3) := dk_184 0 5 (dk_at dksX0_rule_0 16 rfl rfl)
theorem dX0_rule_19 : decode cX0_rule 19 = .ok (.ifCond .ne 6, 3) := dk_154 0 6 (dk_at dksX0_rule_0 19 rfl rfl)
theorem dX0_rule_22 : decode cX0_rule 22 = .ok (.bipush (-2), 2) := dk_16 254 (dk_at dksX0_rule_0 22 rfl rfl)
theorem dX0_rule_24 : decode cX0_rule 24 = .ok (.ireturn, 1) := dk_172 (dk_at dksX0_rule_1 0 rfl rfl)
theorem dX0_rule_25 : decode cX0_rule 25 = .ok (.aload_n 0, 1) := dk_42 (dk_at dksX0_rule_1 1 rfl rfl)
theorem dX0_rule_26 : decode cX0_rule 26 = .ok (.getfield 83, 3) := dk_180 0 83 (dk_at dksX0_rule_1 2 rfl rfl)
theorem dX0_rule_29 : decode cX0_rule 29 = .ok (.invokevirtual 13, 3) := dk_182 0 13 (dk_at dksX0_rule_1 5 rfl rfl)
theorem dX0_rule_32 : decode cX0_rule 32 = .ok (.bipush 12, 2) := dk_16 12 (dk_at dksX0_rule_1 8 rfl rfl)
theorem dX0_rule_34 : decode cX0_rule 34 = .ok (.if_icmp .ne 6, 3) := dk_160 0 6 (dk_at dksX0_rule_1 10 rfl rfl)
theorem dX0_rule_37 : decode cX0_rule 37 = .ok (.bipush (-4), 2) := dk_16 252 (dk_at dksX0_rule_1 13 rfl rfl)
theorem dX0_rule_39 : decode cX0_rule 39 = .ok (.ireturn, 1) := dk_172 (dk_at dksX0_rule_1 15 rfl rfl)
theorem dX0_rule_40 : decode cX0_rule 40 = .ok (.aload_n 0, 1) := dk_42 (dk_at dksX0_rule_1 16 rfl rfl)
theorem dX0_rule_41 : decode cX0_rule 41 = .ok (.getfield 83, 3) := dk_180 0 83 (dk_at dksX0_rule_1 17 rfl rfl)
theorem dX0_rule_44 : decode cX0_rule 44 = .ok (.aload_n 0, 1) := dk_42 (dk_at dksX0_rule_1 20 rfl rfl)
theorem dX0_rule_45 : decode cX0_rule 45 = .ok (.iload_n 1, 1) := dk_27 (dk_at dksX0_rule_1 21 rfl rfl)
theorem dX0_rule_46 : decode cX0_rule 46 = .ok (.iload_n 2, 1) := dk_28 (dk_at dksX0_rule_1 22 rfl rfl)
theorem dX0_rule_47 : decode cX0_rule 47 = .ok (.invokevirtual 245, 3) := dk_182 0 245 (dk_at dksX0_rule_2 0 rfl rfl)
theorem dX0_rule_50 : decode cX0_rule 50 = .ok (.invokevirtual 105, 3) := dk_182 0 105 (dk_at dksX0_rule_2 3 rfl rfl)
theorem dX0_rule_53 : decode cX0_rule 53 = .ok (.pop, 1) := dk_87 (dk_at dksX0_rule_2 6 rfl rfl)
theorem dX0_rule_54 : decode cX0_rule 54 = .ok (.aload_n 0, 1) := dk_42 (dk_at dksX0_rule_2 7 rfl rfl)
theorem dX0_rule_55 : decode cX0_rule 55 = .ok (.getfield 83, 3) := dk_180 0 83 (dk_at dksX0_rule_2 8 rfl rfl)
theorem dX0_rule_58 : decode cX0_rule 58 = .ok (.invokevirtual 13, 3) := dk_182 0 13 (dk_at dksX0_rule_2 11 rfl rfl)
theorem dX0_rule_61 : decode cX0_rule 61 = .ok (.iconst 1, 1) := dk_4 (dk_at dksX0_rule_2 14 rfl rfl)
theorem dX0_rule_62 : decode cX0_rule 62 = .ok (.isub, 1) := dk_100 (dk_at dksX0_rule_2 15 rfl rfl)
theorem dX0_rule_63 : decode cX0_rule 63 = .ok (.ireturn, 1) := dk_172 (dk_at dksX0_rule_2 16 rfl rfl)
abbrev cX0_make : ByteArray := prog_1_method_26_code
def yX0_make : MethodName := ⟨RX0, "make", "(II)LFortyDays$Rule;"⟩
def dkwX0_make_4 : List UInt8 := [183, 0, 238, 176, 187, 0, 239, 89, 42, 28, 183, 0, 241, 176, 187, 0, 242, 89, 42, 28, 183, 0, 244, 176]
abbrev dktX0_make_4 : List UInt8 := dkwX0_make_4 ++ []
def dkwX0_make_3 : List UInt8 := [42, 28, 183, 0, 232, 176, 187, 0, 233, 89, 42, 28, 183, 0, 235, 176, 187, 0, 236, 89, 42, 28]
abbrev dktX0_make_3 : List UInt8 := dkwX0_make_3 ++ dktX0_make_4
def dkwX0_make_2 : List UInt8 := [187, 0, 220, 89, 42, 28, 183, 0, 224, 176, 187, 0, 227, 89, 42, 28, 183, 0, 229, 176, 187, 0, 230, 89]
abbrev dktX0_make_2 : List UInt8 := dkwX0_make_2 ++ dktX0_make_3
def dkwX0_make_1 : List UInt8 := [170, 0, 0, 0, 0, 0, 99, 0, 0, 0, 0, 0, 0, 0, 5, 0, 0, 0, 39, 0, 0, 0, 49, 0, 0, 0, 59, 0, 0, 0, 69, 0, 0, 0, 79, 0, 0, 0, 89]
abbrev dktX0_make_1 : List UInt8 := dkwX0_make_1 ++ dktX0_make_2
def dkwX0_make_0 : List UInt8 := [27]
abbrev dktX0_make_0 : List UInt8 := dkwX0_make_0 ++ dktX0_make_1
theorem dksX0_make_0 : cX0_make.data.toList.drop 0 = dktX0_make_0 := by decide +kernel
theorem dksX0_make_1 : cX0_make.data.toList.drop 1 = dktX0_make_1 := dk_seg dksX0_make_0 1 rfl rfl
theorem dksX0_make_2 : cX0_make.data.toList.drop 40 = dktX0_make_2 := dk_seg dksX0_make_1 39 rfl rfl
theorem dksX0_make_3 : cX0_make.data.toList.drop 64 = dktX0_make_3 := dk_seg dksX0_make_2 24 rfl rfl
theorem dksX0_make_4 : cX0_make.data.toList.drop 86 = dktX0_make_4 := dk_seg dksX0_make_3 22 rfl rfl
theorem dX0_make_0 : decode cX0_make 0 = .ok (.iload_n 1, 1) := dk_27 (dk_at dksX0_make_0 0 rfl rfl)
theorem dX0_make_1 : decode cX0_make 1 = .ok (.tableswitch 99 0 5 #[39, 49, 59, 69, 79, 89], 39) := by decide +kernel
theorem dX0_make_40 : decode cX0_make 40 = .ok (.new 220, 3) := dk_187 0 220 (dk_at dksX0_make_2 0 rfl rfl)
theorem dX0_make_43 : decode cX0_make 43 = .ok (.dup, 1) := dk_89 (dk_at dksX0_make_2 3 rfl rfl)
theorem dX0_make_44 : decode cX0_make 44 = .ok (.aload_n 0, 1) := dk_42 (dk_at dksX0_make_2 4 rfl rfl)
theorem dX0_make_45 : decode cX0_make 45 = .ok (.iload_n 2, 1) := dk_28 (dk_at dksX0_make_2 5 rfl rfl)
theorem dX0_make_46 : decode cX0_make 46 = .ok (.invokespecial 224, 3) := dk_183 0 224 (dk_at dksX0_make_2 6 rfl rfl)
theorem dX0_make_49 : decode cX0_make 49 = .ok (.areturn, 1) := dk_176 (dk_at dksX0_make_2 9 rfl rfl)
theorem dX0_make_50 : decode cX0_make 50 = .ok (.new 227, 3) := dk_187 0 227 (dk_at dksX0_make_2 10 rfl rfl)
theorem dX0_make_53 : decode cX0_make 53 = .ok (.dup, 1) := dk_89 (dk_at dksX0_make_2 13 rfl rfl)
theorem dX0_make_54 : decode cX0_make 54 = .ok (.aload_n 0, 1) := dk_42 (dk_at dksX0_make_2 14 rfl rfl)
theorem dX0_make_55 : decode cX0_make 55 = .ok (.iload_n 2, 1) := dk_28 (dk_at dksX0_make_2 15 rfl rfl)
theorem dX0_make_56 : decode cX0_make 56 = .ok (.invokespecial 229, 3) := dk_183 0 229 (dk_at dksX0_make_2 16 rfl rfl)
theorem dX0_make_59 : decode cX0_make 59 = .ok (.areturn, 1) := dk_176 (dk_at dksX0_make_2 19 rfl rfl)
theorem dX0_make_60 : decode cX0_make 60 = .ok (.new 230, 3) := dk_187 0 230 (dk_at dksX0_make_2 20 rfl rfl)
theorem dX0_make_63 : decode cX0_make 63 = .ok (.dup, 1) := dk_89 (dk_at dksX0_make_2 23 rfl rfl)
theorem dX0_make_64 : decode cX0_make 64 = .ok (.aload_n 0, 1) := dk_42 (dk_at dksX0_make_3 0 rfl rfl)
theorem dX0_make_65 : decode cX0_make 65 = .ok (.iload_n 2, 1) := dk_28 (dk_at dksX0_make_3 1 rfl rfl)
theorem dX0_make_66 : decode cX0_make 66 = .ok (.invokespecial 232, 3) := dk_183 0 232 (dk_at dksX0_make_3 2 rfl rfl)
theorem dX0_make_69 : decode cX0_make 69 = .ok (.areturn, 1) := dk_176 (dk_at dksX0_make_3 5 rfl rfl)
theorem dX0_make_70 : decode cX0_make 70 = .ok (.new 233, 3) := dk_187 0 233 (dk_at dksX0_make_3 6 rfl rfl)
theorem dX0_make_73 : decode cX0_make 73 = .ok (.dup, 1) := dk_89 (dk_at dksX0_make_3 9 rfl rfl)
theorem dX0_make_74 : decode cX0_make 74 = .ok (.aload_n 0, 1) := dk_42 (dk_at dksX0_make_3 10 rfl rfl)
theorem dX0_make_75 : decode cX0_make 75 = .ok (.iload_n 2, 1) := dk_28 (dk_at dksX0_make_3 11 rfl rfl)
theorem dX0_make_76 : decode cX0_make 76 = .ok (.invokespecial 235, 3) := dk_183 0 235 (dk_at dksX0_make_3 12 rfl rfl)
theorem dX0_make_79 : decode cX0_make 79 = .ok (.areturn, 1) := dk_176 (dk_at dksX0_make_3 15 rfl rfl)
theorem dX0_make_80 : decode cX0_make 80 = .ok (.new 236, 3) := dk_187 0 236 (dk_at dksX0_make_3 16 rfl rfl)
theorem dX0_make_83 : decode cX0_make 83 = .ok (.dup, 1) := dk_89 (dk_at dksX0_make_3 19 rfl rfl)
theorem dX0_make_84 : decode cX0_make 84 = .ok (.aload_n 0, 1) := dk_42 (dk_at dksX0_make_3 20 rfl rfl)
theorem dX0_make_85 : decode cX0_make 85 = .ok (.iload_n 2, 1) := dk_28 (dk_at dksX0_make_3 21 rfl rfl)
theorem dX0_make_86 : decode cX0_make 86 = .ok (.invokespecial 238, 3) := dk_183 0 238 (dk_at dksX0_make_4 0 rfl rfl)
theorem dX0_make_89 : decode cX0_make 89 = .ok (.areturn, 1) := dk_176 (dk_at dksX0_make_4 3 rfl rfl)
theorem dX0_make_90 : decode cX0_make 90 = .ok (.new 239, 3) := dk_187 0 239 (dk_at dksX0_make_4 4 rfl rfl)
theorem dX0_make_93 : decode cX0_make 93 = .ok (.dup, 1) := dk_89 (dk_at dksX0_make_4 7 rfl rfl)
theorem dX0_make_94 : decode cX0_make 94 = .ok (.aload_n 0, 1) := dk_42 (dk_at dksX0_make_4 8 rfl rfl)
theorem dX0_make_95 : decode cX0_make 95 = .ok (.iload_n 2, 1) := dk_28 (dk_at dksX0_make_4 9 rfl rfl)
theorem dX0_make_96 : decode cX0_make 96 = .ok (.invokespecial 241, 3) := dk_183 0 241 (dk_at dksX0_make_4 10 rfl rfl)
theorem dX0_make_99 : decode cX0_make 99 = .ok (.areturn, 1) := dk_176 (dk_at dksX0_make_4 13 rfl rfl)
theorem dX0_make_100 : decode cX0_make 100 = .ok (.new 242, 3) := dk_187 0 242 (dk_at dksX0_make_4 14 rfl rfl)
theorem dX0_make_103 : decode cX0_make 103 = .ok (.dup, 1) := dk_89 (dk_at dksX0_make_4 17 rfl rfl)
theorem dX0_make_104 : decode cX0_make 104 = .ok (.aload_n 0, 1) := dk_42 (dk_at dksX0_make_4 18 rfl rfl)
theorem dX0_make_105 : decode cX0_make 105 = .ok (.iload_n 2, 1) := dk_28 (dk_at dksX0_make_4 19 rfl rfl)
theorem dX0_make_106 : decode cX0_make 106 = .ok (.invokespecial 244, 3) := dk_183 0 244 (dk_at dksX0_make_4 20 rfl rfl)
theorem dX0_make_109 : decode cX0_make 109 = .ok (.areturn, 1) := dk_176 (dk_at dksX0_make_4 23 rfl rfl)
abbrev cX0_row : ByteArray := prog_1_method_28_code
def yX0_row : MethodName := ⟨RX0, "row", "(II)I"⟩
def dkwX0_row_3 : List UInt8 := [79, 25, 4, 180, 0, 253, 172]
abbrev dktX0_row_3 : List UInt8 := dkwX0_row_3 ++ []
def dkwX0_row_2 : List UInt8 := [160, 0, 6, 16, 252, 172, 25, 4, 180, 1, 0, 25, 4, 89, 180, 0, 253, 90, 4, 96, 181, 0, 253, 28]
abbrev dktX0_row_2 : List UInt8 := dkwX0_row_2 ++ dktX0_row_3
def dkwX0_row_1 : List UInt8 := [45, 193, 0, 239, 154, 0, 6, 16, 253, 172, 45, 192, 0, 239, 58, 4, 25, 4, 180, 0, 253, 16, 10]
abbrev dktX0_row_1 : List UInt8 := dkwX0_row_1 ++ dktX0_row_2
def dkwX0_row_0 : List UInt8 := [42, 27, 182, 0, 249, 78, 45, 199, 0, 5, 2, 172, 28, 3, 4, 184, 0, 5, 154, 0, 6, 16, 254, 172]
abbrev dktX0_row_0 : List UInt8 := dkwX0_row_0 ++ dktX0_row_1
theorem dksX0_row_0 : cX0_row.data.toList.drop 0 = dktX0_row_0 := by decide +kernel
theorem dksX0_row_1 : cX0_row.data.toList.drop 24 = dktX0_row_1 := dk_seg dksX0_row_0 24 rfl rfl
theorem dksX0_row_2 : cX0_row.data.toList.drop 47 = dktX0_row_2 := dk_seg dksX0_row_1 23 rfl rfl
theorem dksX0_row_3 : cX0_row.data.toList.drop 71 = dktX0_row_3 := dk_seg dksX0_row_2 24 rfl rfl
theorem dX0_row_0 : decode cX0_row 0 = .ok (.aload_n 0, 1) := dk_42 (dk_at dksX0_row_0 0 rfl rfl)
theorem dX0_row_1 : decode cX0_row 1 = .ok (.iload_n 1, 1) := dk_27 (dk_at dksX0_row_0 1 rfl rfl)
theorem dX0_row_2 : decode cX0_row 2 = .ok (.invokevirtual 249, 3) := dk_182 0 249 (dk_at dksX0_row_0 2 rfl rfl)
theorem dX0_row_5 : decode cX0_row 5 = .ok (.astore_n 3, 1) := dk_78 (dk_at dksX0_row_0 5 rfl rfl)
theorem dX0_row_6 : decode cX0_row 6 = .ok (.aload_n 3, 1) := dk_45 (dk_at dksX0_row_0 6 rfl rfl)
theorem dX0_row_7 : decode cX0_row 7 = .ok (.ifnonnull 5, 3) := dk_199 0 5 (dk_at dksX0_row_0 7 rfl rfl)
theorem dX0_row_10 : decode cX0_row 10 = .ok (.iconst (-1), 1) := dk_2 (dk_at dksX0_row_0 10 rfl rfl)
theorem dX0_row_11 : decode cX0_row 11 = .ok (.ireturn, 1) := dk_172 (dk_at dksX0_row_0 11 rfl rfl)
theorem dX0_row_12 : decode cX0_row 12 = .ok (.iload_n 2, 1) := dk_28 (dk_at dksX0_row_0 12 rfl rfl)
theorem dX0_row_13 : decode cX0_row 13 = .ok (.iconst 0, 1) := dk_3 (dk_at dksX0_row_0 13 rfl rfl)
theorem dX0_row_14 : decode cX0_row 14 = .ok (.iconst 1, 1) := dk_4 (dk_at dksX0_row_0 14 rfl rfl)
theorem dX0_row_15 : decode cX0_row 15 = .ok (.invokestatic 5, 3) := dk_184 0 5 (dk_at dksX0_row_0 15 rfl rfl)
theorem dX0_row_18 : decode cX0_row 18 = .ok (.ifCond .ne 6, 3) := dk_154 0 6 (dk_at dksX0_row_0 18 rfl rfl)
theorem dX0_row_21 : decode cX0_row 21 = .ok (.bipush (-2), 2) := dk_16 254 (dk_at dksX0_row_0 21 rfl rfl)
theorem dX0_row_23 : decode cX0_row 23 = .ok (.ireturn, 1) := dk_172 (dk_at dksX0_row_0 23 rfl rfl)
theorem dX0_row_24 : decode cX0_row 24 = .ok (.aload_n 3, 1) := dk_45 (dk_at dksX0_row_1 0 rfl rfl)
theorem dX0_row_25 : decode cX0_row 25 = .ok (.instanceof 239, 3) := dk_193 0 239 (dk_at dksX0_row_1 1 rfl rfl)
theorem dX0_row_28 : decode cX0_row 28 = .ok (.ifCond .ne 6, 3) := dk_154 0 6 (dk_at dksX0_row_1 4 rfl rfl)
theorem dX0_row_31 : decode cX0_row 31 = .ok (.bipush (-3), 2) := dk_16 253 (dk_at dksX0_row_1 7 rfl rfl)
theorem dX0_row_33 : decode cX0_row 33 = .ok (.ireturn, 1) := dk_172 (dk_at dksX0_row_1 9 rfl rfl)
theorem dX0_row_34 : decode cX0_row 34 = .ok (.aload_n 3, 1) := dk_45 (dk_at dksX0_row_1 10 rfl rfl)
theorem dX0_row_35 : decode cX0_row 35 = .ok (.checkcast 239, 3) := dk_192 0 239 (dk_at dksX0_row_1 11 rfl rfl)
theorem dX0_row_38 : decode cX0_row 38 = .ok (.astore 4, 2) := dk_58 4 (dk_at dksX0_row_1 14 rfl rfl)
theorem dX0_row_40 : decode cX0_row 40 = .ok (.aload 4, 2) := dk_25 4 (dk_at dksX0_row_1 16 rfl rfl)
theorem dX0_row_42 : decode cX0_row 42 = .ok (.getfield 253, 3) := dk_180 0 253 (dk_at dksX0_row_1 18 rfl rfl)
theorem dX0_row_45 : decode cX0_row 45 = .ok (.bipush 10, 2) := dk_16 10 (dk_at dksX0_row_1 21 rfl rfl)
theorem dX0_row_47 : decode cX0_row 47 = .ok (.if_icmp .ne 6, 3) := dk_160 0 6 (dk_at dksX0_row_2 0 rfl rfl)
theorem dX0_row_50 : decode cX0_row 50 = .ok (.bipush (-4), 2) := dk_16 252 (dk_at dksX0_row_2 3 rfl rfl)
theorem dX0_row_52 : decode cX0_row 52 = .ok (.ireturn, 1) := dk_172 (dk_at dksX0_row_2 5 rfl rfl)
theorem dX0_row_53 : decode cX0_row 53 = .ok (.aload 4, 2) := dk_25 4 (dk_at dksX0_row_2 6 rfl rfl)
theorem dX0_row_55 : decode cX0_row 55 = .ok (.getfield 256, 3) := dk_180 1 0 (dk_at dksX0_row_2 8 rfl rfl)
theorem dX0_row_58 : decode cX0_row 58 = .ok (.aload 4, 2) := dk_25 4 (dk_at dksX0_row_2 11 rfl rfl)
theorem dX0_row_60 : decode cX0_row 60 = .ok (.dup, 1) := dk_89 (dk_at dksX0_row_2 13 rfl rfl)
theorem dX0_row_61 : decode cX0_row 61 = .ok (.getfield 253, 3) := dk_180 0 253 (dk_at dksX0_row_2 14 rfl rfl)
theorem dX0_row_64 : decode cX0_row 64 = .ok (.dup_x1, 1) := dk_90 (dk_at dksX0_row_2 17 rfl rfl)
theorem dX0_row_65 : decode cX0_row 65 = .ok (.iconst 1, 1) := dk_4 (dk_at dksX0_row_2 18 rfl rfl)
theorem dX0_row_66 : decode cX0_row 66 = .ok (.iadd, 1) := dk_96 (dk_at dksX0_row_2 19 rfl rfl)
theorem dX0_row_67 : decode cX0_row 67 = .ok (.putfield 253, 3) := dk_181 0 253 (dk_at dksX0_row_2 20 rfl rfl)
theorem dX0_row_70 : decode cX0_row 70 = .ok (.iload_n 2, 1) := dk_28 (dk_at dksX0_row_2 23 rfl rfl)
theorem dX0_row_71 : decode cX0_row 71 = .ok (.iastore, 1) := dk_79 (dk_at dksX0_row_3 0 rfl rfl)
theorem dX0_row_72 : decode cX0_row 72 = .ok (.aload 4, 2) := dk_25 4 (dk_at dksX0_row_3 1 rfl rfl)
theorem dX0_row_74 : decode cX0_row 74 = .ok (.getfield 253, 3) := dk_180 0 253 (dk_at dksX0_row_3 3 rfl rfl)
theorem dX0_row_77 : decode cX0_row 77 = .ok (.ireturn, 1) := dk_172 (dk_at dksX0_row_3 6 rfl rfl)
abbrev cX0_ruleAt : ByteArray := prog_1_method_24_code
def yX0_ruleAt : MethodName := ⟨RX0, "ruleAt", "(I)LFortyDays$Rule;"⟩
def dkwX0_ruleAt_1 : List UInt8 := [182, 0, 19, 192, 0, 220, 176]
abbrev dktX0_ruleAt_1 : List UInt8 := dkwX0_ruleAt_1 ++ []
def dkwX0_ruleAt_0 : List UInt8 := [27, 155, 0, 14, 27, 42, 180, 0, 83, 182, 0, 13, 161, 0, 7, 1, 167, 0, 14, 42, 180, 0, 83, 27]
abbrev dktX0_ruleAt_0 : List UInt8 := dkwX0_ruleAt_0 ++ dktX0_ruleAt_1
theorem dksX0_ruleAt_0 : cX0_ruleAt.data.toList.drop 0 = dktX0_ruleAt_0 := by decide +kernel
theorem dksX0_ruleAt_1 : cX0_ruleAt.data.toList.drop 24 = dktX0_ruleAt_1 := dk_seg dksX0_ruleAt_0 24 rfl rfl
theorem dX0_ruleAt_0 : decode cX0_ruleAt 0 = .ok (.iload_n 1, 1) := dk_27 (dk_at dksX0_ruleAt_0 0 rfl rfl)
theorem dX0_ruleAt_1 : decode cX0_ruleAt 1 = .ok (.ifCond .lt 14, 3) := dk_155 0 14 (dk_at dksX0_ruleAt_0 1 rfl rfl)
theorem dX0_ruleAt_4 : decode cX0_ruleAt 4 = .ok (.iload_n 1, 1) := dk_27 (dk_at dksX0_ruleAt_0 4 rfl rfl)
theorem dX0_ruleAt_5 : decode cX0_ruleAt 5 = .ok (.aload_n 0, 1) := dk_42 (dk_at dksX0_ruleAt_0 5 rfl rfl)
theorem dX0_ruleAt_6 : decode cX0_ruleAt 6 = .ok (.getfield 83, 3) := dk_180 0 83 (dk_at dksX0_ruleAt_0 6 rfl rfl)
theorem dX0_ruleAt_9 : decode cX0_ruleAt 9 = .ok (.invokevirtual 13, 3) := dk_182 0 13 (dk_at dksX0_ruleAt_0 9 rfl rfl)
theorem dX0_ruleAt_12 : decode cX0_ruleAt 12 = .ok (.if_icmp .lt 7, 3) := dk_161 0 7 (dk_at dksX0_ruleAt_0 12 rfl rfl)
theorem dX0_ruleAt_15 : decode cX0_ruleAt 15 = .ok (.aconst_null, 1) := dk_1 (dk_at dksX0_ruleAt_0 15 rfl rfl)
theorem dX0_ruleAt_16 : decode cX0_ruleAt 16 = .ok (.goto 14, 3) := dk_167 0 14 (dk_at dksX0_ruleAt_0 16 rfl rfl)
theorem dX0_ruleAt_19 : decode cX0_ruleAt 19 = .ok (.aload_n 0, 1) := dk_42 (dk_at dksX0_ruleAt_0 19 rfl rfl)
theorem dX0_ruleAt_20 : decode cX0_ruleAt 20 = .ok (.getfield 83, 3) := dk_180 0 83 (dk_at dksX0_ruleAt_0 20 rfl rfl)
theorem dX0_ruleAt_23 : decode cX0_ruleAt 23 = .ok (.iload_n 1, 1) := dk_27 (dk_at dksX0_ruleAt_0 23 rfl rfl)
theorem dX0_ruleAt_24 : decode cX0_ruleAt 24 = .ok (.invokevirtual 19, 3) := dk_182 0 19 (dk_at dksX0_ruleAt_1 0 rfl rfl)
theorem dX0_ruleAt_27 : decode cX0_ruleAt 27 = .ok (.checkcast 220, 3) := dk_192 0 220 (dk_at dksX0_ruleAt_1 3 rfl rfl)
theorem dX0_ruleAt_30 : decode cX0_ruleAt 30 = .ok (.areturn, 1) := dk_176 (dk_at dksX0_ruleAt_1 6 rfl rfl)
abbrev cX0_lets : ByteArray := prog_1_method_29_code
def yX0_lets : MethodName := ⟨RX0, "lets", "(III)I"⟩
def dkwX0_lets_2 : List UInt8 := [182, 1, 3, 153, 0, 7, 4, 167, 0, 4, 3, 172]
abbrev dktX0_lets_2 : List UInt8 := dkwX0_lets_2 ++ []
def dkwX0_lets_1 : List UInt8 := [2, 172, 29, 3, 16, 20, 184, 0, 5, 154, 0, 6, 16, 254, 172, 25, 4, 25, 5, 180, 0, 141, 29]
abbrev dktX0_lets_1 : List UInt8 := dkwX0_lets_1 ++ dktX0_lets_2
def dkwX0_lets_0 : List UInt8 := [42, 27, 182, 0, 249, 58, 4, 42, 28, 182, 0, 137, 58, 5, 25, 4, 198, 0, 8, 25, 5, 199, 0, 5]
abbrev dktX0_lets_0 : List UInt8 := dkwX0_lets_0 ++ dktX0_lets_1
theorem dksX0_lets_0 : cX0_lets.data.toList.drop 0 = dktX0_lets_0 := by decide +kernel
theorem dksX0_lets_1 : cX0_lets.data.toList.drop 24 = dktX0_lets_1 := dk_seg dksX0_lets_0 24 rfl rfl
theorem dksX0_lets_2 : cX0_lets.data.toList.drop 47 = dktX0_lets_2 := dk_seg dksX0_lets_1 23 rfl rfl
theorem dX0_lets_0 : decode cX0_lets 0 = .ok (.aload_n 0, 1) := dk_42 (dk_at dksX0_lets_0 0 rfl rfl)
theorem dX0_lets_1 : decode cX0_lets 1 = .ok (.iload_n 1, 1) := dk_27 (dk_at dksX0_lets_0 1 rfl rfl)
theorem dX0_lets_2 : decode cX0_lets 2 = .ok (.invokevirtual 249, 3) := dk_182 0 249 (dk_at dksX0_lets_0 2 rfl rfl)
theorem dX0_lets_5 : decode cX0_lets 5 = .ok (.astore 4, 2) := dk_58 4 (dk_at dksX0_lets_0 5 rfl rfl)
theorem dX0_lets_7 : decode cX0_lets 7 = .ok (.aload_n 0, 1) := dk_42 (dk_at dksX0_lets_0 7 rfl rfl)
theorem dX0_lets_8 : decode cX0_lets 8 = .ok (.iload_n 2, 1) := dk_28 (dk_at dksX0_lets_0 8 rfl rfl)
theorem dX0_lets_9 : decode cX0_lets 9 = .ok (.invokevirtual 137, 3) := dk_182 0 137 (dk_at dksX0_lets_0 9 rfl rfl)
theorem dX0_lets_12 : decode cX0_lets 12 = .ok (.astore 5, 2) := dk_58 5 (dk_at dksX0_lets_0 12 rfl rfl)
theorem dX0_lets_14 : decode cX0_lets 14 = .ok (.aload 4, 2) := dk_25 4 (dk_at dksX0_lets_0 14 rfl rfl)
theorem dX0_lets_16 : decode cX0_lets 16 = .ok (.ifnull 8, 3) := dk_198 0 8 (dk_at dksX0_lets_0 16 rfl rfl)
theorem dX0_lets_19 : decode cX0_lets 19 = .ok (.aload 5, 2) := dk_25 5 (dk_at dksX0_lets_0 19 rfl rfl)
theorem dX0_lets_21 : decode cX0_lets 21 = .ok (.ifnonnull 5, 3) := dk_199 0 5 (dk_at dksX0_lets_0 21 rfl rfl)
theorem dX0_lets_24 : decode cX0_lets 24 = .ok (.iconst (-1), 1) := dk_2 (dk_at dksX0_lets_1 0 rfl rfl)
theorem dX0_lets_25 : decode cX0_lets 25 = .ok (.ireturn, 1) := dk_172 (dk_at dksX0_lets_1 1 rfl rfl)
theorem dX0_lets_26 : decode cX0_lets 26 = .ok (.iload_n 3, 1) := dk_29 (dk_at dksX0_lets_1 2 rfl rfl)
theorem dX0_lets_27 : decode cX0_lets 27 = .ok (.iconst 0, 1) := dk_3 (dk_at dksX0_lets_1 3 rfl rfl)
theorem dX0_lets_28 : decode cX0_lets 28 = .ok (.bipush 20, 2) := dk_16 20 (dk_at dksX0_lets_1 4 rfl rfl)
theorem dX0_lets_30 : decode cX0_lets 30 = .ok (.invokestatic 5, 3) := dk_184 0 5 (dk_at dksX0_lets_1 6 rfl rfl)
theorem dX0_lets_33 : decode cX0_lets 33 = .ok (.ifCond .ne 6, 3) := dk_154 0 6 (dk_at dksX0_lets_1 9 rfl rfl)
theorem dX0_lets_36 : decode cX0_lets 36 = .ok (.bipush (-2), 2) := dk_16 254 (dk_at dksX0_lets_1 12 rfl rfl)
theorem dX0_lets_38 : decode cX0_lets 38 = .ok (.ireturn, 1) := dk_172 (dk_at dksX0_lets_1 14 rfl rfl)
theorem dX0_lets_39 : decode cX0_lets 39 = .ok (.aload 4, 2) := dk_25 4 (dk_at dksX0_lets_1 15 rfl rfl)
theorem dX0_lets_41 : decode cX0_lets 41 = .ok (.aload 5, 2) := dk_25 5 (dk_at dksX0_lets_1 17 rfl rfl)
theorem dX0_lets_43 : decode cX0_lets 43 = .ok (.getfield 141, 3) := dk_180 0 141 (dk_at dksX0_lets_1 19 rfl rfl)
theorem dX0_lets_46 : decode cX0_lets 46 = .ok (.iload_n 3, 1) := dk_29 (dk_at dksX0_lets_1 22 rfl rfl)
theorem dX0_lets_47 : decode cX0_lets 47 = .ok (.invokevirtual 259, 3) := dk_182 1 3 (dk_at dksX0_lets_2 0 rfl rfl)
theorem dX0_lets_50 : decode cX0_lets 50 = .ok (.ifCond .eq 7, 3) := dk_153 0 7 (dk_at dksX0_lets_2 3 rfl rfl)
theorem dX0_lets_53 : decode cX0_lets 53 = .ok (.iconst 1, 1) := dk_4 (dk_at dksX0_lets_2 6 rfl rfl)
theorem dX0_lets_54 : decode cX0_lets 54 = .ok (.goto 4, 3) := dk_167 0 4 (dk_at dksX0_lets_2 7 rfl rfl)
theorem dX0_lets_57 : decode cX0_lets 57 = .ok (.iconst 0, 1) := dk_3 (dk_at dksX0_lets_2 10 rfl rfl)
theorem dX0_lets_58 : decode cX0_lets 58 = .ok (.ireturn, 1) := dk_172 (dk_at dksX0_lets_2 11 rfl rfl)
abbrev cX0_joint : ByteArray := prog_1_method_18_code
def yX0_joint : MethodName := ⟨RX0, "joint", "(JJI)J"⟩
def dkwX0_joint_0 : List UInt8 := [30, 18, 194, 21, 4, 100, 133, 105, 20, 0, 195, 109, 32, 21, 4, 133, 105, 20, 0, 195, 109, 97, 173]
abbrev dktX0_joint_0 : List UInt8 := dkwX0_joint_0 ++ []
theorem dksX0_joint_0 : cX0_joint.data.toList.drop 0 = dktX0_joint_0 := by decide +kernel
theorem dX0_joint_0 : decode cX0_joint 0 = .ok (.lload_n 0, 1) := dk_30 (dk_at dksX0_joint_0 0 rfl rfl)
theorem dX0_joint_1 : decode cX0_joint 1 = .ok (.ldc 194, 2) := dk_18 194 (dk_at dksX0_joint_0 1 rfl rfl)
theorem dX0_joint_3 : decode cX0_joint 3 = .ok (.iload 4, 2) := dk_21 4 (dk_at dksX0_joint_0 3 rfl rfl)
theorem dX0_joint_5 : decode cX0_joint 5 = .ok (.isub, 1) := dk_100 (dk_at dksX0_joint_0 5 rfl rfl)
theorem dX0_joint_6 : decode cX0_joint 6 = .ok (.i2l, 1) := dk_133 (dk_at dksX0_joint_0 6 rfl rfl)
theorem dX0_joint_7 : decode cX0_joint 7 = .ok (.lmul, 1) := dk_105 (dk_at dksX0_joint_0 7 rfl rfl)
theorem dX0_joint_8 : decode cX0_joint 8 = .ok (.ldc2_w 195, 3) := dk_20 0 195 (dk_at dksX0_joint_0 8 rfl rfl)
theorem dX0_joint_11 : decode cX0_joint 11 = .ok (.ldiv, 1) := dk_109 (dk_at dksX0_joint_0 11 rfl rfl)
theorem dX0_joint_12 : decode cX0_joint 12 = .ok (.lload_n 2, 1) := dk_32 (dk_at dksX0_joint_0 12 rfl rfl)
theorem dX0_joint_13 : decode cX0_joint 13 = .ok (.iload 4, 2) := dk_21 4 (dk_at dksX0_joint_0 13 rfl rfl)
theorem dX0_joint_15 : decode cX0_joint 15 = .ok (.i2l, 1) := dk_133 (dk_at dksX0_joint_0 15 rfl rfl)
theorem dX0_joint_16 : decode cX0_joint 16 = .ok (.lmul, 1) := dk_105 (dk_at dksX0_joint_0 16 rfl rfl)
theorem dX0_joint_17 : decode cX0_joint 17 = .ok (.ldc2_w 195, 3) := dk_20 0 195 (dk_at dksX0_joint_0 17 rfl rfl)
theorem dX0_joint_20 : decode cX0_joint 20 = .ok (.ldiv, 1) := dk_109 (dk_at dksX0_joint_0 20 rfl rfl)
theorem dX0_joint_21 : decode cX0_joint 21 = .ok (.ladd, 1) := dk_97 (dk_at dksX0_joint_0 21 rfl rfl)
theorem dX0_joint_22 : decode cX0_joint 22 = .ok (.lreturn, 1) := dk_173 (dk_at dksX0_joint_0 22 rfl rfl)
abbrev cX0_mean : ByteArray := prog_1_method_31_code
def yX0_mean : MethodName := ⟨RX0, "mean", "(II)J"⟩
def dkwX0_mean_1 : List UInt8 := [20, 0, 180, 167, 0, 13, 42, 45, 25, 4, 180, 0, 141, 182, 1, 17, 173]
abbrev dktX0_mean_1 : List UInt8 := dkwX0_mean_1 ++ []
def dkwX0_mean_0 : List UInt8 := [42, 27, 182, 0, 249, 78, 42, 28, 182, 0, 137, 58, 4, 45, 198, 0, 8, 25, 4, 199, 0, 9]
abbrev dktX0_mean_0 : List UInt8 := dkwX0_mean_0 ++ dktX0_mean_1
theorem dksX0_mean_0 : cX0_mean.data.toList.drop 0 = dktX0_mean_0 := by decide +kernel
theorem dksX0_mean_1 : cX0_mean.data.toList.drop 22 = dktX0_mean_1 := dk_seg dksX0_mean_0 22 rfl rfl
theorem dX0_mean_0 : decode cX0_mean 0 = .ok (.aload_n 0, 1) := dk_42 (dk_at dksX0_mean_0 0 rfl rfl)
theorem dX0_mean_1 : decode cX0_mean 1 = .ok (.iload_n 1, 1) := dk_27 (dk_at dksX0_mean_0 1 rfl rfl)
theorem dX0_mean_2 : decode cX0_mean 2 = .ok (.invokevirtual 249, 3) := dk_182 0 249 (dk_at dksX0_mean_0 2 rfl rfl)
theorem dX0_mean_5 : decode cX0_mean 5 = .ok (.astore_n 3, 1) := dk_78 (dk_at dksX0_mean_0 5 rfl rfl)
theorem dX0_mean_6 : decode cX0_mean 6 = .ok (.aload_n 0, 1) := dk_42 (dk_at dksX0_mean_0 6 rfl rfl)
theorem dX0_mean_7 : decode cX0_mean 7 = .ok (.iload_n 2, 1) := dk_28 (dk_at dksX0_mean_0 7 rfl rfl)
theorem dX0_mean_8 : decode cX0_mean 8 = .ok (.invokevirtual 137, 3) := dk_182 0 137 (dk_at dksX0_mean_0 8 rfl rfl)
theorem dX0_mean_11 : decode cX0_mean 11 = .ok (.astore 4, 2) := dk_58 4 (dk_at dksX0_mean_0 11 rfl rfl)
theorem dX0_mean_13 : decode cX0_mean 13 = .ok (.aload_n 3, 1) := dk_45 (dk_at dksX0_mean_0 13 rfl rfl)
theorem dX0_mean_14 : decode cX0_mean 14 = .ok (.ifnull 8, 3) := dk_198 0 8 (dk_at dksX0_mean_0 14 rfl rfl)
theorem dX0_mean_17 : decode cX0_mean 17 = .ok (.aload 4, 2) := dk_25 4 (dk_at dksX0_mean_0 17 rfl rfl)
theorem dX0_mean_19 : decode cX0_mean 19 = .ok (.ifnonnull 9, 3) := dk_199 0 9 (dk_at dksX0_mean_0 19 rfl rfl)
theorem dX0_mean_22 : decode cX0_mean 22 = .ok (.ldc2_w 180, 3) := dk_20 0 180 (dk_at dksX0_mean_1 0 rfl rfl)
theorem dX0_mean_25 : decode cX0_mean 25 = .ok (.goto 13, 3) := dk_167 0 13 (dk_at dksX0_mean_1 3 rfl rfl)
theorem dX0_mean_28 : decode cX0_mean 28 = .ok (.aload_n 0, 1) := dk_42 (dk_at dksX0_mean_1 6 rfl rfl)
theorem dX0_mean_29 : decode cX0_mean 29 = .ok (.aload_n 3, 1) := dk_45 (dk_at dksX0_mean_1 7 rfl rfl)
theorem dX0_mean_30 : decode cX0_mean 30 = .ok (.aload 4, 2) := dk_25 4 (dk_at dksX0_mean_1 8 rfl rfl)
theorem dX0_mean_32 : decode cX0_mean 32 = .ok (.getfield 141, 3) := dk_180 0 141 (dk_at dksX0_mean_1 10 rfl rfl)
theorem dX0_mean_35 : decode cX0_mean 35 = .ok (.invokevirtual 273, 3) := dk_182 1 17 (dk_at dksX0_mean_1 13 rfl rfl)
theorem dX0_mean_38 : decode cX0_mean 38 = .ok (.lreturn, 1) := dk_173 (dk_at dksX0_mean_1 16 rfl rfl)
abbrev cX0_meanOf : ByteArray := prog_1_method_30_code
def yX0_meanOf : MethodName := ⟨RX0, "meanOf", "(LFortyDays$Rule;LFortyDays$Thought;)J"⟩
def dkwX0_meanOf_1 : List UInt8 := [182, 1, 3, 154, 0, 9, 132, 3, 1, 167, 255, 233, 42, 29, 43, 29, 182, 1, 11, 182, 1, 14, 173]
abbrev dktX0_meanOf_1 : List UInt8 := dkwX0_meanOf_1 ++ []
def dkwX0_meanOf_0 : List UInt8 := [42, 44, 3, 182, 1, 7, 3, 62, 29, 16, 20, 162, 0, 23, 43, 42, 180, 0, 50, 29, 50, 29]
abbrev dktX0_meanOf_0 : List UInt8 := dkwX0_meanOf_0 ++ dktX0_meanOf_1
theorem dksX0_meanOf_0 : cX0_meanOf.data.toList.drop 0 = dktX0_meanOf_0 := by decide +kernel
theorem dksX0_meanOf_1 : cX0_meanOf.data.toList.drop 22 = dktX0_meanOf_1 := dk_seg dksX0_meanOf_0 22 rfl rfl
theorem dX0_meanOf_0 : decode cX0_meanOf 0 = .ok (.aload_n 0, 1) := dk_42 (dk_at dksX0_meanOf_0 0 rfl rfl)
theorem dX0_meanOf_1 : decode cX0_meanOf 1 = .ok (.aload_n 2, 1) := dk_44 (dk_at dksX0_meanOf_0 1 rfl rfl)
theorem dX0_meanOf_2 : decode cX0_meanOf 2 = .ok (.iconst 0, 1) := dk_3 (dk_at dksX0_meanOf_0 2 rfl rfl)
theorem dX0_meanOf_3 : decode cX0_meanOf 3 = .ok (.invokevirtual 263, 3) := dk_182 1 7 (dk_at dksX0_meanOf_0 3 rfl rfl)
theorem dX0_meanOf_6 : decode cX0_meanOf 6 = .ok (.iconst 0, 1) := dk_3 (dk_at dksX0_meanOf_0 6 rfl rfl)
theorem dX0_meanOf_7 : decode cX0_meanOf 7 = .ok (.istore_n 3, 1) := dk_62 (dk_at dksX0_meanOf_0 7 rfl rfl)
theorem dX0_meanOf_8 : decode cX0_meanOf 8 = .ok (.iload_n 3, 1) := dk_29 (dk_at dksX0_meanOf_0 8 rfl rfl)
theorem dX0_meanOf_9 : decode cX0_meanOf 9 = .ok (.bipush 20, 2) := dk_16 20 (dk_at dksX0_meanOf_0 9 rfl rfl)
theorem dX0_meanOf_11 : decode cX0_meanOf 11 = .ok (.if_icmp .ge 23, 3) := dk_162 0 23 (dk_at dksX0_meanOf_0 11 rfl rfl)
theorem dX0_meanOf_14 : decode cX0_meanOf 14 = .ok (.aload_n 1, 1) := dk_43 (dk_at dksX0_meanOf_0 14 rfl rfl)
theorem dX0_meanOf_15 : decode cX0_meanOf 15 = .ok (.aload_n 0, 1) := dk_42 (dk_at dksX0_meanOf_0 15 rfl rfl)
theorem dX0_meanOf_16 : decode cX0_meanOf 16 = .ok (.getfield 50, 3) := dk_180 0 50 (dk_at dksX0_meanOf_0 16 rfl rfl)
theorem dX0_meanOf_19 : decode cX0_meanOf 19 = .ok (.iload_n 3, 1) := dk_29 (dk_at dksX0_meanOf_0 19 rfl rfl)
theorem dX0_meanOf_20 : decode cX0_meanOf 20 = .ok (.aaload, 1) := dk_50 (dk_at dksX0_meanOf_0 20 rfl rfl)
theorem dX0_meanOf_21 : decode cX0_meanOf 21 = .ok (.iload_n 3, 1) := dk_29 (dk_at dksX0_meanOf_0 21 rfl rfl)
theorem dX0_meanOf_22 : decode cX0_meanOf 22 = .ok (.invokevirtual 259, 3) := dk_182 1 3 (dk_at dksX0_meanOf_1 0 rfl rfl)
theorem dX0_meanOf_25 : decode cX0_meanOf 25 = .ok (.ifCond .ne 9, 3) := dk_154 0 9 (dk_at dksX0_meanOf_1 3 rfl rfl)
theorem dX0_meanOf_28 : decode cX0_meanOf 28 = .ok (.iinc 3 1, 3) := dk_132 3 1 (dk_at dksX0_meanOf_1 6 rfl rfl)
theorem dX0_meanOf_31 : decode cX0_meanOf 31 = .ok (.goto (-23), 3) := dk_167 255 233 (dk_at dksX0_meanOf_1 9 rfl rfl)
theorem dX0_meanOf_34 : decode cX0_meanOf 34 = .ok (.aload_n 0, 1) := dk_42 (dk_at dksX0_meanOf_1 12 rfl rfl)
theorem dX0_meanOf_35 : decode cX0_meanOf 35 = .ok (.iload_n 3, 1) := dk_29 (dk_at dksX0_meanOf_1 13 rfl rfl)
theorem dX0_meanOf_36 : decode cX0_meanOf 36 = .ok (.aload_n 1, 1) := dk_43 (dk_at dksX0_meanOf_1 14 rfl rfl)
theorem dX0_meanOf_37 : decode cX0_meanOf 37 = .ok (.iload_n 3, 1) := dk_29 (dk_at dksX0_meanOf_1 15 rfl rfl)
theorem dX0_meanOf_38 : decode cX0_meanOf 38 = .ok (.invokevirtual 267, 3) := dk_182 1 11 (dk_at dksX0_meanOf_1 16 rfl rfl)
theorem dX0_meanOf_41 : decode cX0_meanOf 41 = .ok (.invokevirtual 270, 3) := dk_182 1 14 (dk_at dksX0_meanOf_1 19 rfl rfl)
theorem dX0_meanOf_44 : decode cX0_meanOf 44 = .ok (.lreturn, 1) := dk_173 (dk_at dksX0_meanOf_1 22 rfl rfl)
abbrev cX0_goForward : ByteArray := prog_1_method_17_code
def yX0_goForward : MethodName := ⟨RX0, "goForward", "(LFortyDays$Thought;I)V"⟩
def dkwX0_goForward_4 : List UInt8 := [29, 4, 96, 50, 180, 0, 174, 79, 132, 3, 1, 167, 255, 162, 177]
abbrev dktX0_goForward_4 : List UInt8 := dkwX0_goForward_4 ++ []
def dkwX0_goForward_3 : List UInt8 := [50, 182, 0, 186, 42, 180, 0, 50, 29, 4, 96, 50, 182, 0, 171, 42, 180, 0, 61, 29, 42, 180, 0, 50]
abbrev dktX0_goForward_3 : List UInt8 := dkwX0_goForward_3 ++ dktX0_goForward_4
def dkwX0_goForward_2 : List UInt8 := [182, 0, 182, 80, 29, 16, 20, 160, 0, 4, 177, 42, 180, 0, 50, 29, 4, 96, 50, 42, 180, 0, 50, 29]
abbrev dktX0_goForward_2 : List UInt8 := dkwX0_goForward_2 ++ dktX0_goForward_3
def dkwX0_goForward_1 : List UInt8 := [180, 0, 50, 29, 50, 28, 29, 96, 182, 0, 190, 80, 42, 180, 0, 58, 29, 42, 180, 0, 50, 29, 50]
abbrev dktX0_goForward_1 : List UInt8 := dkwX0_goForward_1 ++ dktX0_goForward_2
def dkwX0_goForward_0 : List UInt8 := [42, 180, 0, 50, 3, 50, 43, 182, 0, 186, 3, 62, 29, 16, 20, 163, 0, 94, 42, 180, 0, 54, 29, 42]
abbrev dktX0_goForward_0 : List UInt8 := dkwX0_goForward_0 ++ dktX0_goForward_1
theorem dksX0_goForward_0 : cX0_goForward.data.toList.drop 0 = dktX0_goForward_0 := by decide +kernel
theorem dksX0_goForward_1 : cX0_goForward.data.toList.drop 24 = dktX0_goForward_1 := dk_seg dksX0_goForward_0 24 rfl rfl
theorem dksX0_goForward_2 : cX0_goForward.data.toList.drop 47 = dktX0_goForward_2 := dk_seg dksX0_goForward_1 23 rfl rfl
theorem dksX0_goForward_3 : cX0_goForward.data.toList.drop 71 = dktX0_goForward_3 := dk_seg dksX0_goForward_2 24 rfl rfl
theorem dksX0_goForward_4 : cX0_goForward.data.toList.drop 95 = dktX0_goForward_4 := dk_seg dksX0_goForward_3 24 rfl rfl
theorem dX0_goForward_0 : decode cX0_goForward 0 = .ok (.aload_n 0, 1) := dk_42 (dk_at dksX0_goForward_0 0 rfl rfl)
theorem dX0_goForward_1 : decode cX0_goForward 1 = .ok (.getfield 50, 3) := dk_180 0 50 (dk_at dksX0_goForward_0 1 rfl rfl)
theorem dX0_goForward_4 : decode cX0_goForward 4 = .ok (.iconst 0, 1) := dk_3 (dk_at dksX0_goForward_0 4 rfl rfl)
theorem dX0_goForward_5 : decode cX0_goForward 5 = .ok (.aaload, 1) := dk_50 (dk_at dksX0_goForward_0 5 rfl rfl)
theorem dX0_goForward_6 : decode cX0_goForward 6 = .ok (.aload_n 1, 1) := dk_43 (dk_at dksX0_goForward_0 6 rfl rfl)
theorem dX0_goForward_7 : decode cX0_goForward 7 = .ok (.invokevirtual 186, 3) := dk_182 0 186 (dk_at dksX0_goForward_0 7 rfl rfl)
theorem dX0_goForward_10 : decode cX0_goForward 10 = .ok (.iconst 0, 1) := dk_3 (dk_at dksX0_goForward_0 10 rfl rfl)
theorem dX0_goForward_11 : decode cX0_goForward 11 = .ok (.istore_n 3, 1) := dk_62 (dk_at dksX0_goForward_0 11 rfl rfl)
theorem dX0_goForward_12 : decode cX0_goForward 12 = .ok (.iload_n 3, 1) := dk_29 (dk_at dksX0_goForward_0 12 rfl rfl)
theorem dX0_goForward_13 : decode cX0_goForward 13 = .ok (.bipush 20, 2) := dk_16 20 (dk_at dksX0_goForward_0 13 rfl rfl)
theorem dX0_goForward_15 : decode cX0_goForward 15 = .ok (.if_icmp .gt 94, 3) := dk_163 0 94 (dk_at dksX0_goForward_0 15 rfl rfl)
theorem dX0_goForward_18 : decode cX0_goForward 18 = .ok (.aload_n 0, 1) := dk_42 (dk_at dksX0_goForward_0 18 rfl rfl)
theorem dX0_goForward_19 : decode cX0_goForward 19 = .ok (.getfield 54, 3) := dk_180 0 54 (dk_at dksX0_goForward_0 19 rfl rfl)
theorem dX0_goForward_22 : decode cX0_goForward 22 = .ok (.iload_n 3, 1) := dk_29 (dk_at dksX0_goForward_0 22 rfl rfl)
theorem dX0_goForward_23 : decode cX0_goForward 23 = .ok (.aload_n 0, 1) := dk_42 (dk_at dksX0_goForward_0 23 rfl rfl)
theorem dX0_goForward_24 : decode cX0_goForward 24 = .ok (.getfield 50, 3) := dk_180 0 50 (dk_at dksX0_goForward_1 0 rfl rfl)
theorem dX0_goForward_27 : decode cX0_goForward 27 = .ok (.iload_n 3, 1) := dk_29 (dk_at dksX0_goForward_1 3 rfl rfl)
theorem dX0_goForward_28 : decode cX0_goForward 28 = .ok (.aaload, 1) := dk_50 (dk_at dksX0_goForward_1 4 rfl rfl)
theorem dX0_goForward_29 : decode cX0_goForward 29 = .ok (.iload_n 2, 1) := dk_28 (dk_at dksX0_goForward_1 5 rfl rfl)
theorem dX0_goForward_30 : decode cX0_goForward 30 = .ok (.iload_n 3, 1) := dk_29 (dk_at dksX0_goForward_1 6 rfl rfl)
theorem dX0_goForward_31 : decode cX0_goForward 31 = .ok (.iadd, 1) := dk_96 (dk_at dksX0_goForward_1 7 rfl rfl)
theorem dX0_goForward_32 : decode cX0_goForward 32 = .ok (.invokevirtual 190, 3) := dk_182 0 190 (dk_at dksX0_goForward_1 8 rfl rfl)
theorem dX0_goForward_35 : decode cX0_goForward 35 = .ok (.lastore, 1) := dk_80 (dk_at dksX0_goForward_1 11 rfl rfl)
theorem dX0_goForward_36 : decode cX0_goForward 36 = .ok (.aload_n 0, 1) := dk_42 (dk_at dksX0_goForward_1 12 rfl rfl)
theorem dX0_goForward_37 : decode cX0_goForward 37 = .ok (.getfield 58, 3) := dk_180 0 58 (dk_at dksX0_goForward_1 13 rfl rfl)
theorem dX0_goForward_40 : decode cX0_goForward 40 = .ok (.iload_n 3, 1) := dk_29 (dk_at dksX0_goForward_1 16 rfl rfl)
theorem dX0_goForward_41 : decode cX0_goForward 41 = .ok (.aload_n 0, 1) := dk_42 (dk_at dksX0_goForward_1 17 rfl rfl)
theorem dX0_goForward_42 : decode cX0_goForward 42 = .ok (.getfield 50, 3) := dk_180 0 50 (dk_at dksX0_goForward_1 18 rfl rfl)
theorem dX0_goForward_45 : decode cX0_goForward 45 = .ok (.iload_n 3, 1) := dk_29 (dk_at dksX0_goForward_1 21 rfl rfl)
theorem dX0_goForward_46 : decode cX0_goForward 46 = .ok (.aaload, 1) := dk_50 (dk_at dksX0_goForward_1 22 rfl rfl)
theorem dX0_goForward_47 : decode cX0_goForward 47 = .ok (.invokevirtual 182, 3) := dk_182 0 182 (dk_at dksX0_goForward_2 0 rfl rfl)
theorem dX0_goForward_50 : decode cX0_goForward 50 = .ok (.lastore, 1) := dk_80 (dk_at dksX0_goForward_2 3 rfl rfl)
theorem dX0_goForward_51 : decode cX0_goForward 51 = .ok (.iload_n 3, 1) := dk_29 (dk_at dksX0_goForward_2 4 rfl rfl)
theorem dX0_goForward_52 : decode cX0_goForward 52 = .ok (.bipush 20, 2) := dk_16 20 (dk_at dksX0_goForward_2 5 rfl rfl)
theorem dX0_goForward_54 : decode cX0_goForward 54 = .ok (.if_icmp .ne 4, 3) := dk_160 0 4 (dk_at dksX0_goForward_2 7 rfl rfl)
theorem dX0_goForward_57 : decode cX0_goForward 57 = .ok (.return_, 1) := dk_177 (dk_at dksX0_goForward_2 10 rfl rfl)
theorem dX0_goForward_58 : decode cX0_goForward 58 = .ok (.aload_n 0, 1) := dk_42 (dk_at dksX0_goForward_2 11 rfl rfl)
theorem dX0_goForward_59 : decode cX0_goForward 59 = .ok (.getfield 50, 3) := dk_180 0 50 (dk_at dksX0_goForward_2 12 rfl rfl)
theorem dX0_goForward_62 : decode cX0_goForward 62 = .ok (.iload_n 3, 1) := dk_29 (dk_at dksX0_goForward_2 15 rfl rfl)
theorem dX0_goForward_63 : decode cX0_goForward 63 = .ok (.iconst 1, 1) := dk_4 (dk_at dksX0_goForward_2 16 rfl rfl)
theorem dX0_goForward_64 : decode cX0_goForward 64 = .ok (.iadd, 1) := dk_96 (dk_at dksX0_goForward_2 17 rfl rfl)
theorem dX0_goForward_65 : decode cX0_goForward 65 = .ok (.aaload, 1) := dk_50 (dk_at dksX0_goForward_2 18 rfl rfl)
theorem dX0_goForward_66 : decode cX0_goForward 66 = .ok (.aload_n 0, 1) := dk_42 (dk_at dksX0_goForward_2 19 rfl rfl)
theorem dX0_goForward_67 : decode cX0_goForward 67 = .ok (.getfield 50, 3) := dk_180 0 50 (dk_at dksX0_goForward_2 20 rfl rfl)
theorem dX0_goForward_70 : decode cX0_goForward 70 = .ok (.iload_n 3, 1) := dk_29 (dk_at dksX0_goForward_2 23 rfl rfl)
theorem dX0_goForward_71 : decode cX0_goForward 71 = .ok (.aaload, 1) := dk_50 (dk_at dksX0_goForward_3 0 rfl rfl)
theorem dX0_goForward_72 : decode cX0_goForward 72 = .ok (.invokevirtual 186, 3) := dk_182 0 186 (dk_at dksX0_goForward_3 1 rfl rfl)
theorem dX0_goForward_75 : decode cX0_goForward 75 = .ok (.aload_n 0, 1) := dk_42 (dk_at dksX0_goForward_3 4 rfl rfl)
theorem dX0_goForward_76 : decode cX0_goForward 76 = .ok (.getfield 50, 3) := dk_180 0 50 (dk_at dksX0_goForward_3 5 rfl rfl)
theorem dX0_goForward_79 : decode cX0_goForward 79 = .ok (.iload_n 3, 1) := dk_29 (dk_at dksX0_goForward_3 8 rfl rfl)
theorem dX0_goForward_80 : decode cX0_goForward 80 = .ok (.iconst 1, 1) := dk_4 (dk_at dksX0_goForward_3 9 rfl rfl)
theorem dX0_goForward_81 : decode cX0_goForward 81 = .ok (.iadd, 1) := dk_96 (dk_at dksX0_goForward_3 10 rfl rfl)
theorem dX0_goForward_82 : decode cX0_goForward 82 = .ok (.aaload, 1) := dk_50 (dk_at dksX0_goForward_3 11 rfl rfl)
theorem dX0_goForward_83 : decode cX0_goForward 83 = .ok (.invokevirtual 171, 3) := dk_182 0 171 (dk_at dksX0_goForward_3 12 rfl rfl)
theorem dX0_goForward_86 : decode cX0_goForward 86 = .ok (.aload_n 0, 1) := dk_42 (dk_at dksX0_goForward_3 15 rfl rfl)
theorem dX0_goForward_87 : decode cX0_goForward 87 = .ok (.getfield 61, 3) := dk_180 0 61 (dk_at dksX0_goForward_3 16 rfl rfl)
theorem dX0_goForward_90 : decode cX0_goForward 90 = .ok (.iload_n 3, 1) := dk_29 (dk_at dksX0_goForward_3 19 rfl rfl)
theorem dX0_goForward_91 : decode cX0_goForward 91 = .ok (.aload_n 0, 1) := dk_42 (dk_at dksX0_goForward_3 20 rfl rfl)
theorem dX0_goForward_92 : decode cX0_goForward 92 = .ok (.getfield 50, 3) := dk_180 0 50 (dk_at dksX0_goForward_3 21 rfl rfl)
theorem dX0_goForward_95 : decode cX0_goForward 95 = .ok (.iload_n 3, 1) := dk_29 (dk_at dksX0_goForward_4 0 rfl rfl)
theorem dX0_goForward_96 : decode cX0_goForward 96 = .ok (.iconst 1, 1) := dk_4 (dk_at dksX0_goForward_4 1 rfl rfl)
theorem dX0_goForward_97 : decode cX0_goForward 97 = .ok (.iadd, 1) := dk_96 (dk_at dksX0_goForward_4 2 rfl rfl)
theorem dX0_goForward_98 : decode cX0_goForward 98 = .ok (.aaload, 1) := dk_50 (dk_at dksX0_goForward_4 3 rfl rfl)
theorem dX0_goForward_99 : decode cX0_goForward 99 = .ok (.getfield 174, 3) := dk_180 0 174 (dk_at dksX0_goForward_4 4 rfl rfl)
theorem dX0_goForward_102 : decode cX0_goForward 102 = .ok (.iastore, 1) := dk_79 (dk_at dksX0_goForward_4 7 rfl rfl)
theorem dX0_goForward_103 : decode cX0_goForward 103 = .ok (.iinc 3 1, 3) := dk_132 3 1 (dk_at dksX0_goForward_4 8 rfl rfl)
theorem dX0_goForward_106 : decode cX0_goForward 106 = .ok (.goto (-94), 3) := dk_167 255 162 (dk_at dksX0_goForward_4 11 rfl rfl)
theorem dX0_goForward_109 : decode cX0_goForward 109 = .ok (.return_, 1) := dk_177 (dk_at dksX0_goForward_4 14 rfl rfl)
abbrev cX0_lookOn : ByteArray := prog_1_method_25_code
def yX0_lookOn : MethodName := ⟨RX0, "lookOn", "(I)J"⟩
def dkwX0_lookOn_2 : List UInt8 := [180, 0, 54, 27, 47, 105, 42, 180, 0, 66, 180, 0, 174, 184, 0, 199, 97, 173]
abbrev dktX0_lookOn_2 : List UInt8 := dkwX0_lookOn_2 ++ []
def dkwX0_lookOn_1 : List UInt8 := [180, 0, 154, 180, 0, 121, 7, 46, 133, 20, 0, 222, 105, 42, 180, 0, 66, 182, 0, 182, 20, 0, 197, 42]
abbrev dktX0_lookOn_1 : List UInt8 := dkwX0_lookOn_1 ++ dktX0_lookOn_2
def dkwX0_lookOn_0 : List UInt8 := [42, 180, 0, 66, 42, 180, 0, 50, 27, 50, 182, 0, 186, 42, 180, 0, 66, 182, 0, 177, 42, 180, 0, 66]
abbrev dktX0_lookOn_0 : List UInt8 := dkwX0_lookOn_0 ++ dktX0_lookOn_1
theorem dksX0_lookOn_0 : cX0_lookOn.data.toList.drop 0 = dktX0_lookOn_0 := by decide +kernel
theorem dksX0_lookOn_1 : cX0_lookOn.data.toList.drop 24 = dktX0_lookOn_1 := dk_seg dksX0_lookOn_0 24 rfl rfl
theorem dksX0_lookOn_2 : cX0_lookOn.data.toList.drop 48 = dktX0_lookOn_2 := dk_seg dksX0_lookOn_1 24 rfl rfl
theorem dX0_lookOn_0 : decode cX0_lookOn 0 = .ok (.aload_n 0, 1) := dk_42 (dk_at dksX0_lookOn_0 0 rfl rfl)
theorem dX0_lookOn_1 : decode cX0_lookOn 1 = .ok (.getfield 66, 3) := dk_180 0 66 (dk_at dksX0_lookOn_0 1 rfl rfl)
theorem dX0_lookOn_4 : decode cX0_lookOn 4 = .ok (.aload_n 0, 1) := dk_42 (dk_at dksX0_lookOn_0 4 rfl rfl)
theorem dX0_lookOn_5 : decode cX0_lookOn 5 = .ok (.getfield 50, 3) := dk_180 0 50 (dk_at dksX0_lookOn_0 5 rfl rfl)
theorem dX0_lookOn_8 : decode cX0_lookOn 8 = .ok (.iload_n 1, 1) := dk_27 (dk_at dksX0_lookOn_0 8 rfl rfl)
theorem dX0_lookOn_9 : decode cX0_lookOn 9 = .ok (.aaload, 1) := dk_50 (dk_at dksX0_lookOn_0 9 rfl rfl)
theorem dX0_lookOn_10 : decode cX0_lookOn 10 = .ok (.invokevirtual 186, 3) := dk_182 0 186 (dk_at dksX0_lookOn_0 10 rfl rfl)
theorem dX0_lookOn_13 : decode cX0_lookOn 13 = .ok (.aload_n 0, 1) := dk_42 (dk_at dksX0_lookOn_0 13 rfl rfl)
theorem dX0_lookOn_14 : decode cX0_lookOn 14 = .ok (.getfield 66, 3) := dk_180 0 66 (dk_at dksX0_lookOn_0 14 rfl rfl)
theorem dX0_lookOn_17 : decode cX0_lookOn 17 = .ok (.invokevirtual 177, 3) := dk_182 0 177 (dk_at dksX0_lookOn_0 17 rfl rfl)
theorem dX0_lookOn_20 : decode cX0_lookOn 20 = .ok (.aload_n 0, 1) := dk_42 (dk_at dksX0_lookOn_0 20 rfl rfl)
theorem dX0_lookOn_21 : decode cX0_lookOn 21 = .ok (.getfield 66, 3) := dk_180 0 66 (dk_at dksX0_lookOn_0 21 rfl rfl)
theorem dX0_lookOn_24 : decode cX0_lookOn 24 = .ok (.getfield 154, 3) := dk_180 0 154 (dk_at dksX0_lookOn_1 0 rfl rfl)
theorem dX0_lookOn_27 : decode cX0_lookOn 27 = .ok (.getfield 121, 3) := dk_180 0 121 (dk_at dksX0_lookOn_1 3 rfl rfl)
theorem dX0_lookOn_30 : decode cX0_lookOn 30 = .ok (.iconst 4, 1) := dk_7 (dk_at dksX0_lookOn_1 6 rfl rfl)
theorem dX0_lookOn_31 : decode cX0_lookOn 31 = .ok (.iaload, 1) := dk_46 (dk_at dksX0_lookOn_1 7 rfl rfl)
theorem dX0_lookOn_32 : decode cX0_lookOn 32 = .ok (.i2l, 1) := dk_133 (dk_at dksX0_lookOn_1 8 rfl rfl)
theorem dX0_lookOn_33 : decode cX0_lookOn 33 = .ok (.ldc2_w 222, 3) := dk_20 0 222 (dk_at dksX0_lookOn_1 9 rfl rfl)
theorem dX0_lookOn_36 : decode cX0_lookOn 36 = .ok (.lmul, 1) := dk_105 (dk_at dksX0_lookOn_1 12 rfl rfl)
theorem dX0_lookOn_37 : decode cX0_lookOn 37 = .ok (.aload_n 0, 1) := dk_42 (dk_at dksX0_lookOn_1 13 rfl rfl)
theorem dX0_lookOn_38 : decode cX0_lookOn 38 = .ok (.getfield 66, 3) := dk_180 0 66 (dk_at dksX0_lookOn_1 14 rfl rfl)
theorem dX0_lookOn_41 : decode cX0_lookOn 41 = .ok (.invokevirtual 182, 3) := dk_182 0 182 (dk_at dksX0_lookOn_1 17 rfl rfl)
theorem dX0_lookOn_44 : decode cX0_lookOn 44 = .ok (.ldc2_w 197, 3) := dk_20 0 197 (dk_at dksX0_lookOn_1 20 rfl rfl)
theorem dX0_lookOn_47 : decode cX0_lookOn 47 = .ok (.aload_n 0, 1) := dk_42 (dk_at dksX0_lookOn_1 23 rfl rfl)
theorem dX0_lookOn_48 : decode cX0_lookOn 48 = .ok (.getfield 54, 3) := dk_180 0 54 (dk_at dksX0_lookOn_2 0 rfl rfl)
theorem dX0_lookOn_51 : decode cX0_lookOn 51 = .ok (.iload_n 1, 1) := dk_27 (dk_at dksX0_lookOn_2 3 rfl rfl)
theorem dX0_lookOn_52 : decode cX0_lookOn 52 = .ok (.laload, 1) := dk_47 (dk_at dksX0_lookOn_2 4 rfl rfl)
theorem dX0_lookOn_53 : decode cX0_lookOn 53 = .ok (.lmul, 1) := dk_105 (dk_at dksX0_lookOn_2 5 rfl rfl)
theorem dX0_lookOn_54 : decode cX0_lookOn 54 = .ok (.aload_n 0, 1) := dk_42 (dk_at dksX0_lookOn_2 6 rfl rfl)
theorem dX0_lookOn_55 : decode cX0_lookOn 55 = .ok (.getfield 66, 3) := dk_180 0 66 (dk_at dksX0_lookOn_2 7 rfl rfl)
theorem dX0_lookOn_58 : decode cX0_lookOn 58 = .ok (.getfield 174, 3) := dk_180 0 174 (dk_at dksX0_lookOn_2 10 rfl rfl)
theorem dX0_lookOn_61 : decode cX0_lookOn 61 = .ok (.invokestatic 199, 3) := dk_184 0 199 (dk_at dksX0_lookOn_2 13 rfl rfl)
theorem dX0_lookOn_64 : decode cX0_lookOn 64 = .ok (.ladd, 1) := dk_97 (dk_at dksX0_lookOn_2 16 rfl rfl)
theorem dX0_lookOn_65 : decode cX0_lookOn 65 = .ok (.lreturn, 1) := dk_173 (dk_at dksX0_lookOn_2 17 rfl rfl)
abbrev cX0_fold : ByteArray := prog_1_method_20_code
def yX0_fold : MethodName := ⟨RX0, "fold", "(IJ)J"⟩
def dkwX0_fold_1 : List UInt8 := [132, 6, 255, 167, 255, 238, 22, 4, 173]
abbrev dktX0_fold_1 : List UInt8 := dkwX0_fold_1 ++ []
def dkwX0_fold_0 : List UInt8 := [32, 55, 4, 27, 4, 100, 54, 6, 21, 6, 155, 0, 19, 42, 21, 6, 22, 4, 182, 0, 203, 55, 4]
abbrev dktX0_fold_0 : List UInt8 := dkwX0_fold_0 ++ dktX0_fold_1
theorem dksX0_fold_0 : cX0_fold.data.toList.drop 0 = dktX0_fold_0 := by decide +kernel
theorem dksX0_fold_1 : cX0_fold.data.toList.drop 23 = dktX0_fold_1 := dk_seg dksX0_fold_0 23 rfl rfl
theorem dX0_fold_0 : decode cX0_fold 0 = .ok (.lload_n 2, 1) := dk_32 (dk_at dksX0_fold_0 0 rfl rfl)
theorem dX0_fold_1 : decode cX0_fold 1 = .ok (.lstore 4, 2) := dk_55 4 (dk_at dksX0_fold_0 1 rfl rfl)
theorem dX0_fold_3 : decode cX0_fold 3 = .ok (.iload_n 1, 1) := dk_27 (dk_at dksX0_fold_0 3 rfl rfl)
theorem dX0_fold_4 : decode cX0_fold 4 = .ok (.iconst 1, 1) := dk_4 (dk_at dksX0_fold_0 4 rfl rfl)
theorem dX0_fold_5 : decode cX0_fold 5 = .ok (.isub, 1) := dk_100 (dk_at dksX0_fold_0 5 rfl rfl)
theorem dX0_fold_6 : decode cX0_fold 6 = .ok (.istore 6, 2) := dk_54 6 (dk_at dksX0_fold_0 6 rfl rfl)
theorem dX0_fold_8 : decode cX0_fold 8 = .ok (.iload 6, 2) := dk_21 6 (dk_at dksX0_fold_0 8 rfl rfl)
theorem dX0_fold_10 : decode cX0_fold 10 = .ok (.ifCond .lt 19, 3) := dk_155 0 19 (dk_at dksX0_fold_0 10 rfl rfl)
theorem dX0_fold_13 : decode cX0_fold 13 = .ok (.aload_n 0, 1) := dk_42 (dk_at dksX0_fold_0 13 rfl rfl)
theorem dX0_fold_14 : decode cX0_fold 14 = .ok (.iload 6, 2) := dk_21 6 (dk_at dksX0_fold_0 14 rfl rfl)
theorem dX0_fold_16 : decode cX0_fold 16 = .ok (.lload 4, 2) := dk_22 4 (dk_at dksX0_fold_0 16 rfl rfl)
theorem dX0_fold_18 : decode cX0_fold 18 = .ok (.invokevirtual 203, 3) := dk_182 0 203 (dk_at dksX0_fold_0 18 rfl rfl)
theorem dX0_fold_21 : decode cX0_fold 21 = .ok (.lstore 4, 2) := dk_55 4 (dk_at dksX0_fold_0 21 rfl rfl)
theorem dX0_fold_23 : decode cX0_fold 23 = .ok (.iinc 6 (-1), 3) := dk_132 6 255 (dk_at dksX0_fold_1 0 rfl rfl)
theorem dX0_fold_26 : decode cX0_fold 26 = .ok (.goto (-18), 3) := dk_167 255 238 (dk_at dksX0_fold_1 3 rfl rfl)
theorem dX0_fold_29 : decode cX0_fold 29 = .ok (.lload 4, 2) := dk_22 4 (dk_at dksX0_fold_1 6 rfl rfl)
theorem dX0_fold_31 : decode cX0_fold 31 = .ok (.lreturn, 1) := dk_173 (dk_at dksX0_fold_1 8 rfl rfl)
abbrev cX0_held : ByteArray := prog_1_method_19_code
def yX0_held : MethodName := ⟨RX0, "held", "(IJ)J"⟩
def dkwX0_held_1 : List UInt8 := [184, 0, 199, 97, 173]
abbrev dktX0_held_1 : List UInt8 := dkwX0_held_1 ++ []
def dkwX0_held_0 : List UInt8 := [42, 180, 0, 54, 27, 47, 32, 20, 0, 197, 42, 180, 0, 54, 27, 47, 105, 42, 180, 0, 61, 27, 46]
abbrev dktX0_held_0 : List UInt8 := dkwX0_held_0 ++ dktX0_held_1
theorem dksX0_held_0 : cX0_held.data.toList.drop 0 = dktX0_held_0 := by decide +kernel
theorem dksX0_held_1 : cX0_held.data.toList.drop 23 = dktX0_held_1 := dk_seg dksX0_held_0 23 rfl rfl
theorem dX0_held_0 : decode cX0_held 0 = .ok (.aload_n 0, 1) := dk_42 (dk_at dksX0_held_0 0 rfl rfl)
theorem dX0_held_1 : decode cX0_held 1 = .ok (.getfield 54, 3) := dk_180 0 54 (dk_at dksX0_held_0 1 rfl rfl)
theorem dX0_held_4 : decode cX0_held 4 = .ok (.iload_n 1, 1) := dk_27 (dk_at dksX0_held_0 4 rfl rfl)
theorem dX0_held_5 : decode cX0_held 5 = .ok (.laload, 1) := dk_47 (dk_at dksX0_held_0 5 rfl rfl)
theorem dX0_held_6 : decode cX0_held 6 = .ok (.lload_n 2, 1) := dk_32 (dk_at dksX0_held_0 6 rfl rfl)
theorem dX0_held_7 : decode cX0_held 7 = .ok (.ldc2_w 197, 3) := dk_20 0 197 (dk_at dksX0_held_0 7 rfl rfl)
theorem dX0_held_10 : decode cX0_held 10 = .ok (.aload_n 0, 1) := dk_42 (dk_at dksX0_held_0 10 rfl rfl)
theorem dX0_held_11 : decode cX0_held 11 = .ok (.getfield 54, 3) := dk_180 0 54 (dk_at dksX0_held_0 11 rfl rfl)
theorem dX0_held_14 : decode cX0_held 14 = .ok (.iload_n 1, 1) := dk_27 (dk_at dksX0_held_0 14 rfl rfl)
theorem dX0_held_15 : decode cX0_held 15 = .ok (.laload, 1) := dk_47 (dk_at dksX0_held_0 15 rfl rfl)
theorem dX0_held_16 : decode cX0_held 16 = .ok (.lmul, 1) := dk_105 (dk_at dksX0_held_0 16 rfl rfl)
theorem dX0_held_17 : decode cX0_held 17 = .ok (.aload_n 0, 1) := dk_42 (dk_at dksX0_held_0 17 rfl rfl)
theorem dX0_held_18 : decode cX0_held 18 = .ok (.getfield 61, 3) := dk_180 0 61 (dk_at dksX0_held_0 18 rfl rfl)
theorem dX0_held_21 : decode cX0_held 21 = .ok (.iload_n 1, 1) := dk_27 (dk_at dksX0_held_0 21 rfl rfl)
theorem dX0_held_22 : decode cX0_held 22 = .ok (.iaload, 1) := dk_46 (dk_at dksX0_held_0 22 rfl rfl)
theorem dX0_held_23 : decode cX0_held 23 = .ok (.invokestatic 199, 3) := dk_184 0 199 (dk_at dksX0_held_1 0 rfl rfl)
theorem dX0_held_26 : decode cX0_held 26 = .ok (.ladd, 1) := dk_97 (dk_at dksX0_held_1 3 rfl rfl)
theorem dX0_held_27 : decode cX0_held 27 = .ok (.lreturn, 1) := dk_173 (dk_at dksX0_held_1 4 rfl rfl)
abbrev cX0_best : ByteArray := prog_1_method_32_code
def yX0_best : MethodName := ⟨RX0, "best", "(IIII)J"⟩
def dkwX0_best_3 : List UInt8 := [3, 28, 182, 1, 21, 153, 0, 7, 10, 167, 0, 4, 9, 173]
abbrev dktX0_best_3 : List UInt8 := dkwX0_best_3 ++ []
def dkwX0_best_2 : List UInt8 := [25, 5, 180, 0, 141, 29, 182, 1, 7, 21, 4, 154, 0, 12, 42, 3, 28, 182, 0, 213, 167, 0, 17, 42]
abbrev dktX0_best_2 : List UInt8 := dkwX0_best_2 ++ dktX0_best_3
def dkwX0_best_1 : List UInt8 := [16, 20, 184, 0, 5, 153, 0, 13, 21, 4, 3, 4, 184, 0, 5, 154, 0, 7, 20, 0, 180, 173, 42]
abbrev dktX0_best_1 : List UInt8 := dkwX0_best_1 ++ dktX0_best_2
def dkwX0_best_0 : List UInt8 := [42, 27, 182, 0, 137, 58, 5, 25, 5, 198, 0, 33, 28, 3, 16, 9, 184, 0, 5, 153, 0, 23, 29, 3]
abbrev dktX0_best_0 : List UInt8 := dkwX0_best_0 ++ dktX0_best_1
theorem dksX0_best_0 : cX0_best.data.toList.drop 0 = dktX0_best_0 := by decide +kernel
theorem dksX0_best_1 : cX0_best.data.toList.drop 24 = dktX0_best_1 := dk_seg dksX0_best_0 24 rfl rfl
theorem dksX0_best_2 : cX0_best.data.toList.drop 47 = dktX0_best_2 := dk_seg dksX0_best_1 23 rfl rfl
theorem dksX0_best_3 : cX0_best.data.toList.drop 71 = dktX0_best_3 := dk_seg dksX0_best_2 24 rfl rfl
theorem dX0_best_0 : decode cX0_best 0 = .ok (.aload_n 0, 1) := dk_42 (dk_at dksX0_best_0 0 rfl rfl)
theorem dX0_best_1 : decode cX0_best 1 = .ok (.iload_n 1, 1) := dk_27 (dk_at dksX0_best_0 1 rfl rfl)
theorem dX0_best_2 : decode cX0_best 2 = .ok (.invokevirtual 137, 3) := dk_182 0 137 (dk_at dksX0_best_0 2 rfl rfl)
theorem dX0_best_5 : decode cX0_best 5 = .ok (.astore 5, 2) := dk_58 5 (dk_at dksX0_best_0 5 rfl rfl)
theorem dX0_best_7 : decode cX0_best 7 = .ok (.aload 5, 2) := dk_25 5 (dk_at dksX0_best_0 7 rfl rfl)
theorem dX0_best_9 : decode cX0_best 9 = .ok (.ifnull 33, 3) := dk_198 0 33 (dk_at dksX0_best_0 9 rfl rfl)
theorem dX0_best_12 : decode cX0_best 12 = .ok (.iload_n 2, 1) := dk_28 (dk_at dksX0_best_0 12 rfl rfl)
theorem dX0_best_13 : decode cX0_best 13 = .ok (.iconst 0, 1) := dk_3 (dk_at dksX0_best_0 13 rfl rfl)
theorem dX0_best_14 : decode cX0_best 14 = .ok (.bipush 9, 2) := dk_16 9 (dk_at dksX0_best_0 14 rfl rfl)
theorem dX0_best_16 : decode cX0_best 16 = .ok (.invokestatic 5, 3) := dk_184 0 5 (dk_at dksX0_best_0 16 rfl rfl)
theorem dX0_best_19 : decode cX0_best 19 = .ok (.ifCond .eq 23, 3) := dk_153 0 23 (dk_at dksX0_best_0 19 rfl rfl)
theorem dX0_best_22 : decode cX0_best 22 = .ok (.iload_n 3, 1) := dk_29 (dk_at dksX0_best_0 22 rfl rfl)
theorem dX0_best_23 : decode cX0_best 23 = .ok (.iconst 0, 1) := dk_3 (dk_at dksX0_best_0 23 rfl rfl)
theorem dX0_best_24 : decode cX0_best 24 = .ok (.bipush 20, 2) := dk_16 20 (dk_at dksX0_best_1 0 rfl rfl)
theorem dX0_best_26 : decode cX0_best 26 = .ok (.invokestatic 5, 3) := dk_184 0 5 (dk_at dksX0_best_1 2 rfl rfl)
theorem dX0_best_29 : decode cX0_best 29 = .ok (.ifCond .eq 13, 3) := dk_153 0 13 (dk_at dksX0_best_1 5 rfl rfl)
theorem dX0_best_32 : decode cX0_best 32 = .ok (.iload 4, 2) := dk_21 4 (dk_at dksX0_best_1 8 rfl rfl)
theorem dX0_best_34 : decode cX0_best 34 = .ok (.iconst 0, 1) := dk_3 (dk_at dksX0_best_1 10 rfl rfl)
theorem dX0_best_35 : decode cX0_best 35 = .ok (.iconst 1, 1) := dk_4 (dk_at dksX0_best_1 11 rfl rfl)
theorem dX0_best_36 : decode cX0_best 36 = .ok (.invokestatic 5, 3) := dk_184 0 5 (dk_at dksX0_best_1 12 rfl rfl)
theorem dX0_best_39 : decode cX0_best 39 = .ok (.ifCond .ne 7, 3) := dk_154 0 7 (dk_at dksX0_best_1 15 rfl rfl)
theorem dX0_best_42 : decode cX0_best 42 = .ok (.ldc2_w 180, 3) := dk_20 0 180 (dk_at dksX0_best_1 18 rfl rfl)
theorem dX0_best_45 : decode cX0_best 45 = .ok (.lreturn, 1) := dk_173 (dk_at dksX0_best_1 21 rfl rfl)
theorem dX0_best_46 : decode cX0_best 46 = .ok (.aload_n 0, 1) := dk_42 (dk_at dksX0_best_1 22 rfl rfl)
theorem dX0_best_47 : decode cX0_best 47 = .ok (.aload 5, 2) := dk_25 5 (dk_at dksX0_best_2 0 rfl rfl)
theorem dX0_best_49 : decode cX0_best 49 = .ok (.getfield 141, 3) := dk_180 0 141 (dk_at dksX0_best_2 2 rfl rfl)
theorem dX0_best_52 : decode cX0_best 52 = .ok (.iload_n 3, 1) := dk_29 (dk_at dksX0_best_2 5 rfl rfl)
theorem dX0_best_53 : decode cX0_best 53 = .ok (.invokevirtual 263, 3) := dk_182 1 7 (dk_at dksX0_best_2 6 rfl rfl)
theorem dX0_best_56 : decode cX0_best 56 = .ok (.iload 4, 2) := dk_21 4 (dk_at dksX0_best_2 9 rfl rfl)
theorem dX0_best_58 : decode cX0_best 58 = .ok (.ifCond .ne 12, 3) := dk_154 0 12 (dk_at dksX0_best_2 11 rfl rfl)
theorem dX0_best_61 : decode cX0_best 61 = .ok (.aload_n 0, 1) := dk_42 (dk_at dksX0_best_2 14 rfl rfl)
theorem dX0_best_62 : decode cX0_best 62 = .ok (.iconst 0, 1) := dk_3 (dk_at dksX0_best_2 15 rfl rfl)
theorem dX0_best_63 : decode cX0_best 63 = .ok (.iload_n 2, 1) := dk_28 (dk_at dksX0_best_2 16 rfl rfl)
theorem dX0_best_64 : decode cX0_best 64 = .ok (.invokevirtual 213, 3) := dk_182 0 213 (dk_at dksX0_best_2 17 rfl rfl)
theorem dX0_best_67 : decode cX0_best 67 = .ok (.goto 17, 3) := dk_167 0 17 (dk_at dksX0_best_2 20 rfl rfl)
theorem dX0_best_70 : decode cX0_best 70 = .ok (.aload_n 0, 1) := dk_42 (dk_at dksX0_best_2 23 rfl rfl)
theorem dX0_best_71 : decode cX0_best 71 = .ok (.iconst 0, 1) := dk_3 (dk_at dksX0_best_3 0 rfl rfl)
theorem dX0_best_72 : decode cX0_best 72 = .ok (.iload_n 2, 1) := dk_28 (dk_at dksX0_best_3 1 rfl rfl)
theorem dX0_best_73 : decode cX0_best 73 = .ok (.invokevirtual 277, 3) := dk_182 1 21 (dk_at dksX0_best_3 2 rfl rfl)
theorem dX0_best_76 : decode cX0_best 76 = .ok (.ifCond .eq 7, 3) := dk_153 0 7 (dk_at dksX0_best_3 5 rfl rfl)
theorem dX0_best_79 : decode cX0_best 79 = .ok (.lconst 1, 1) := dk_10 (dk_at dksX0_best_3 8 rfl rfl)
theorem dX0_best_80 : decode cX0_best 80 = .ok (.goto 4, 3) := dk_167 0 4 (dk_at dksX0_best_3 9 rfl rfl)
theorem dX0_best_83 : decode cX0_best 83 = .ok (.lconst 0, 1) := dk_9 (dk_at dksX0_best_3 12 rfl rfl)
theorem dX0_best_84 : decode cX0_best 84 = .ok (.lreturn, 1) := dk_173 (dk_at dksX0_best_3 13 rfl rfl)
abbrev cX0_bestFrom : ByteArray := prog_1_method_21_code
def yX0_bestFrom : MethodName := ⟨RX0, "bestFrom", "(II)J"⟩
def dkwX0_bestFrom_2 : List UInt8 := [173]
abbrev dktX0_bestFrom_2 : List UInt8 := dkwX0_bestFrom_2 ++ []
def dkwX0_bestFrom_1 : List UInt8 := [180, 0, 58, 21, 5, 47, 42, 21, 5, 33, 182, 0, 203, 184, 0, 207, 66, 132, 5, 255, 167, 255, 229, 33]
abbrev dktX0_bestFrom_1 : List UInt8 := dkwX0_bestFrom_1 ++ dktX0_bestFrom_2
def dkwX0_bestFrom_0 : List UInt8 := [42, 180, 0, 58, 27, 28, 96, 47, 66, 27, 28, 96, 4, 100, 54, 5, 21, 5, 27, 161, 0, 27, 42]
abbrev dktX0_bestFrom_0 : List UInt8 := dkwX0_bestFrom_0 ++ dktX0_bestFrom_1
theorem dksX0_bestFrom_0 : cX0_bestFrom.data.toList.drop 0 = dktX0_bestFrom_0 := by decide +kernel
theorem dksX0_bestFrom_1 : cX0_bestFrom.data.toList.drop 23 = dktX0_bestFrom_1 := dk_seg dksX0_bestFrom_0 23 rfl rfl
theorem dksX0_bestFrom_2 : cX0_bestFrom.data.toList.drop 47 = dktX0_bestFrom_2 := dk_seg dksX0_bestFrom_1 24 rfl rfl
theorem dX0_bestFrom_0 : decode cX0_bestFrom 0 = .ok (.aload_n 0, 1) := dk_42 (dk_at dksX0_bestFrom_0 0 rfl rfl)
theorem dX0_bestFrom_1 : decode cX0_bestFrom 1 = .ok (.getfield 58, 3) := dk_180 0 58 (dk_at dksX0_bestFrom_0 1 rfl rfl)
theorem dX0_bestFrom_4 : decode cX0_bestFrom 4 = .ok (.iload_n 1, 1) := dk_27 (dk_at dksX0_bestFrom_0 4 rfl rfl)
theorem dX0_bestFrom_5 : decode cX0_bestFrom 5 = .ok (.iload_n 2, 1) := dk_28 (dk_at dksX0_bestFrom_0 5 rfl rfl)
theorem dX0_bestFrom_6 : decode cX0_bestFrom 6 = .ok (.iadd, 1) := dk_96 (dk_at dksX0_bestFrom_0 6 rfl rfl)
theorem dX0_bestFrom_7 : decode cX0_bestFrom 7 = .ok (.laload, 1) := dk_47 (dk_at dksX0_bestFrom_0 7 rfl rfl)
theorem dX0_bestFrom_8 : decode cX0_bestFrom 8 = .ok (.lstore_n 3, 1) := dk_66 (dk_at dksX0_bestFrom_0 8 rfl rfl)
theorem dX0_bestFrom_9 : decode cX0_bestFrom 9 = .ok (.iload_n 1, 1) := dk_27 (dk_at dksX0_bestFrom_0 9 rfl rfl)
theorem dX0_bestFrom_10 : decode cX0_bestFrom 10 = .ok (.iload_n 2, 1) := dk_28 (dk_at dksX0_bestFrom_0 10 rfl rfl)
theorem dX0_bestFrom_11 : decode cX0_bestFrom 11 = .ok (.iadd, 1) := dk_96 (dk_at dksX0_bestFrom_0 11 rfl rfl)
theorem dX0_bestFrom_12 : decode cX0_bestFrom 12 = .ok (.iconst 1, 1) := dk_4 (dk_at dksX0_bestFrom_0 12 rfl rfl)
theorem dX0_bestFrom_13 : decode cX0_bestFrom 13 = .ok (.isub, 1) := dk_100 (dk_at dksX0_bestFrom_0 13 rfl rfl)
theorem dX0_bestFrom_14 : decode cX0_bestFrom 14 = .ok (.istore 5, 2) := dk_54 5 (dk_at dksX0_bestFrom_0 14 rfl rfl)
theorem dX0_bestFrom_16 : decode cX0_bestFrom 16 = .ok (.iload 5, 2) := dk_21 5 (dk_at dksX0_bestFrom_0 16 rfl rfl)
theorem dX0_bestFrom_18 : decode cX0_bestFrom 18 = .ok (.iload_n 1, 1) := dk_27 (dk_at dksX0_bestFrom_0 18 rfl rfl)
theorem dX0_bestFrom_19 : decode cX0_bestFrom 19 = .ok (.if_icmp .lt 27, 3) := dk_161 0 27 (dk_at dksX0_bestFrom_0 19 rfl rfl)
theorem dX0_bestFrom_22 : decode cX0_bestFrom 22 = .ok (.aload_n 0, 1) := dk_42 (dk_at dksX0_bestFrom_0 22 rfl rfl)
theorem dX0_bestFrom_23 : decode cX0_bestFrom 23 = .ok (.getfield 58, 3) := dk_180 0 58 (dk_at dksX0_bestFrom_1 0 rfl rfl)
theorem dX0_bestFrom_26 : decode cX0_bestFrom 26 = .ok (.iload 5, 2) := dk_21 5 (dk_at dksX0_bestFrom_1 3 rfl rfl)
theorem dX0_bestFrom_28 : decode cX0_bestFrom 28 = .ok (.laload, 1) := dk_47 (dk_at dksX0_bestFrom_1 5 rfl rfl)
theorem dX0_bestFrom_29 : decode cX0_bestFrom 29 = .ok (.aload_n 0, 1) := dk_42 (dk_at dksX0_bestFrom_1 6 rfl rfl)
theorem dX0_bestFrom_30 : decode cX0_bestFrom 30 = .ok (.iload 5, 2) := dk_21 5 (dk_at dksX0_bestFrom_1 7 rfl rfl)
theorem dX0_bestFrom_32 : decode cX0_bestFrom 32 = .ok (.lload_n 3, 1) := dk_33 (dk_at dksX0_bestFrom_1 9 rfl rfl)
theorem dX0_bestFrom_33 : decode cX0_bestFrom 33 = .ok (.invokevirtual 203, 3) := dk_182 0 203 (dk_at dksX0_bestFrom_1 10 rfl rfl)
theorem dX0_bestFrom_36 : decode cX0_bestFrom 36 = .ok (.invokestatic 207, 3) := dk_184 0 207 (dk_at dksX0_bestFrom_1 13 rfl rfl)
theorem dX0_bestFrom_39 : decode cX0_bestFrom 39 = .ok (.lstore_n 3, 1) := dk_66 (dk_at dksX0_bestFrom_1 16 rfl rfl)
theorem dX0_bestFrom_40 : decode cX0_bestFrom 40 = .ok (.iinc 5 (-1), 3) := dk_132 5 255 (dk_at dksX0_bestFrom_1 17 rfl rfl)
theorem dX0_bestFrom_43 : decode cX0_bestFrom 43 = .ok (.goto (-27), 3) := dk_167 255 229 (dk_at dksX0_bestFrom_1 20 rfl rfl)
theorem dX0_bestFrom_46 : decode cX0_bestFrom 46 = .ok (.lload_n 3, 1) := dk_33 (dk_at dksX0_bestFrom_1 23 rfl rfl)
theorem dX0_bestFrom_47 : decode cX0_bestFrom 47 = .ok (.lreturn, 1) := dk_173 (dk_at dksX0_bestFrom_2 0 rfl rfl)
abbrev cX0_isBestIn : ByteArray := prog_1_method_22_code
def yX0_isBestIn : MethodName := ⟨RX0, "isBestIn", "(II)Z"⟩
def dkwX0_isBestIn_1 : List UInt8 := [182, 0, 203, 148, 157, 0, 7, 4, 167, 0, 4, 3, 172]
abbrev dktX0_isBestIn_1 : List UInt8 := dkwX0_isBestIn_1 ++ []
def dkwX0_isBestIn_0 : List UInt8 := [28, 153, 0, 28, 42, 180, 0, 58, 27, 47, 42, 27, 42, 27, 4, 96, 28, 4, 100, 182, 0, 213]
abbrev dktX0_isBestIn_0 : List UInt8 := dkwX0_isBestIn_0 ++ dktX0_isBestIn_1
theorem dksX0_isBestIn_0 : cX0_isBestIn.data.toList.drop 0 = dktX0_isBestIn_0 := by decide +kernel
theorem dksX0_isBestIn_1 : cX0_isBestIn.data.toList.drop 22 = dktX0_isBestIn_1 := dk_seg dksX0_isBestIn_0 22 rfl rfl
theorem dX0_isBestIn_0 : decode cX0_isBestIn 0 = .ok (.iload_n 2, 1) := dk_28 (dk_at dksX0_isBestIn_0 0 rfl rfl)
theorem dX0_isBestIn_1 : decode cX0_isBestIn 1 = .ok (.ifCond .eq 28, 3) := dk_153 0 28 (dk_at dksX0_isBestIn_0 1 rfl rfl)
theorem dX0_isBestIn_4 : decode cX0_isBestIn 4 = .ok (.aload_n 0, 1) := dk_42 (dk_at dksX0_isBestIn_0 4 rfl rfl)
theorem dX0_isBestIn_5 : decode cX0_isBestIn 5 = .ok (.getfield 58, 3) := dk_180 0 58 (dk_at dksX0_isBestIn_0 5 rfl rfl)
theorem dX0_isBestIn_8 : decode cX0_isBestIn 8 = .ok (.iload_n 1, 1) := dk_27 (dk_at dksX0_isBestIn_0 8 rfl rfl)
theorem dX0_isBestIn_9 : decode cX0_isBestIn 9 = .ok (.laload, 1) := dk_47 (dk_at dksX0_isBestIn_0 9 rfl rfl)
theorem dX0_isBestIn_10 : decode cX0_isBestIn 10 = .ok (.aload_n 0, 1) := dk_42 (dk_at dksX0_isBestIn_0 10 rfl rfl)
theorem dX0_isBestIn_11 : decode cX0_isBestIn 11 = .ok (.iload_n 1, 1) := dk_27 (dk_at dksX0_isBestIn_0 11 rfl rfl)
theorem dX0_isBestIn_12 : decode cX0_isBestIn 12 = .ok (.aload_n 0, 1) := dk_42 (dk_at dksX0_isBestIn_0 12 rfl rfl)
theorem dX0_isBestIn_13 : decode cX0_isBestIn 13 = .ok (.iload_n 1, 1) := dk_27 (dk_at dksX0_isBestIn_0 13 rfl rfl)
theorem dX0_isBestIn_14 : decode cX0_isBestIn 14 = .ok (.iconst 1, 1) := dk_4 (dk_at dksX0_isBestIn_0 14 rfl rfl)
theorem dX0_isBestIn_15 : decode cX0_isBestIn 15 = .ok (.iadd, 1) := dk_96 (dk_at dksX0_isBestIn_0 15 rfl rfl)
theorem dX0_isBestIn_16 : decode cX0_isBestIn 16 = .ok (.iload_n 2, 1) := dk_28 (dk_at dksX0_isBestIn_0 16 rfl rfl)
theorem dX0_isBestIn_17 : decode cX0_isBestIn 17 = .ok (.iconst 1, 1) := dk_4 (dk_at dksX0_isBestIn_0 17 rfl rfl)
theorem dX0_isBestIn_18 : decode cX0_isBestIn 18 = .ok (.isub, 1) := dk_100 (dk_at dksX0_isBestIn_0 18 rfl rfl)
theorem dX0_isBestIn_19 : decode cX0_isBestIn 19 = .ok (.invokevirtual 213, 3) := dk_182 0 213 (dk_at dksX0_isBestIn_0 19 rfl rfl)
theorem dX0_isBestIn_22 : decode cX0_isBestIn 22 = .ok (.invokevirtual 203, 3) := dk_182 0 203 (dk_at dksX0_isBestIn_1 0 rfl rfl)
theorem dX0_isBestIn_25 : decode cX0_isBestIn 25 = .ok (.lcmp, 1) := dk_148 (dk_at dksX0_isBestIn_1 3 rfl rfl)
theorem dX0_isBestIn_26 : decode cX0_isBestIn 26 = .ok (.ifCond .gt 7, 3) := dk_157 0 7 (dk_at dksX0_isBestIn_1 4 rfl rfl)
theorem dX0_isBestIn_29 : decode cX0_isBestIn 29 = .ok (.iconst 1, 1) := dk_4 (dk_at dksX0_isBestIn_1 7 rfl rfl)
theorem dX0_isBestIn_30 : decode cX0_isBestIn 30 = .ok (.goto 4, 3) := dk_167 0 4 (dk_at dksX0_isBestIn_1 8 rfl rfl)
theorem dX0_isBestIn_33 : decode cX0_isBestIn 33 = .ok (.iconst 0, 1) := dk_3 (dk_at dksX0_isBestIn_1 11 rfl rfl)
theorem dX0_isBestIn_34 : decode cX0_isBestIn 34 = .ok (.ireturn, 1) := dk_172 (dk_at dksX0_isBestIn_1 12 rfl rfl)
abbrev cX0_plain : ByteArray := prog_1_method_35_code
def yX0_plain : MethodName := ⟨RX0, "plain", "(II)I"⟩
def dkwX0_plain_1 : List UInt8 := [180, 0, 141, 3, 182, 1, 7, 28, 154, 0, 10, 42, 182, 1, 28, 167, 0, 7, 42, 182, 1, 31, 172]
abbrev dktX0_plain_1 : List UInt8 := dkwX0_plain_1 ++ []
def dkwX0_plain_0 : List UInt8 := [42, 27, 182, 0, 137, 78, 45, 198, 0, 12, 28, 3, 4, 184, 0, 5, 154, 0, 5, 2, 172, 42, 45]
abbrev dktX0_plain_0 : List UInt8 := dkwX0_plain_0 ++ dktX0_plain_1
theorem dksX0_plain_0 : cX0_plain.data.toList.drop 0 = dktX0_plain_0 := by decide +kernel
theorem dksX0_plain_1 : cX0_plain.data.toList.drop 23 = dktX0_plain_1 := dk_seg dksX0_plain_0 23 rfl rfl
theorem dX0_plain_0 : decode cX0_plain 0 = .ok (.aload_n 0, 1) := dk_42 (dk_at dksX0_plain_0 0 rfl rfl)
theorem dX0_plain_1 : decode cX0_plain 1 = .ok (.iload_n 1, 1) := dk_27 (dk_at dksX0_plain_0 1 rfl rfl)
theorem dX0_plain_2 : decode cX0_plain 2 = .ok (.invokevirtual 137, 3) := dk_182 0 137 (dk_at dksX0_plain_0 2 rfl rfl)
theorem dX0_plain_5 : decode cX0_plain 5 = .ok (.astore_n 3, 1) := dk_78 (dk_at dksX0_plain_0 5 rfl rfl)
theorem dX0_plain_6 : decode cX0_plain 6 = .ok (.aload_n 3, 1) := dk_45 (dk_at dksX0_plain_0 6 rfl rfl)
theorem dX0_plain_7 : decode cX0_plain 7 = .ok (.ifnull 12, 3) := dk_198 0 12 (dk_at dksX0_plain_0 7 rfl rfl)
theorem dX0_plain_10 : decode cX0_plain 10 = .ok (.iload_n 2, 1) := dk_28 (dk_at dksX0_plain_0 10 rfl rfl)
theorem dX0_plain_11 : decode cX0_plain 11 = .ok (.iconst 0, 1) := dk_3 (dk_at dksX0_plain_0 11 rfl rfl)
theorem dX0_plain_12 : decode cX0_plain 12 = .ok (.iconst 1, 1) := dk_4 (dk_at dksX0_plain_0 12 rfl rfl)
theorem dX0_plain_13 : decode cX0_plain 13 = .ok (.invokestatic 5, 3) := dk_184 0 5 (dk_at dksX0_plain_0 13 rfl rfl)
theorem dX0_plain_16 : decode cX0_plain 16 = .ok (.ifCond .ne 5, 3) := dk_154 0 5 (dk_at dksX0_plain_0 16 rfl rfl)
theorem dX0_plain_19 : decode cX0_plain 19 = .ok (.iconst (-1), 1) := dk_2 (dk_at dksX0_plain_0 19 rfl rfl)
theorem dX0_plain_20 : decode cX0_plain 20 = .ok (.ireturn, 1) := dk_172 (dk_at dksX0_plain_0 20 rfl rfl)
theorem dX0_plain_21 : decode cX0_plain 21 = .ok (.aload_n 0, 1) := dk_42 (dk_at dksX0_plain_0 21 rfl rfl)
theorem dX0_plain_22 : decode cX0_plain 22 = .ok (.aload_n 3, 1) := dk_45 (dk_at dksX0_plain_0 22 rfl rfl)
theorem dX0_plain_23 : decode cX0_plain 23 = .ok (.getfield 141, 3) := dk_180 0 141 (dk_at dksX0_plain_1 0 rfl rfl)
theorem dX0_plain_26 : decode cX0_plain 26 = .ok (.iconst 0, 1) := dk_3 (dk_at dksX0_plain_1 3 rfl rfl)
theorem dX0_plain_27 : decode cX0_plain 27 = .ok (.invokevirtual 263, 3) := dk_182 1 7 (dk_at dksX0_plain_1 4 rfl rfl)
theorem dX0_plain_30 : decode cX0_plain 30 = .ok (.iload_n 2, 1) := dk_28 (dk_at dksX0_plain_1 7 rfl rfl)
theorem dX0_plain_31 : decode cX0_plain 31 = .ok (.ifCond .ne 10, 3) := dk_154 0 10 (dk_at dksX0_plain_1 8 rfl rfl)
theorem dX0_plain_34 : decode cX0_plain 34 = .ok (.aload_n 0, 1) := dk_42 (dk_at dksX0_plain_1 11 rfl rfl)
theorem dX0_plain_35 : decode cX0_plain 35 = .ok (.invokevirtual 284, 3) := dk_182 1 28 (dk_at dksX0_plain_1 12 rfl rfl)
theorem dX0_plain_38 : decode cX0_plain 38 = .ok (.goto 7, 3) := dk_167 0 7 (dk_at dksX0_plain_1 15 rfl rfl)
theorem dX0_plain_41 : decode cX0_plain 41 = .ok (.aload_n 0, 1) := dk_42 (dk_at dksX0_plain_1 18 rfl rfl)
theorem dX0_plain_42 : decode cX0_plain 42 = .ok (.invokevirtual 287, 3) := dk_182 1 31 (dk_at dksX0_plain_1 19 rfl rfl)
theorem dX0_plain_45 : decode cX0_plain 45 = .ok (.ireturn, 1) := dk_172 (dk_at dksX0_plain_1 22 rfl rfl)
abbrev cX0_plainNow : ByteArray := prog_1_method_33_code
def yX0_plainNow : MethodName := ⟨RX0, "plainNow", "()I"⟩
def dkwX0_plainNow_1 : List UInt8 := [180, 0, 58, 27, 47, 182, 1, 14, 148, 156, 0, 5, 28, 60, 132, 2, 1, 167, 255, 219, 27, 172]
abbrev dktX0_plainNow_1 : List UInt8 := dkwX0_plainNow_1 ++ []
def dkwX0_plainNow_0 : List UInt8 := [3, 60, 4, 61, 28, 16, 20, 163, 0, 37, 42, 28, 42, 180, 0, 58, 28, 47, 182, 1, 14, 42, 27, 42]
abbrev dktX0_plainNow_0 : List UInt8 := dkwX0_plainNow_0 ++ dktX0_plainNow_1
theorem dksX0_plainNow_0 : cX0_plainNow.data.toList.drop 0 = dktX0_plainNow_0 := by decide +kernel
theorem dksX0_plainNow_1 : cX0_plainNow.data.toList.drop 24 = dktX0_plainNow_1 := dk_seg dksX0_plainNow_0 24 rfl rfl
theorem dX0_plainNow_0 : decode cX0_plainNow 0 = .ok (.iconst 0, 1) := dk_3 (dk_at dksX0_plainNow_0 0 rfl rfl)
theorem dX0_plainNow_1 : decode cX0_plainNow 1 = .ok (.istore_n 1, 1) := dk_60 (dk_at dksX0_plainNow_0 1 rfl rfl)
theorem dX0_plainNow_2 : decode cX0_plainNow 2 = .ok (.iconst 1, 1) := dk_4 (dk_at dksX0_plainNow_0 2 rfl rfl)
theorem dX0_plainNow_3 : decode cX0_plainNow 3 = .ok (.istore_n 2, 1) := dk_61 (dk_at dksX0_plainNow_0 3 rfl rfl)
theorem dX0_plainNow_4 : decode cX0_plainNow 4 = .ok (.iload_n 2, 1) := dk_28 (dk_at dksX0_plainNow_0 4 rfl rfl)
theorem dX0_plainNow_5 : decode cX0_plainNow 5 = .ok (.bipush 20, 2) := dk_16 20 (dk_at dksX0_plainNow_0 5 rfl rfl)
theorem dX0_plainNow_7 : decode cX0_plainNow 7 = .ok (.if_icmp .gt 37, 3) := dk_163 0 37 (dk_at dksX0_plainNow_0 7 rfl rfl)
theorem dX0_plainNow_10 : decode cX0_plainNow 10 = .ok (.aload_n 0, 1) := dk_42 (dk_at dksX0_plainNow_0 10 rfl rfl)
theorem dX0_plainNow_11 : decode cX0_plainNow 11 = .ok (.iload_n 2, 1) := dk_28 (dk_at dksX0_plainNow_0 11 rfl rfl)
theorem dX0_plainNow_12 : decode cX0_plainNow 12 = .ok (.aload_n 0, 1) := dk_42 (dk_at dksX0_plainNow_0 12 rfl rfl)
theorem dX0_plainNow_13 : decode cX0_plainNow 13 = .ok (.getfield 58, 3) := dk_180 0 58 (dk_at dksX0_plainNow_0 13 rfl rfl)
theorem dX0_plainNow_16 : decode cX0_plainNow 16 = .ok (.iload_n 2, 1) := dk_28 (dk_at dksX0_plainNow_0 16 rfl rfl)
theorem dX0_plainNow_17 : decode cX0_plainNow 17 = .ok (.laload, 1) := dk_47 (dk_at dksX0_plainNow_0 17 rfl rfl)
theorem dX0_plainNow_18 : decode cX0_plainNow 18 = .ok (.invokevirtual 270, 3) := dk_182 1 14 (dk_at dksX0_plainNow_0 18 rfl rfl)
theorem dX0_plainNow_21 : decode cX0_plainNow 21 = .ok (.aload_n 0, 1) := dk_42 (dk_at dksX0_plainNow_0 21 rfl rfl)
theorem dX0_plainNow_22 : decode cX0_plainNow 22 = .ok (.iload_n 1, 1) := dk_27 (dk_at dksX0_plainNow_0 22 rfl rfl)
theorem dX0_plainNow_23 : decode cX0_plainNow 23 = .ok (.aload_n 0, 1) := dk_42 (dk_at dksX0_plainNow_0 23 rfl rfl)
theorem dX0_plainNow_24 : decode cX0_plainNow 24 = .ok (.getfield 58, 3) := dk_180 0 58 (dk_at dksX0_plainNow_1 0 rfl rfl)
theorem dX0_plainNow_27 : decode cX0_plainNow 27 = .ok (.iload_n 1, 1) := dk_27 (dk_at dksX0_plainNow_1 3 rfl rfl)
theorem dX0_plainNow_28 : decode cX0_plainNow 28 = .ok (.laload, 1) := dk_47 (dk_at dksX0_plainNow_1 4 rfl rfl)
theorem dX0_plainNow_29 : decode cX0_plainNow 29 = .ok (.invokevirtual 270, 3) := dk_182 1 14 (dk_at dksX0_plainNow_1 5 rfl rfl)
theorem dX0_plainNow_32 : decode cX0_plainNow 32 = .ok (.lcmp, 1) := dk_148 (dk_at dksX0_plainNow_1 8 rfl rfl)
theorem dX0_plainNow_33 : decode cX0_plainNow 33 = .ok (.ifCond .ge 5, 3) := dk_156 0 5 (dk_at dksX0_plainNow_1 9 rfl rfl)
theorem dX0_plainNow_36 : decode cX0_plainNow 36 = .ok (.iload_n 2, 1) := dk_28 (dk_at dksX0_plainNow_1 12 rfl rfl)
theorem dX0_plainNow_37 : decode cX0_plainNow 37 = .ok (.istore_n 1, 1) := dk_60 (dk_at dksX0_plainNow_1 13 rfl rfl)
theorem dX0_plainNow_38 : decode cX0_plainNow 38 = .ok (.iinc 2 1, 3) := dk_132 2 1 (dk_at dksX0_plainNow_1 14 rfl rfl)
theorem dX0_plainNow_41 : decode cX0_plainNow 41 = .ok (.goto (-37), 3) := dk_167 255 219 (dk_at dksX0_plainNow_1 17 rfl rfl)
theorem dX0_plainNow_44 : decode cX0_plainNow 44 = .ok (.iload_n 1, 1) := dk_27 (dk_at dksX0_plainNow_1 20 rfl rfl)
theorem dX0_plainNow_45 : decode cX0_plainNow 45 = .ok (.ireturn, 1) := dk_172 (dk_at dksX0_plainNow_1 21 rfl rfl)
abbrev cX0_whenNow : ByteArray := prog_1_method_34_code
def yX0_whenNow : MethodName := ⟨RX0, "whenNow", "()I"⟩
def dkwX0_whenNow_1 : List UInt8 := [182, 1, 25, 182, 1, 14, 148, 156, 0, 5, 28, 60, 132, 2, 1, 167, 255, 221, 27, 172]
abbrev dktX0_whenNow_1 : List UInt8 := dkwX0_whenNow_1 ++ []
def dkwX0_whenNow_0 : List UInt8 := [3, 60, 4, 61, 28, 16, 9, 163, 0, 35, 42, 28, 42, 28, 182, 1, 25, 182, 1, 14, 42, 27, 42, 27]
abbrev dktX0_whenNow_0 : List UInt8 := dkwX0_whenNow_0 ++ dktX0_whenNow_1
theorem dksX0_whenNow_0 : cX0_whenNow.data.toList.drop 0 = dktX0_whenNow_0 := by decide +kernel
theorem dksX0_whenNow_1 : cX0_whenNow.data.toList.drop 24 = dktX0_whenNow_1 := dk_seg dksX0_whenNow_0 24 rfl rfl
theorem dX0_whenNow_0 : decode cX0_whenNow 0 = .ok (.iconst 0, 1) := dk_3 (dk_at dksX0_whenNow_0 0 rfl rfl)
theorem dX0_whenNow_1 : decode cX0_whenNow 1 = .ok (.istore_n 1, 1) := dk_60 (dk_at dksX0_whenNow_0 1 rfl rfl)
theorem dX0_whenNow_2 : decode cX0_whenNow 2 = .ok (.iconst 1, 1) := dk_4 (dk_at dksX0_whenNow_0 2 rfl rfl)
theorem dX0_whenNow_3 : decode cX0_whenNow 3 = .ok (.istore_n 2, 1) := dk_61 (dk_at dksX0_whenNow_0 3 rfl rfl)
theorem dX0_whenNow_4 : decode cX0_whenNow 4 = .ok (.iload_n 2, 1) := dk_28 (dk_at dksX0_whenNow_0 4 rfl rfl)
theorem dX0_whenNow_5 : decode cX0_whenNow 5 = .ok (.bipush 9, 2) := dk_16 9 (dk_at dksX0_whenNow_0 5 rfl rfl)
theorem dX0_whenNow_7 : decode cX0_whenNow 7 = .ok (.if_icmp .gt 35, 3) := dk_163 0 35 (dk_at dksX0_whenNow_0 7 rfl rfl)
theorem dX0_whenNow_10 : decode cX0_whenNow 10 = .ok (.aload_n 0, 1) := dk_42 (dk_at dksX0_whenNow_0 10 rfl rfl)
theorem dX0_whenNow_11 : decode cX0_whenNow 11 = .ok (.iload_n 2, 1) := dk_28 (dk_at dksX0_whenNow_0 11 rfl rfl)
theorem dX0_whenNow_12 : decode cX0_whenNow 12 = .ok (.aload_n 0, 1) := dk_42 (dk_at dksX0_whenNow_0 12 rfl rfl)
theorem dX0_whenNow_13 : decode cX0_whenNow 13 = .ok (.iload_n 2, 1) := dk_28 (dk_at dksX0_whenNow_0 13 rfl rfl)
theorem dX0_whenNow_14 : decode cX0_whenNow 14 = .ok (.invokevirtual 281, 3) := dk_182 1 25 (dk_at dksX0_whenNow_0 14 rfl rfl)
theorem dX0_whenNow_17 : decode cX0_whenNow 17 = .ok (.invokevirtual 270, 3) := dk_182 1 14 (dk_at dksX0_whenNow_0 17 rfl rfl)
theorem dX0_whenNow_20 : decode cX0_whenNow 20 = .ok (.aload_n 0, 1) := dk_42 (dk_at dksX0_whenNow_0 20 rfl rfl)
theorem dX0_whenNow_21 : decode cX0_whenNow 21 = .ok (.iload_n 1, 1) := dk_27 (dk_at dksX0_whenNow_0 21 rfl rfl)
theorem dX0_whenNow_22 : decode cX0_whenNow 22 = .ok (.aload_n 0, 1) := dk_42 (dk_at dksX0_whenNow_0 22 rfl rfl)
theorem dX0_whenNow_23 : decode cX0_whenNow 23 = .ok (.iload_n 1, 1) := dk_27 (dk_at dksX0_whenNow_0 23 rfl rfl)
theorem dX0_whenNow_24 : decode cX0_whenNow 24 = .ok (.invokevirtual 281, 3) := dk_182 1 25 (dk_at dksX0_whenNow_1 0 rfl rfl)
theorem dX0_whenNow_27 : decode cX0_whenNow 27 = .ok (.invokevirtual 270, 3) := dk_182 1 14 (dk_at dksX0_whenNow_1 3 rfl rfl)
theorem dX0_whenNow_30 : decode cX0_whenNow 30 = .ok (.lcmp, 1) := dk_148 (dk_at dksX0_whenNow_1 6 rfl rfl)
theorem dX0_whenNow_31 : decode cX0_whenNow 31 = .ok (.ifCond .ge 5, 3) := dk_156 0 5 (dk_at dksX0_whenNow_1 7 rfl rfl)
theorem dX0_whenNow_34 : decode cX0_whenNow 34 = .ok (.iload_n 2, 1) := dk_28 (dk_at dksX0_whenNow_1 10 rfl rfl)
theorem dX0_whenNow_35 : decode cX0_whenNow 35 = .ok (.istore_n 1, 1) := dk_60 (dk_at dksX0_whenNow_1 11 rfl rfl)
theorem dX0_whenNow_36 : decode cX0_whenNow 36 = .ok (.iinc 2 1, 3) := dk_132 2 1 (dk_at dksX0_whenNow_1 12 rfl rfl)
theorem dX0_whenNow_39 : decode cX0_whenNow 39 = .ok (.goto (-35), 3) := dk_167 255 221 (dk_at dksX0_whenNow_1 15 rfl rfl)
theorem dX0_whenNow_42 : decode cX0_whenNow 42 = .ok (.iload_n 1, 1) := dk_27 (dk_at dksX0_whenNow_1 18 rfl rfl)
theorem dX0_whenNow_43 : decode cX0_whenNow 43 = .ok (.ireturn, 1) := dk_172 (dk_at dksX0_whenNow_1 19 rfl rfl)
abbrev cX0_loses : ByteArray := prog_1_method_36_code
def yX0_loses : MethodName := ⟨RX0, "loses", "(I)J"⟩
def dkwX0_loses_1 : List UInt8 := [182, 1, 28, 62, 42, 29, 42, 180, 0, 58, 29, 47, 182, 1, 14, 42, 3, 16, 9, 182, 0, 213, 101, 173]
abbrev dktX0_loses_1 : List UInt8 := dkwX0_loses_1 ++ []
def dkwX0_loses_0 : List UInt8 := [42, 27, 182, 0, 137, 77, 44, 199, 0, 7, 20, 0, 180, 173, 42, 44, 180, 0, 141, 3, 182, 1, 7, 42]
abbrev dktX0_loses_0 : List UInt8 := dkwX0_loses_0 ++ dktX0_loses_1
theorem dksX0_loses_0 : cX0_loses.data.toList.drop 0 = dktX0_loses_0 := by decide +kernel
theorem dksX0_loses_1 : cX0_loses.data.toList.drop 24 = dktX0_loses_1 := dk_seg dksX0_loses_0 24 rfl rfl
theorem dX0_loses_0 : decode cX0_loses 0 = .ok (.aload_n 0, 1) := dk_42 (dk_at dksX0_loses_0 0 rfl rfl)
theorem dX0_loses_1 : decode cX0_loses 1 = .ok (.iload_n 1, 1) := dk_27 (dk_at dksX0_loses_0 1 rfl rfl)
theorem dX0_loses_2 : decode cX0_loses 2 = .ok (.invokevirtual 137, 3) := dk_182 0 137 (dk_at dksX0_loses_0 2 rfl rfl)
theorem dX0_loses_5 : decode cX0_loses 5 = .ok (.astore_n 2, 1) := dk_77 (dk_at dksX0_loses_0 5 rfl rfl)
theorem dX0_loses_6 : decode cX0_loses 6 = .ok (.aload_n 2, 1) := dk_44 (dk_at dksX0_loses_0 6 rfl rfl)
theorem dX0_loses_7 : decode cX0_loses 7 = .ok (.ifnonnull 7, 3) := dk_199 0 7 (dk_at dksX0_loses_0 7 rfl rfl)
theorem dX0_loses_10 : decode cX0_loses 10 = .ok (.ldc2_w 180, 3) := dk_20 0 180 (dk_at dksX0_loses_0 10 rfl rfl)
theorem dX0_loses_13 : decode cX0_loses 13 = .ok (.lreturn, 1) := dk_173 (dk_at dksX0_loses_0 13 rfl rfl)
theorem dX0_loses_14 : decode cX0_loses 14 = .ok (.aload_n 0, 1) := dk_42 (dk_at dksX0_loses_0 14 rfl rfl)
theorem dX0_loses_15 : decode cX0_loses 15 = .ok (.aload_n 2, 1) := dk_44 (dk_at dksX0_loses_0 15 rfl rfl)
theorem dX0_loses_16 : decode cX0_loses 16 = .ok (.getfield 141, 3) := dk_180 0 141 (dk_at dksX0_loses_0 16 rfl rfl)
theorem dX0_loses_19 : decode cX0_loses 19 = .ok (.iconst 0, 1) := dk_3 (dk_at dksX0_loses_0 19 rfl rfl)
theorem dX0_loses_20 : decode cX0_loses 20 = .ok (.invokevirtual 263, 3) := dk_182 1 7 (dk_at dksX0_loses_0 20 rfl rfl)
theorem dX0_loses_23 : decode cX0_loses 23 = .ok (.aload_n 0, 1) := dk_42 (dk_at dksX0_loses_0 23 rfl rfl)
theorem dX0_loses_24 : decode cX0_loses 24 = .ok (.invokevirtual 284, 3) := dk_182 1 28 (dk_at dksX0_loses_1 0 rfl rfl)
theorem dX0_loses_27 : decode cX0_loses 27 = .ok (.istore_n 3, 1) := dk_62 (dk_at dksX0_loses_1 3 rfl rfl)
theorem dX0_loses_28 : decode cX0_loses 28 = .ok (.aload_n 0, 1) := dk_42 (dk_at dksX0_loses_1 4 rfl rfl)
theorem dX0_loses_29 : decode cX0_loses 29 = .ok (.iload_n 3, 1) := dk_29 (dk_at dksX0_loses_1 5 rfl rfl)
theorem dX0_loses_30 : decode cX0_loses 30 = .ok (.aload_n 0, 1) := dk_42 (dk_at dksX0_loses_1 6 rfl rfl)
theorem dX0_loses_31 : decode cX0_loses 31 = .ok (.getfield 58, 3) := dk_180 0 58 (dk_at dksX0_loses_1 7 rfl rfl)
theorem dX0_loses_34 : decode cX0_loses 34 = .ok (.iload_n 3, 1) := dk_29 (dk_at dksX0_loses_1 10 rfl rfl)
theorem dX0_loses_35 : decode cX0_loses 35 = .ok (.laload, 1) := dk_47 (dk_at dksX0_loses_1 11 rfl rfl)
theorem dX0_loses_36 : decode cX0_loses 36 = .ok (.invokevirtual 270, 3) := dk_182 1 14 (dk_at dksX0_loses_1 12 rfl rfl)
theorem dX0_loses_39 : decode cX0_loses 39 = .ok (.aload_n 0, 1) := dk_42 (dk_at dksX0_loses_1 15 rfl rfl)
theorem dX0_loses_40 : decode cX0_loses 40 = .ok (.iconst 0, 1) := dk_3 (dk_at dksX0_loses_1 16 rfl rfl)
theorem dX0_loses_41 : decode cX0_loses 41 = .ok (.bipush 9, 2) := dk_16 9 (dk_at dksX0_loses_1 17 rfl rfl)
theorem dX0_loses_43 : decode cX0_loses 43 = .ok (.invokevirtual 213, 3) := dk_182 0 213 (dk_at dksX0_loses_1 19 rfl rfl)
theorem dX0_loses_46 : decode cX0_loses 46 = .ok (.lsub, 1) := dk_101 (dk_at dksX0_loses_1 22 rfl rfl)
theorem dX0_loses_47 : decode cX0_loses 47 = .ok (.lreturn, 1) := dk_173 (dk_at dksX0_loses_1 23 rfl rfl)
abbrev cX0_judged : ByteArray := prog_1_method_37_code
def yX0_judged : MethodName := ⟨RX0, "judged", "(II)I"⟩
def dkwX0_judged_4 : List UInt8 := [153, 0, 6, 16, 251, 172, 132, 5, 1, 167, 255, 200, 16, 251, 172]
abbrev dktX0_judged_4 : List UInt8 := dkwX0_judged_4 ++ []
def dkwX0_judged_3 : List UInt8 := [21, 5, 16, 9, 21, 5, 100, 182, 1, 21, 54, 7, 21, 6, 21, 7, 159, 0, 6, 21, 5, 172, 21, 6]
abbrev dktX0_judged_3 : List UInt8 := dkwX0_judged_3 ++ dktX0_judged_4
def dkwX0_judged_2 : List UInt8 := [21, 5, 16, 9, 163, 0, 55, 45, 42, 180, 0, 50, 21, 5, 50, 21, 5, 182, 1, 3, 54, 6, 42]
abbrev dktX0_judged_2 : List UInt8 := dkwX0_judged_2 ++ dktX0_judged_3
def dkwX0_judged_1 : List UInt8 := [45, 193, 0, 239, 154, 0, 6, 16, 253, 172, 42, 25, 4, 180, 0, 141, 3, 182, 1, 7, 3, 54, 5]
abbrev dktX0_judged_1 : List UInt8 := dkwX0_judged_1 ++ dktX0_judged_2
def dkwX0_judged_0 : List UInt8 := [42, 27, 182, 0, 249, 78, 42, 28, 182, 0, 137, 58, 4, 45, 198, 0, 8, 25, 4, 199, 0, 5, 2, 172]
abbrev dktX0_judged_0 : List UInt8 := dkwX0_judged_0 ++ dktX0_judged_1
theorem dksX0_judged_0 : cX0_judged.data.toList.drop 0 = dktX0_judged_0 := by decide +kernel
theorem dksX0_judged_1 : cX0_judged.data.toList.drop 24 = dktX0_judged_1 := dk_seg dksX0_judged_0 24 rfl rfl
theorem dksX0_judged_2 : cX0_judged.data.toList.drop 47 = dktX0_judged_2 := dk_seg dksX0_judged_1 23 rfl rfl
theorem dksX0_judged_3 : cX0_judged.data.toList.drop 70 = dktX0_judged_3 := dk_seg dksX0_judged_2 23 rfl rfl
theorem dksX0_judged_4 : cX0_judged.data.toList.drop 94 = dktX0_judged_4 := dk_seg dksX0_judged_3 24 rfl rfl
theorem dX0_judged_0 : decode cX0_judged 0 = .ok (.aload_n 0, 1) := dk_42 (dk_at dksX0_judged_0 0 rfl rfl)
theorem dX0_judged_1 : decode cX0_judged 1 = .ok (.iload_n 1, 1) := dk_27 (dk_at dksX0_judged_0 1 rfl rfl)
theorem dX0_judged_2 : decode cX0_judged 2 = .ok (.invokevirtual 249, 3) := dk_182 0 249 (dk_at dksX0_judged_0 2 rfl rfl)
theorem dX0_judged_5 : decode cX0_judged 5 = .ok (.astore_n 3, 1) := dk_78 (dk_at dksX0_judged_0 5 rfl rfl)
theorem dX0_judged_6 : decode cX0_judged 6 = .ok (.aload_n 0, 1) := dk_42 (dk_at dksX0_judged_0 6 rfl rfl)
theorem dX0_judged_7 : decode cX0_judged 7 = .ok (.iload_n 2, 1) := dk_28 (dk_at dksX0_judged_0 7 rfl rfl)
theorem dX0_judged_8 : decode cX0_judged 8 = .ok (.invokevirtual 137, 3) := dk_182 0 137 (dk_at dksX0_judged_0 8 rfl rfl)
theorem dX0_judged_11 : decode cX0_judged 11 = .ok (.astore 4, 2) := dk_58 4 (dk_at dksX0_judged_0 11 rfl rfl)
theorem dX0_judged_13 : decode cX0_judged 13 = .ok (.aload_n 3, 1) := dk_45 (dk_at dksX0_judged_0 13 rfl rfl)
theorem dX0_judged_14 : decode cX0_judged 14 = .ok (.ifnull 8, 3) := dk_198 0 8 (dk_at dksX0_judged_0 14 rfl rfl)
theorem dX0_judged_17 : decode cX0_judged 17 = .ok (.aload 4, 2) := dk_25 4 (dk_at dksX0_judged_0 17 rfl rfl)
theorem dX0_judged_19 : decode cX0_judged 19 = .ok (.ifnonnull 5, 3) := dk_199 0 5 (dk_at dksX0_judged_0 19 rfl rfl)
theorem dX0_judged_22 : decode cX0_judged 22 = .ok (.iconst (-1), 1) := dk_2 (dk_at dksX0_judged_0 22 rfl rfl)
theorem dX0_judged_23 : decode cX0_judged 23 = .ok (.ireturn, 1) := dk_172 (dk_at dksX0_judged_0 23 rfl rfl)
theorem dX0_judged_24 : decode cX0_judged 24 = .ok (.aload_n 3, 1) := dk_45 (dk_at dksX0_judged_1 0 rfl rfl)
theorem dX0_judged_25 : decode cX0_judged 25 = .ok (.instanceof 239, 3) := dk_193 0 239 (dk_at dksX0_judged_1 1 rfl rfl)
theorem dX0_judged_28 : decode cX0_judged 28 = .ok (.ifCond .ne 6, 3) := dk_154 0 6 (dk_at dksX0_judged_1 4 rfl rfl)
theorem dX0_judged_31 : decode cX0_judged 31 = .ok (.bipush (-3), 2) := dk_16 253 (dk_at dksX0_judged_1 7 rfl rfl)
theorem dX0_judged_33 : decode cX0_judged 33 = .ok (.ireturn, 1) := dk_172 (dk_at dksX0_judged_1 9 rfl rfl)
theorem dX0_judged_34 : decode cX0_judged 34 = .ok (.aload_n 0, 1) := dk_42 (dk_at dksX0_judged_1 10 rfl rfl)
theorem dX0_judged_35 : decode cX0_judged 35 = .ok (.aload 4, 2) := dk_25 4 (dk_at dksX0_judged_1 11 rfl rfl)
theorem dX0_judged_37 : decode cX0_judged 37 = .ok (.getfield 141, 3) := dk_180 0 141 (dk_at dksX0_judged_1 13 rfl rfl)
theorem dX0_judged_40 : decode cX0_judged 40 = .ok (.iconst 0, 1) := dk_3 (dk_at dksX0_judged_1 16 rfl rfl)
theorem dX0_judged_41 : decode cX0_judged 41 = .ok (.invokevirtual 263, 3) := dk_182 1 7 (dk_at dksX0_judged_1 17 rfl rfl)
theorem dX0_judged_44 : decode cX0_judged 44 = .ok (.iconst 0, 1) := dk_3 (dk_at dksX0_judged_1 20 rfl rfl)
theorem dX0_judged_45 : decode cX0_judged 45 = .ok (.istore 5, 2) := dk_54 5 (dk_at dksX0_judged_1 21 rfl rfl)
theorem dX0_judged_47 : decode cX0_judged 47 = .ok (.iload 5, 2) := dk_21 5 (dk_at dksX0_judged_2 0 rfl rfl)
theorem dX0_judged_49 : decode cX0_judged 49 = .ok (.bipush 9, 2) := dk_16 9 (dk_at dksX0_judged_2 2 rfl rfl)
theorem dX0_judged_51 : decode cX0_judged 51 = .ok (.if_icmp .gt 55, 3) := dk_163 0 55 (dk_at dksX0_judged_2 4 rfl rfl)
theorem dX0_judged_54 : decode cX0_judged 54 = .ok (.aload_n 3, 1) := dk_45 (dk_at dksX0_judged_2 7 rfl rfl)
theorem dX0_judged_55 : decode cX0_judged 55 = .ok (.aload_n 0, 1) := dk_42 (dk_at dksX0_judged_2 8 rfl rfl)
theorem dX0_judged_56 : decode cX0_judged 56 = .ok (.getfield 50, 3) := dk_180 0 50 (dk_at dksX0_judged_2 9 rfl rfl)
theorem dX0_judged_59 : decode cX0_judged 59 = .ok (.iload 5, 2) := dk_21 5 (dk_at dksX0_judged_2 12 rfl rfl)
theorem dX0_judged_61 : decode cX0_judged 61 = .ok (.aaload, 1) := dk_50 (dk_at dksX0_judged_2 14 rfl rfl)
theorem dX0_judged_62 : decode cX0_judged 62 = .ok (.iload 5, 2) := dk_21 5 (dk_at dksX0_judged_2 15 rfl rfl)
theorem dX0_judged_64 : decode cX0_judged 64 = .ok (.invokevirtual 259, 3) := dk_182 1 3 (dk_at dksX0_judged_2 17 rfl rfl)
theorem dX0_judged_67 : decode cX0_judged 67 = .ok (.istore 6, 2) := dk_54 6 (dk_at dksX0_judged_2 20 rfl rfl)
theorem dX0_judged_69 : decode cX0_judged 69 = .ok (.aload_n 0, 1) := dk_42 (dk_at dksX0_judged_2 22 rfl rfl)
theorem dX0_judged_70 : decode cX0_judged 70 = .ok (.iload 5, 2) := dk_21 5 (dk_at dksX0_judged_3 0 rfl rfl)
theorem dX0_judged_72 : decode cX0_judged 72 = .ok (.bipush 9, 2) := dk_16 9 (dk_at dksX0_judged_3 2 rfl rfl)
theorem dX0_judged_74 : decode cX0_judged 74 = .ok (.iload 5, 2) := dk_21 5 (dk_at dksX0_judged_3 4 rfl rfl)
theorem dX0_judged_76 : decode cX0_judged 76 = .ok (.isub, 1) := dk_100 (dk_at dksX0_judged_3 6 rfl rfl)
theorem dX0_judged_77 : decode cX0_judged 77 = .ok (.invokevirtual 277, 3) := dk_182 1 21 (dk_at dksX0_judged_3 7 rfl rfl)
theorem dX0_judged_80 : decode cX0_judged 80 = .ok (.istore 7, 2) := dk_54 7 (dk_at dksX0_judged_3 10 rfl rfl)
theorem dX0_judged_82 : decode cX0_judged 82 = .ok (.iload 6, 2) := dk_21 6 (dk_at dksX0_judged_3 12 rfl rfl)
theorem dX0_judged_84 : decode cX0_judged 84 = .ok (.iload 7, 2) := dk_21 7 (dk_at dksX0_judged_3 14 rfl rfl)
theorem dX0_judged_86 : decode cX0_judged 86 = .ok (.if_icmp .eq 6, 3) := dk_159 0 6 (dk_at dksX0_judged_3 16 rfl rfl)
theorem dX0_judged_89 : decode cX0_judged 89 = .ok (.iload 5, 2) := dk_21 5 (dk_at dksX0_judged_3 19 rfl rfl)
theorem dX0_judged_91 : decode cX0_judged 91 = .ok (.ireturn, 1) := dk_172 (dk_at dksX0_judged_3 21 rfl rfl)
theorem dX0_judged_92 : decode cX0_judged 92 = .ok (.iload 6, 2) := dk_21 6 (dk_at dksX0_judged_3 22 rfl rfl)
theorem dX0_judged_94 : decode cX0_judged 94 = .ok (.ifCond .eq 6, 3) := dk_153 0 6 (dk_at dksX0_judged_4 0 rfl rfl)
theorem dX0_judged_97 : decode cX0_judged 97 = .ok (.bipush (-5), 2) := dk_16 251 (dk_at dksX0_judged_4 3 rfl rfl)
theorem dX0_judged_99 : decode cX0_judged 99 = .ok (.ireturn, 1) := dk_172 (dk_at dksX0_judged_4 5 rfl rfl)
theorem dX0_judged_100 : decode cX0_judged 100 = .ok (.iinc 5 1, 3) := dk_132 5 1 (dk_at dksX0_judged_4 6 rfl rfl)
theorem dX0_judged_103 : decode cX0_judged 103 = .ok (.goto (-56), 3) := dk_167 255 200 (dk_at dksX0_judged_4 9 rfl rfl)
theorem dX0_judged_106 : decode cX0_judged 106 = .ok (.bipush (-5), 2) := dk_16 251 (dk_at dksX0_judged_4 12 rfl rfl)
theorem dX0_judged_108 : decode cX0_judged 108 = .ok (.ireturn, 1) := dk_172 (dk_at dksX0_judged_4 14 rfl rfl)
abbrev cX0_room : ByteArray := prog_1_method_38_code
def yX0_room : MethodName := ⟨RX0, "room", "(II)I"⟩
def dkwX0_room_7 : List UInt8 := [132, 6, 1, 167, 255, 128, 29, 172]
abbrev dktX0_room_7 : List UInt8 := dkwX0_room_7 ++ []
def dkwX0_room_6 : List UInt8 := [21, 7, 28, 163, 0, 21, 22, 8, 22, 4, 148, 157, 0, 6, 167, 0, 10, 21, 6, 62, 22, 8, 55, 4]
abbrev dktX0_room_6 : List UInt8 := dkwX0_room_6 ++ dktX0_room_7
def dkwX0_room_5 : List UInt8 := [21, 10, 182, 0, 19, 192, 0, 132, 180, 0, 141, 182, 0, 182, 97, 55, 8, 132, 10, 1, 167, 255, 185]
abbrev dktX0_room_5 : List UInt8 := dkwX0_room_5 ++ dktX0_room_6
def dkwX0_room_4 : List UInt8 := [42, 180, 0, 45, 21, 10, 182, 0, 19, 192, 0, 132, 180, 0, 162, 96, 54, 7, 22, 8, 42, 180, 0, 45]
abbrev dktX0_room_4 : List UInt8 := dkwX0_room_4 ++ dktX0_room_5
def dkwX0_room_3 : List UInt8 := [180, 0, 45, 182, 0, 13, 162, 0, 65, 21, 6, 21, 10, 122, 4, 126, 154, 0, 6, 167, 0, 46, 21, 7]
abbrev dktX0_room_3 : List UInt8 := dkwX0_room_3 ++ dktX0_room_4
def dkwX0_room_2 : List UInt8 := [21, 6, 27, 2, 130, 126, 153, 0, 6, 167, 0, 110, 3, 54, 7, 9, 55, 8, 3, 54, 10, 21, 10, 42]
abbrev dktX0_room_2 : List UInt8 := dkwX0_room_2 ++ dktX0_room_3
def dkwX0_room_1 : List UInt8 := [184, 0, 5, 154, 0, 6, 16, 254, 172, 3, 62, 9, 55, 4, 3, 54, 6, 21, 6, 27, 163, 0, 128]
abbrev dktX0_room_1 : List UInt8 := dkwX0_room_1 ++ dktX0_room_2
def dkwX0_room_0 : List UInt8 := [27, 3, 4, 42, 180, 0, 45, 182, 0, 13, 120, 4, 100, 184, 0, 5, 153, 0, 13, 28, 3, 16, 99]
abbrev dktX0_room_0 : List UInt8 := dkwX0_room_0 ++ dktX0_room_1
theorem dksX0_room_0 : cX0_room.data.toList.drop 0 = dktX0_room_0 := by decide +kernel
theorem dksX0_room_1 : cX0_room.data.toList.drop 23 = dktX0_room_1 := dk_seg dksX0_room_0 23 rfl rfl
theorem dksX0_room_2 : cX0_room.data.toList.drop 46 = dktX0_room_2 := dk_seg dksX0_room_1 23 rfl rfl
theorem dksX0_room_3 : cX0_room.data.toList.drop 70 = dktX0_room_3 := dk_seg dksX0_room_2 24 rfl rfl
theorem dksX0_room_4 : cX0_room.data.toList.drop 94 = dktX0_room_4 := dk_seg dksX0_room_3 24 rfl rfl
theorem dksX0_room_5 : cX0_room.data.toList.drop 118 = dktX0_room_5 := dk_seg dksX0_room_4 24 rfl rfl
theorem dksX0_room_6 : cX0_room.data.toList.drop 141 = dktX0_room_6 := dk_seg dksX0_room_5 23 rfl rfl
theorem dksX0_room_7 : cX0_room.data.toList.drop 165 = dktX0_room_7 := dk_seg dksX0_room_6 24 rfl rfl
theorem dX0_room_0 : decode cX0_room 0 = .ok (.iload_n 1, 1) := dk_27 (dk_at dksX0_room_0 0 rfl rfl)
theorem dX0_room_1 : decode cX0_room 1 = .ok (.iconst 0, 1) := dk_3 (dk_at dksX0_room_0 1 rfl rfl)
theorem dX0_room_2 : decode cX0_room 2 = .ok (.iconst 1, 1) := dk_4 (dk_at dksX0_room_0 2 rfl rfl)
theorem dX0_room_3 : decode cX0_room 3 = .ok (.aload_n 0, 1) := dk_42 (dk_at dksX0_room_0 3 rfl rfl)
theorem dX0_room_4 : decode cX0_room 4 = .ok (.getfield 45, 3) := dk_180 0 45 (dk_at dksX0_room_0 4 rfl rfl)
theorem dX0_room_7 : decode cX0_room 7 = .ok (.invokevirtual 13, 3) := dk_182 0 13 (dk_at dksX0_room_0 7 rfl rfl)
theorem dX0_room_10 : decode cX0_room 10 = .ok (.ishl, 1) := dk_120 (dk_at dksX0_room_0 10 rfl rfl)
theorem dX0_room_11 : decode cX0_room 11 = .ok (.iconst 1, 1) := dk_4 (dk_at dksX0_room_0 11 rfl rfl)
theorem dX0_room_12 : decode cX0_room 12 = .ok (.isub, 1) := dk_100 (dk_at dksX0_room_0 12 rfl rfl)
theorem dX0_room_13 : decode cX0_room 13 = .ok (.invokestatic 5, 3) := dk_184 0 5 (dk_at dksX0_room_0 13 rfl rfl)
theorem dX0_room_16 : decode cX0_room 16 = .ok (.ifCond .eq 13, 3) := dk_153 0 13 (dk_at dksX0_room_0 16 rfl rfl)
theorem dX0_room_19 : decode cX0_room 19 = .ok (.iload_n 2, 1) := dk_28 (dk_at dksX0_room_0 19 rfl rfl)
theorem dX0_room_20 : decode cX0_room 20 = .ok (.iconst 0, 1) := dk_3 (dk_at dksX0_room_0 20 rfl rfl)
theorem dX0_room_21 : decode cX0_room 21 = .ok (.bipush 99, 2) := dk_16 99 (dk_at dksX0_room_0 21 rfl rfl)
theorem dX0_room_23 : decode cX0_room 23 = .ok (.invokestatic 5, 3) := dk_184 0 5 (dk_at dksX0_room_1 0 rfl rfl)
theorem dX0_room_26 : decode cX0_room 26 = .ok (.ifCond .ne 6, 3) := dk_154 0 6 (dk_at dksX0_room_1 3 rfl rfl)
theorem dX0_room_29 : decode cX0_room 29 = .ok (.bipush (-2), 2) := dk_16 254 (dk_at dksX0_room_1 6 rfl rfl)
theorem dX0_room_31 : decode cX0_room 31 = .ok (.ireturn, 1) := dk_172 (dk_at dksX0_room_1 8 rfl rfl)
theorem dX0_room_32 : decode cX0_room 32 = .ok (.iconst 0, 1) := dk_3 (dk_at dksX0_room_1 9 rfl rfl)
theorem dX0_room_33 : decode cX0_room 33 = .ok (.istore_n 3, 1) := dk_62 (dk_at dksX0_room_1 10 rfl rfl)
theorem dX0_room_34 : decode cX0_room 34 = .ok (.lconst 0, 1) := dk_9 (dk_at dksX0_room_1 11 rfl rfl)
theorem dX0_room_35 : decode cX0_room 35 = .ok (.lstore 4, 2) := dk_55 4 (dk_at dksX0_room_1 12 rfl rfl)
theorem dX0_room_37 : decode cX0_room 37 = .ok (.iconst 0, 1) := dk_3 (dk_at dksX0_room_1 14 rfl rfl)
theorem dX0_room_38 : decode cX0_room 38 = .ok (.istore 6, 2) := dk_54 6 (dk_at dksX0_room_1 15 rfl rfl)
theorem dX0_room_40 : decode cX0_room 40 = .ok (.iload 6, 2) := dk_21 6 (dk_at dksX0_room_1 17 rfl rfl)
theorem dX0_room_42 : decode cX0_room 42 = .ok (.iload_n 1, 1) := dk_27 (dk_at dksX0_room_1 19 rfl rfl)
theorem dX0_room_43 : decode cX0_room 43 = .ok (.if_icmp .gt 128, 3) := dk_163 0 128 (dk_at dksX0_room_1 20 rfl rfl)
theorem dX0_room_46 : decode cX0_room 46 = .ok (.iload 6, 2) := dk_21 6 (dk_at dksX0_room_2 0 rfl rfl)
theorem dX0_room_48 : decode cX0_room 48 = .ok (.iload_n 1, 1) := dk_27 (dk_at dksX0_room_2 2 rfl rfl)
theorem dX0_room_49 : decode cX0_room 49 = .ok (.iconst (-1), 1) := dk_2 (dk_at dksX0_room_2 3 rfl rfl)
theorem dX0_room_50 : decode cX0_room 50 = .ok (.ixor, 1) := dk_130 (dk_at dksX0_room_2 4 rfl rfl)
theorem dX0_room_51 : decode cX0_room 51 = .ok (.iand, 1) := dk_126 (dk_at dksX0_room_2 5 rfl rfl)
theorem dX0_room_52 : decode cX0_room 52 = .ok (.ifCond .eq 6, 3) := dk_153 0 6 (dk_at dksX0_room_2 6 rfl rfl)
theorem dX0_room_55 : decode cX0_room 55 = .ok (.goto 110, 3) := dk_167 0 110 (dk_at dksX0_room_2 9 rfl rfl)
theorem dX0_room_58 : decode cX0_room 58 = .ok (.iconst 0, 1) := dk_3 (dk_at dksX0_room_2 12 rfl rfl)
theorem dX0_room_59 : decode cX0_room 59 = .ok (.istore 7, 2) := dk_54 7 (dk_at dksX0_room_2 13 rfl rfl)
theorem dX0_room_61 : decode cX0_room 61 = .ok (.lconst 0, 1) := dk_9 (dk_at dksX0_room_2 15 rfl rfl)
theorem dX0_room_62 : decode cX0_room 62 = .ok (.lstore 8, 2) := dk_55 8 (dk_at dksX0_room_2 16 rfl rfl)
theorem dX0_room_64 : decode cX0_room 64 = .ok (.iconst 0, 1) := dk_3 (dk_at dksX0_room_2 18 rfl rfl)
theorem dX0_room_65 : decode cX0_room 65 = .ok (.istore 10, 2) := dk_54 10 (dk_at dksX0_room_2 19 rfl rfl)
theorem dX0_room_67 : decode cX0_room 67 = .ok (.iload 10, 2) := dk_21 10 (dk_at dksX0_room_2 21 rfl rfl)
theorem dX0_room_69 : decode cX0_room 69 = .ok (.aload_n 0, 1) := dk_42 (dk_at dksX0_room_2 23 rfl rfl)
theorem dX0_room_70 : decode cX0_room 70 = .ok (.getfield 45, 3) := dk_180 0 45 (dk_at dksX0_room_3 0 rfl rfl)
theorem dX0_room_73 : decode cX0_room 73 = .ok (.invokevirtual 13, 3) := dk_182 0 13 (dk_at dksX0_room_3 3 rfl rfl)
theorem dX0_room_76 : decode cX0_room 76 = .ok (.if_icmp .ge 65, 3) := dk_162 0 65 (dk_at dksX0_room_3 6 rfl rfl)
theorem dX0_room_79 : decode cX0_room 79 = .ok (.iload 6, 2) := dk_21 6 (dk_at dksX0_room_3 9 rfl rfl)
theorem dX0_room_81 : decode cX0_room 81 = .ok (.iload 10, 2) := dk_21 10 (dk_at dksX0_room_3 11 rfl rfl)
theorem dX0_room_83 : decode cX0_room 83 = .ok (.ishr, 1) := dk_122 (dk_at dksX0_room_3 13 rfl rfl)
theorem dX0_room_84 : decode cX0_room 84 = .ok (.iconst 1, 1) := dk_4 (dk_at dksX0_room_3 14 rfl rfl)
theorem dX0_room_85 : decode cX0_room 85 = .ok (.iand, 1) := dk_126 (dk_at dksX0_room_3 15 rfl rfl)
theorem dX0_room_86 : decode cX0_room 86 = .ok (.ifCond .ne 6, 3) := dk_154 0 6 (dk_at dksX0_room_3 16 rfl rfl)
theorem dX0_room_89 : decode cX0_room 89 = .ok (.goto 46, 3) := dk_167 0 46 (dk_at dksX0_room_3 19 rfl rfl)
theorem dX0_room_92 : decode cX0_room 92 = .ok (.iload 7, 2) := dk_21 7 (dk_at dksX0_room_3 22 rfl rfl)
theorem dX0_room_94 : decode cX0_room 94 = .ok (.aload_n 0, 1) := dk_42 (dk_at dksX0_room_4 0 rfl rfl)
theorem dX0_room_95 : decode cX0_room 95 = .ok (.getfield 45, 3) := dk_180 0 45 (dk_at dksX0_room_4 1 rfl rfl)
theorem dX0_room_98 : decode cX0_room 98 = .ok (.iload 10, 2) := dk_21 10 (dk_at dksX0_room_4 4 rfl rfl)
theorem dX0_room_100 : decode cX0_room 100 = .ok (.invokevirtual 19, 3) := dk_182 0 19 (dk_at dksX0_room_4 6 rfl rfl)
theorem dX0_room_103 : decode cX0_room 103 = .ok (.checkcast 132, 3) := dk_192 0 132 (dk_at dksX0_room_4 9 rfl rfl)
theorem dX0_room_106 : decode cX0_room 106 = .ok (.getfield 162, 3) := dk_180 0 162 (dk_at dksX0_room_4 12 rfl rfl)
theorem dX0_room_109 : decode cX0_room 109 = .ok (.iadd, 1) := dk_96 (dk_at dksX0_room_4 15 rfl rfl)
theorem dX0_room_110 : decode cX0_room 110 = .ok (.istore 7, 2) := dk_54 7 (dk_at dksX0_room_4 16 rfl rfl)
theorem dX0_room_112 : decode cX0_room 112 = .ok (.lload 8, 2) := dk_22 8 (dk_at dksX0_room_4 18 rfl rfl)
theorem dX0_room_114 : decode cX0_room 114 = .ok (.aload_n 0, 1) := dk_42 (dk_at dksX0_room_4 20 rfl rfl)
theorem dX0_room_115 : decode cX0_room 115 = .ok (.getfield 45, 3) := dk_180 0 45 (dk_at dksX0_room_4 21 rfl rfl)
theorem dX0_room_118 : decode cX0_room 118 = .ok (.iload 10, 2) := dk_21 10 (dk_at dksX0_room_5 0 rfl rfl)
theorem dX0_room_120 : decode cX0_room 120 = .ok (.invokevirtual 19, 3) := dk_182 0 19 (dk_at dksX0_room_5 2 rfl rfl)
theorem dX0_room_123 : decode cX0_room 123 = .ok (.checkcast 132, 3) := dk_192 0 132 (dk_at dksX0_room_5 5 rfl rfl)
theorem dX0_room_126 : decode cX0_room 126 = .ok (.getfield 141, 3) := dk_180 0 141 (dk_at dksX0_room_5 8 rfl rfl)
theorem dX0_room_129 : decode cX0_room 129 = .ok (.invokevirtual 182, 3) := dk_182 0 182 (dk_at dksX0_room_5 11 rfl rfl)
theorem dX0_room_132 : decode cX0_room 132 = .ok (.ladd, 1) := dk_97 (dk_at dksX0_room_5 14 rfl rfl)
theorem dX0_room_133 : decode cX0_room 133 = .ok (.lstore 8, 2) := dk_55 8 (dk_at dksX0_room_5 15 rfl rfl)
theorem dX0_room_135 : decode cX0_room 135 = .ok (.iinc 10 1, 3) := dk_132 10 1 (dk_at dksX0_room_5 17 rfl rfl)
theorem dX0_room_138 : decode cX0_room 138 = .ok (.goto (-71), 3) := dk_167 255 185 (dk_at dksX0_room_5 20 rfl rfl)
theorem dX0_room_141 : decode cX0_room 141 = .ok (.iload 7, 2) := dk_21 7 (dk_at dksX0_room_6 0 rfl rfl)
theorem dX0_room_143 : decode cX0_room 143 = .ok (.iload_n 2, 1) := dk_28 (dk_at dksX0_room_6 2 rfl rfl)
theorem dX0_room_144 : decode cX0_room 144 = .ok (.if_icmp .gt 21, 3) := dk_163 0 21 (dk_at dksX0_room_6 3 rfl rfl)
theorem dX0_room_147 : decode cX0_room 147 = .ok (.lload 8, 2) := dk_22 8 (dk_at dksX0_room_6 6 rfl rfl)
theorem dX0_room_149 : decode cX0_room 149 = .ok (.lload 4, 2) := dk_22 4 (dk_at dksX0_room_6 8 rfl rfl)
theorem dX0_room_151 : decode cX0_room 151 = .ok (.lcmp, 1) := dk_148 (dk_at dksX0_room_6 10 rfl rfl)
theorem dX0_room_152 : decode cX0_room 152 = .ok (.ifCond .gt 6, 3) := dk_157 0 6 (dk_at dksX0_room_6 11 rfl rfl)
theorem dX0_room_155 : decode cX0_room 155 = .ok (.goto 10, 3) := dk_167 0 10 (dk_at dksX0_room_6 14 rfl rfl)
theorem dX0_room_158 : decode cX0_room 158 = .ok (.iload 6, 2) := dk_21 6 (dk_at dksX0_room_6 17 rfl rfl)
theorem dX0_room_160 : decode cX0_room 160 = .ok (.istore_n 3, 1) := dk_62 (dk_at dksX0_room_6 19 rfl rfl)
theorem dX0_room_161 : decode cX0_room 161 = .ok (.lload 8, 2) := dk_22 8 (dk_at dksX0_room_6 20 rfl rfl)
theorem dX0_room_163 : decode cX0_room 163 = .ok (.lstore 4, 2) := dk_55 4 (dk_at dksX0_room_6 22 rfl rfl)
theorem dX0_room_165 : decode cX0_room 165 = .ok (.iinc 6 1, 3) := dk_132 6 1 (dk_at dksX0_room_7 0 rfl rfl)
theorem dX0_room_168 : decode cX0_room 168 = .ok (.goto (-128), 3) := dk_167 255 128 (dk_at dksX0_room_7 3 rfl rfl)
theorem dX0_room_171 : decode cX0_room 171 = .ok (.iload_n 3, 1) := dk_29 (dk_at dksX0_room_7 6 rfl rfl)
theorem dX0_room_172 : decode cX0_room 172 = .ok (.ireturn, 1) := dk_172 (dk_at dksX0_room_7 7 rfl rfl)
abbrev cX0_lies : ByteArray := prog_1_method_40_code
def yX0_lies : MethodName := ⟨RX0, "lies", "(II)I"⟩
def dkwX0_lies_3 : List UInt8 := [21, 5, 172]
abbrev dktX0_lies_3 : List UInt8 := dkwX0_lies_3 ++ []
def dkwX0_lies_2 : List UInt8 := [21, 6, 47, 42, 180, 0, 86, 21, 5, 47, 148, 156, 0, 7, 21, 6, 54, 5, 132, 6, 1, 167, 255, 225]
abbrev dktX0_lies_2 : List UInt8 := dkwX0_lies_2 ++ dktX0_lies_3
def dkwX0_lies_1 : List UInt8 := [42, 45, 25, 4, 182, 1, 38, 3, 54, 5, 4, 54, 6, 21, 6, 7, 162, 0, 31, 42, 180, 0, 86]
abbrev dktX0_lies_1 : List UInt8 := dkwX0_lies_1 ++ dktX0_lies_2
def dkwX0_lies_0 : List UInt8 := [42, 27, 182, 0, 249, 78, 42, 28, 182, 0, 137, 58, 4, 45, 198, 0, 8, 25, 4, 199, 0, 5, 2, 172]
abbrev dktX0_lies_0 : List UInt8 := dkwX0_lies_0 ++ dktX0_lies_1
theorem dksX0_lies_0 : cX0_lies.data.toList.drop 0 = dktX0_lies_0 := by decide +kernel
theorem dksX0_lies_1 : cX0_lies.data.toList.drop 24 = dktX0_lies_1 := dk_seg dksX0_lies_0 24 rfl rfl
theorem dksX0_lies_2 : cX0_lies.data.toList.drop 47 = dktX0_lies_2 := dk_seg dksX0_lies_1 23 rfl rfl
theorem dksX0_lies_3 : cX0_lies.data.toList.drop 71 = dktX0_lies_3 := dk_seg dksX0_lies_2 24 rfl rfl
theorem dX0_lies_0 : decode cX0_lies 0 = .ok (.aload_n 0, 1) := dk_42 (dk_at dksX0_lies_0 0 rfl rfl)
theorem dX0_lies_1 : decode cX0_lies 1 = .ok (.iload_n 1, 1) := dk_27 (dk_at dksX0_lies_0 1 rfl rfl)
theorem dX0_lies_2 : decode cX0_lies 2 = .ok (.invokevirtual 249, 3) := dk_182 0 249 (dk_at dksX0_lies_0 2 rfl rfl)
theorem dX0_lies_5 : decode cX0_lies 5 = .ok (.astore_n 3, 1) := dk_78 (dk_at dksX0_lies_0 5 rfl rfl)
theorem dX0_lies_6 : decode cX0_lies 6 = .ok (.aload_n 0, 1) := dk_42 (dk_at dksX0_lies_0 6 rfl rfl)
theorem dX0_lies_7 : decode cX0_lies 7 = .ok (.iload_n 2, 1) := dk_28 (dk_at dksX0_lies_0 7 rfl rfl)
theorem dX0_lies_8 : decode cX0_lies 8 = .ok (.invokevirtual 137, 3) := dk_182 0 137 (dk_at dksX0_lies_0 8 rfl rfl)
theorem dX0_lies_11 : decode cX0_lies 11 = .ok (.astore 4, 2) := dk_58 4 (dk_at dksX0_lies_0 11 rfl rfl)
theorem dX0_lies_13 : decode cX0_lies 13 = .ok (.aload_n 3, 1) := dk_45 (dk_at dksX0_lies_0 13 rfl rfl)
theorem dX0_lies_14 : decode cX0_lies 14 = .ok (.ifnull 8, 3) := dk_198 0 8 (dk_at dksX0_lies_0 14 rfl rfl)
theorem dX0_lies_17 : decode cX0_lies 17 = .ok (.aload 4, 2) := dk_25 4 (dk_at dksX0_lies_0 17 rfl rfl)
theorem dX0_lies_19 : decode cX0_lies 19 = .ok (.ifnonnull 5, 3) := dk_199 0 5 (dk_at dksX0_lies_0 19 rfl rfl)
theorem dX0_lies_22 : decode cX0_lies 22 = .ok (.iconst (-1), 1) := dk_2 (dk_at dksX0_lies_0 22 rfl rfl)
theorem dX0_lies_23 : decode cX0_lies 23 = .ok (.ireturn, 1) := dk_172 (dk_at dksX0_lies_0 23 rfl rfl)
theorem dX0_lies_24 : decode cX0_lies 24 = .ok (.aload_n 0, 1) := dk_42 (dk_at dksX0_lies_1 0 rfl rfl)
theorem dX0_lies_25 : decode cX0_lies 25 = .ok (.aload_n 3, 1) := dk_45 (dk_at dksX0_lies_1 1 rfl rfl)
theorem dX0_lies_26 : decode cX0_lies 26 = .ok (.aload 4, 2) := dk_25 4 (dk_at dksX0_lies_1 2 rfl rfl)
theorem dX0_lies_28 : decode cX0_lies 28 = .ok (.invokevirtual 294, 3) := dk_182 1 38 (dk_at dksX0_lies_1 4 rfl rfl)
theorem dX0_lies_31 : decode cX0_lies 31 = .ok (.iconst 0, 1) := dk_3 (dk_at dksX0_lies_1 7 rfl rfl)
theorem dX0_lies_32 : decode cX0_lies 32 = .ok (.istore 5, 2) := dk_54 5 (dk_at dksX0_lies_1 8 rfl rfl)
theorem dX0_lies_34 : decode cX0_lies 34 = .ok (.iconst 1, 1) := dk_4 (dk_at dksX0_lies_1 10 rfl rfl)
theorem dX0_lies_35 : decode cX0_lies 35 = .ok (.istore 6, 2) := dk_54 6 (dk_at dksX0_lies_1 11 rfl rfl)
theorem dX0_lies_37 : decode cX0_lies 37 = .ok (.iload 6, 2) := dk_21 6 (dk_at dksX0_lies_1 13 rfl rfl)
theorem dX0_lies_39 : decode cX0_lies 39 = .ok (.iconst 4, 1) := dk_7 (dk_at dksX0_lies_1 15 rfl rfl)
theorem dX0_lies_40 : decode cX0_lies 40 = .ok (.if_icmp .ge 31, 3) := dk_162 0 31 (dk_at dksX0_lies_1 16 rfl rfl)
theorem dX0_lies_43 : decode cX0_lies 43 = .ok (.aload_n 0, 1) := dk_42 (dk_at dksX0_lies_1 19 rfl rfl)
theorem dX0_lies_44 : decode cX0_lies 44 = .ok (.getfield 86, 3) := dk_180 0 86 (dk_at dksX0_lies_1 20 rfl rfl)
theorem dX0_lies_47 : decode cX0_lies 47 = .ok (.iload 6, 2) := dk_21 6 (dk_at dksX0_lies_2 0 rfl rfl)
theorem dX0_lies_49 : decode cX0_lies 49 = .ok (.laload, 1) := dk_47 (dk_at dksX0_lies_2 2 rfl rfl)
theorem dX0_lies_50 : decode cX0_lies 50 = .ok (.aload_n 0, 1) := dk_42 (dk_at dksX0_lies_2 3 rfl rfl)
theorem dX0_lies_51 : decode cX0_lies 51 = .ok (.getfield 86, 3) := dk_180 0 86 (dk_at dksX0_lies_2 4 rfl rfl)
theorem dX0_lies_54 : decode cX0_lies 54 = .ok (.iload 5, 2) := dk_21 5 (dk_at dksX0_lies_2 7 rfl rfl)
theorem dX0_lies_56 : decode cX0_lies 56 = .ok (.laload, 1) := dk_47 (dk_at dksX0_lies_2 9 rfl rfl)
theorem dX0_lies_57 : decode cX0_lies 57 = .ok (.lcmp, 1) := dk_148 (dk_at dksX0_lies_2 10 rfl rfl)
theorem dX0_lies_58 : decode cX0_lies 58 = .ok (.ifCond .ge 7, 3) := dk_156 0 7 (dk_at dksX0_lies_2 11 rfl rfl)
theorem dX0_lies_61 : decode cX0_lies 61 = .ok (.iload 6, 2) := dk_21 6 (dk_at dksX0_lies_2 14 rfl rfl)
theorem dX0_lies_63 : decode cX0_lies 63 = .ok (.istore 5, 2) := dk_54 5 (dk_at dksX0_lies_2 16 rfl rfl)
theorem dX0_lies_65 : decode cX0_lies 65 = .ok (.iinc 6 1, 3) := dk_132 6 1 (dk_at dksX0_lies_2 18 rfl rfl)
theorem dX0_lies_68 : decode cX0_lies 68 = .ok (.goto (-31), 3) := dk_167 255 225 (dk_at dksX0_lies_2 21 rfl rfl)
theorem dX0_lies_71 : decode cX0_lies 71 = .ok (.iload 5, 2) := dk_21 5 (dk_at dksX0_lies_3 0 rfl rfl)
theorem dX0_lies_73 : decode cX0_lies 73 = .ok (.ireturn, 1) := dk_172 (dk_at dksX0_lies_3 2 rfl rfl)
abbrev cX0_findSaid : ByteArray := prog_1_method_39_code
def yX0_findSaid : MethodName := ⟨RX0, "findSaid", "(LFortyDays$Rule;LFortyDays$Ship;)V"⟩
def dkwX0_findSaid_2 : List UInt8 := [180, 0, 70, 182, 1, 17, 80, 132, 3, 1, 167, 255, 202, 177]
abbrev dktX0_findSaid_2 : List UInt8 := dkwX0_findSaid_2 ++ []
def dkwX0_findSaid_1 : List UInt8 := [180, 0, 141, 180, 0, 154, 180, 0, 118, 29, 46, 182, 1, 34, 42, 180, 0, 86, 29, 42, 43, 42]
abbrev dktX0_findSaid_1 : List UInt8 := dkwX0_findSaid_1 ++ dktX0_findSaid_2
def dkwX0_findSaid_0 : List UInt8 := [3, 62, 29, 7, 162, 0, 55, 42, 180, 0, 70, 44, 180, 0, 141, 180, 0, 154, 44, 180, 0, 162, 29, 44]
abbrev dktX0_findSaid_0 : List UInt8 := dkwX0_findSaid_0 ++ dktX0_findSaid_1
theorem dksX0_findSaid_0 : cX0_findSaid.data.toList.drop 0 = dktX0_findSaid_0 := by decide +kernel
theorem dksX0_findSaid_1 : cX0_findSaid.data.toList.drop 24 = dktX0_findSaid_1 := dk_seg dksX0_findSaid_0 24 rfl rfl
theorem dksX0_findSaid_2 : cX0_findSaid.data.toList.drop 46 = dktX0_findSaid_2 := dk_seg dksX0_findSaid_1 22 rfl rfl
theorem dX0_findSaid_0 : decode cX0_findSaid 0 = .ok (.iconst 0, 1) := dk_3 (dk_at dksX0_findSaid_0 0 rfl rfl)
theorem dX0_findSaid_1 : decode cX0_findSaid 1 = .ok (.istore_n 3, 1) := dk_62 (dk_at dksX0_findSaid_0 1 rfl rfl)
theorem dX0_findSaid_2 : decode cX0_findSaid 2 = .ok (.iload_n 3, 1) := dk_29 (dk_at dksX0_findSaid_0 2 rfl rfl)
theorem dX0_findSaid_3 : decode cX0_findSaid 3 = .ok (.iconst 4, 1) := dk_7 (dk_at dksX0_findSaid_0 3 rfl rfl)
theorem dX0_findSaid_4 : decode cX0_findSaid 4 = .ok (.if_icmp .ge 55, 3) := dk_162 0 55 (dk_at dksX0_findSaid_0 4 rfl rfl)
theorem dX0_findSaid_7 : decode cX0_findSaid 7 = .ok (.aload_n 0, 1) := dk_42 (dk_at dksX0_findSaid_0 7 rfl rfl)
theorem dX0_findSaid_8 : decode cX0_findSaid 8 = .ok (.getfield 70, 3) := dk_180 0 70 (dk_at dksX0_findSaid_0 8 rfl rfl)
theorem dX0_findSaid_11 : decode cX0_findSaid 11 = .ok (.aload_n 2, 1) := dk_44 (dk_at dksX0_findSaid_0 11 rfl rfl)
theorem dX0_findSaid_12 : decode cX0_findSaid 12 = .ok (.getfield 141, 3) := dk_180 0 141 (dk_at dksX0_findSaid_0 12 rfl rfl)
theorem dX0_findSaid_15 : decode cX0_findSaid 15 = .ok (.getfield 154, 3) := dk_180 0 154 (dk_at dksX0_findSaid_0 15 rfl rfl)
theorem dX0_findSaid_18 : decode cX0_findSaid 18 = .ok (.aload_n 2, 1) := dk_44 (dk_at dksX0_findSaid_0 18 rfl rfl)
theorem dX0_findSaid_19 : decode cX0_findSaid 19 = .ok (.getfield 162, 3) := dk_180 0 162 (dk_at dksX0_findSaid_0 19 rfl rfl)
theorem dX0_findSaid_22 : decode cX0_findSaid 22 = .ok (.iload_n 3, 1) := dk_29 (dk_at dksX0_findSaid_0 22 rfl rfl)
theorem dX0_findSaid_23 : decode cX0_findSaid 23 = .ok (.aload_n 2, 1) := dk_44 (dk_at dksX0_findSaid_0 23 rfl rfl)
theorem dX0_findSaid_24 : decode cX0_findSaid 24 = .ok (.getfield 141, 3) := dk_180 0 141 (dk_at dksX0_findSaid_1 0 rfl rfl)
theorem dX0_findSaid_27 : decode cX0_findSaid 27 = .ok (.getfield 154, 3) := dk_180 0 154 (dk_at dksX0_findSaid_1 3 rfl rfl)
theorem dX0_findSaid_30 : decode cX0_findSaid 30 = .ok (.getfield 118, 3) := dk_180 0 118 (dk_at dksX0_findSaid_1 6 rfl rfl)
theorem dX0_findSaid_33 : decode cX0_findSaid 33 = .ok (.iload_n 3, 1) := dk_29 (dk_at dksX0_findSaid_1 9 rfl rfl)
theorem dX0_findSaid_34 : decode cX0_findSaid 34 = .ok (.iaload, 1) := dk_46 (dk_at dksX0_findSaid_1 10 rfl rfl)
theorem dX0_findSaid_35 : decode cX0_findSaid 35 = .ok (.invokevirtual 290, 3) := dk_182 1 34 (dk_at dksX0_findSaid_1 11 rfl rfl)
theorem dX0_findSaid_38 : decode cX0_findSaid 38 = .ok (.aload_n 0, 1) := dk_42 (dk_at dksX0_findSaid_1 14 rfl rfl)
theorem dX0_findSaid_39 : decode cX0_findSaid 39 = .ok (.getfield 86, 3) := dk_180 0 86 (dk_at dksX0_findSaid_1 15 rfl rfl)
theorem dX0_findSaid_42 : decode cX0_findSaid 42 = .ok (.iload_n 3, 1) := dk_29 (dk_at dksX0_findSaid_1 18 rfl rfl)
theorem dX0_findSaid_43 : decode cX0_findSaid 43 = .ok (.aload_n 0, 1) := dk_42 (dk_at dksX0_findSaid_1 19 rfl rfl)
theorem dX0_findSaid_44 : decode cX0_findSaid 44 = .ok (.aload_n 1, 1) := dk_43 (dk_at dksX0_findSaid_1 20 rfl rfl)
theorem dX0_findSaid_45 : decode cX0_findSaid 45 = .ok (.aload_n 0, 1) := dk_42 (dk_at dksX0_findSaid_1 21 rfl rfl)
theorem dX0_findSaid_46 : decode cX0_findSaid 46 = .ok (.getfield 70, 3) := dk_180 0 70 (dk_at dksX0_findSaid_2 0 rfl rfl)
theorem dX0_findSaid_49 : decode cX0_findSaid 49 = .ok (.invokevirtual 273, 3) := dk_182 1 17 (dk_at dksX0_findSaid_2 3 rfl rfl)
theorem dX0_findSaid_52 : decode cX0_findSaid 52 = .ok (.lastore, 1) := dk_80 (dk_at dksX0_findSaid_2 6 rfl rfl)
theorem dX0_findSaid_53 : decode cX0_findSaid 53 = .ok (.iinc 3 1, 3) := dk_132 3 1 (dk_at dksX0_findSaid_2 7 rfl rfl)
theorem dX0_findSaid_56 : decode cX0_findSaid 56 = .ok (.goto (-54), 3) := dk_167 255 202 (dk_at dksX0_findSaid_2 10 rfl rfl)
theorem dX0_findSaid_59 : decode cX0_findSaid 59 = .ok (.return_, 1) := dk_177 (dk_at dksX0_findSaid_2 13 rfl rfl)
abbrev cX0_fine : ByteArray := prog_1_method_41_code
def yX0_fine : MethodName := ⟨RX0, "fine", "(II)I"⟩
def dkwX0_fine_5 : List UInt8 := [16, 251, 167, 0, 6, 22, 7, 136, 172]
abbrev dktX0_fine_5 : List UInt8 := dkwX0_fine_5 ++ []
def dkwX0_fine_4 : List UInt8 := [47, 22, 5, 101, 20, 1, 42, 97, 20, 1, 44, 109, 55, 7, 22, 7, 20, 1, 46, 148, 158, 0, 8]
abbrev dktX0_fine_4 : List UInt8 := dkwX0_fine_4 ++ dktX0_fine_5
def dkwX0_fine_3 : List UInt8 := [22, 5, 22, 10, 184, 0, 207, 55, 5, 132, 9, 1, 167, 255, 230, 42, 180, 0, 86, 25, 4, 180, 0, 161]
abbrev dktX0_fine_3 : List UInt8 := dkwX0_fine_3 ++ dktX0_fine_4
def dkwX0_fine_2 : List UInt8 := [58, 7, 25, 7, 190, 54, 8, 3, 54, 9, 21, 9, 21, 8, 162, 0, 25, 25, 7, 21, 9, 47, 55, 10]
abbrev dktX0_fine_2 : List UInt8 := dkwX0_fine_2 ++ dktX0_fine_3
def dkwX0_fine_1 : List UInt8 := [42, 45, 25, 4, 182, 1, 38, 42, 180, 0, 86, 25, 4, 180, 0, 161, 47, 55, 5, 42, 180, 0, 86]
abbrev dktX0_fine_1 : List UInt8 := dkwX0_fine_1 ++ dktX0_fine_2
def dkwX0_fine_0 : List UInt8 := [42, 27, 182, 0, 249, 78, 42, 28, 182, 0, 137, 58, 4, 45, 198, 0, 8, 25, 4, 199, 0, 5, 2, 172]
abbrev dktX0_fine_0 : List UInt8 := dkwX0_fine_0 ++ dktX0_fine_1
theorem dksX0_fine_0 : cX0_fine.data.toList.drop 0 = dktX0_fine_0 := by decide +kernel
theorem dksX0_fine_1 : cX0_fine.data.toList.drop 24 = dktX0_fine_1 := dk_seg dksX0_fine_0 24 rfl rfl
theorem dksX0_fine_2 : cX0_fine.data.toList.drop 47 = dktX0_fine_2 := dk_seg dksX0_fine_1 23 rfl rfl
theorem dksX0_fine_3 : cX0_fine.data.toList.drop 71 = dktX0_fine_3 := dk_seg dksX0_fine_2 24 rfl rfl
theorem dksX0_fine_4 : cX0_fine.data.toList.drop 95 = dktX0_fine_4 := dk_seg dksX0_fine_3 24 rfl rfl
theorem dksX0_fine_5 : cX0_fine.data.toList.drop 118 = dktX0_fine_5 := dk_seg dksX0_fine_4 23 rfl rfl
theorem dX0_fine_0 : decode cX0_fine 0 = .ok (.aload_n 0, 1) := dk_42 (dk_at dksX0_fine_0 0 rfl rfl)
theorem dX0_fine_1 : decode cX0_fine 1 = .ok (.iload_n 1, 1) := dk_27 (dk_at dksX0_fine_0 1 rfl rfl)
theorem dX0_fine_2 : decode cX0_fine 2 = .ok (.invokevirtual 249, 3) := dk_182 0 249 (dk_at dksX0_fine_0 2 rfl rfl)
theorem dX0_fine_5 : decode cX0_fine 5 = .ok (.astore_n 3, 1) := dk_78 (dk_at dksX0_fine_0 5 rfl rfl)
theorem dX0_fine_6 : decode cX0_fine 6 = .ok (.aload_n 0, 1) := dk_42 (dk_at dksX0_fine_0 6 rfl rfl)
theorem dX0_fine_7 : decode cX0_fine 7 = .ok (.iload_n 2, 1) := dk_28 (dk_at dksX0_fine_0 7 rfl rfl)
theorem dX0_fine_8 : decode cX0_fine 8 = .ok (.invokevirtual 137, 3) := dk_182 0 137 (dk_at dksX0_fine_0 8 rfl rfl)
theorem dX0_fine_11 : decode cX0_fine 11 = .ok (.astore 4, 2) := dk_58 4 (dk_at dksX0_fine_0 11 rfl rfl)
theorem dX0_fine_13 : decode cX0_fine 13 = .ok (.aload_n 3, 1) := dk_45 (dk_at dksX0_fine_0 13 rfl rfl)
theorem dX0_fine_14 : decode cX0_fine 14 = .ok (.ifnull 8, 3) := dk_198 0 8 (dk_at dksX0_fine_0 14 rfl rfl)
theorem dX0_fine_17 : decode cX0_fine 17 = .ok (.aload 4, 2) := dk_25 4 (dk_at dksX0_fine_0 17 rfl rfl)
theorem dX0_fine_19 : decode cX0_fine 19 = .ok (.ifnonnull 5, 3) := dk_199 0 5 (dk_at dksX0_fine_0 19 rfl rfl)
theorem dX0_fine_22 : decode cX0_fine 22 = .ok (.iconst (-1), 1) := dk_2 (dk_at dksX0_fine_0 22 rfl rfl)
theorem dX0_fine_23 : decode cX0_fine 23 = .ok (.ireturn, 1) := dk_172 (dk_at dksX0_fine_0 23 rfl rfl)
theorem dX0_fine_24 : decode cX0_fine 24 = .ok (.aload_n 0, 1) := dk_42 (dk_at dksX0_fine_1 0 rfl rfl)
theorem dX0_fine_25 : decode cX0_fine 25 = .ok (.aload_n 3, 1) := dk_45 (dk_at dksX0_fine_1 1 rfl rfl)
theorem dX0_fine_26 : decode cX0_fine 26 = .ok (.aload 4, 2) := dk_25 4 (dk_at dksX0_fine_1 2 rfl rfl)
theorem dX0_fine_28 : decode cX0_fine 28 = .ok (.invokevirtual 294, 3) := dk_182 1 38 (dk_at dksX0_fine_1 4 rfl rfl)
theorem dX0_fine_31 : decode cX0_fine 31 = .ok (.aload_n 0, 1) := dk_42 (dk_at dksX0_fine_1 7 rfl rfl)
theorem dX0_fine_32 : decode cX0_fine 32 = .ok (.getfield 86, 3) := dk_180 0 86 (dk_at dksX0_fine_1 8 rfl rfl)
theorem dX0_fine_35 : decode cX0_fine 35 = .ok (.aload 4, 2) := dk_25 4 (dk_at dksX0_fine_1 11 rfl rfl)
theorem dX0_fine_37 : decode cX0_fine 37 = .ok (.getfield 161, 3) := dk_180 0 161 (dk_at dksX0_fine_1 13 rfl rfl)
theorem dX0_fine_40 : decode cX0_fine 40 = .ok (.laload, 1) := dk_47 (dk_at dksX0_fine_1 16 rfl rfl)
theorem dX0_fine_41 : decode cX0_fine 41 = .ok (.lstore 5, 2) := dk_55 5 (dk_at dksX0_fine_1 17 rfl rfl)
theorem dX0_fine_43 : decode cX0_fine 43 = .ok (.aload_n 0, 1) := dk_42 (dk_at dksX0_fine_1 19 rfl rfl)
theorem dX0_fine_44 : decode cX0_fine 44 = .ok (.getfield 86, 3) := dk_180 0 86 (dk_at dksX0_fine_1 20 rfl rfl)
theorem dX0_fine_47 : decode cX0_fine 47 = .ok (.astore 7, 2) := dk_58 7 (dk_at dksX0_fine_2 0 rfl rfl)
theorem dX0_fine_49 : decode cX0_fine 49 = .ok (.aload 7, 2) := dk_25 7 (dk_at dksX0_fine_2 2 rfl rfl)
theorem dX0_fine_51 : decode cX0_fine 51 = .ok (.arraylength, 1) := dk_190 (dk_at dksX0_fine_2 4 rfl rfl)
theorem dX0_fine_52 : decode cX0_fine 52 = .ok (.istore 8, 2) := dk_54 8 (dk_at dksX0_fine_2 5 rfl rfl)
theorem dX0_fine_54 : decode cX0_fine 54 = .ok (.iconst 0, 1) := dk_3 (dk_at dksX0_fine_2 7 rfl rfl)
theorem dX0_fine_55 : decode cX0_fine 55 = .ok (.istore 9, 2) := dk_54 9 (dk_at dksX0_fine_2 8 rfl rfl)
theorem dX0_fine_57 : decode cX0_fine 57 = .ok (.iload 9, 2) := dk_21 9 (dk_at dksX0_fine_2 10 rfl rfl)
theorem dX0_fine_59 : decode cX0_fine 59 = .ok (.iload 8, 2) := dk_21 8 (dk_at dksX0_fine_2 12 rfl rfl)
theorem dX0_fine_61 : decode cX0_fine 61 = .ok (.if_icmp .ge 25, 3) := dk_162 0 25 (dk_at dksX0_fine_2 14 rfl rfl)
theorem dX0_fine_64 : decode cX0_fine 64 = .ok (.aload 7, 2) := dk_25 7 (dk_at dksX0_fine_2 17 rfl rfl)
theorem dX0_fine_66 : decode cX0_fine 66 = .ok (.iload 9, 2) := dk_21 9 (dk_at dksX0_fine_2 19 rfl rfl)
theorem dX0_fine_68 : decode cX0_fine 68 = .ok (.laload, 1) := dk_47 (dk_at dksX0_fine_2 21 rfl rfl)
theorem dX0_fine_69 : decode cX0_fine 69 = .ok (.lstore 10, 2) := dk_55 10 (dk_at dksX0_fine_2 22 rfl rfl)
theorem dX0_fine_71 : decode cX0_fine 71 = .ok (.lload 5, 2) := dk_22 5 (dk_at dksX0_fine_3 0 rfl rfl)
theorem dX0_fine_73 : decode cX0_fine 73 = .ok (.lload 10, 2) := dk_22 10 (dk_at dksX0_fine_3 2 rfl rfl)
theorem dX0_fine_75 : decode cX0_fine 75 = .ok (.invokestatic 207, 3) := dk_184 0 207 (dk_at dksX0_fine_3 4 rfl rfl)
theorem dX0_fine_78 : decode cX0_fine 78 = .ok (.lstore 5, 2) := dk_55 5 (dk_at dksX0_fine_3 7 rfl rfl)
theorem dX0_fine_80 : decode cX0_fine 80 = .ok (.iinc 9 1, 3) := dk_132 9 1 (dk_at dksX0_fine_3 9 rfl rfl)
theorem dX0_fine_83 : decode cX0_fine 83 = .ok (.goto (-26), 3) := dk_167 255 230 (dk_at dksX0_fine_3 12 rfl rfl)
theorem dX0_fine_86 : decode cX0_fine 86 = .ok (.aload_n 0, 1) := dk_42 (dk_at dksX0_fine_3 15 rfl rfl)
theorem dX0_fine_87 : decode cX0_fine 87 = .ok (.getfield 86, 3) := dk_180 0 86 (dk_at dksX0_fine_3 16 rfl rfl)
theorem dX0_fine_90 : decode cX0_fine 90 = .ok (.aload 4, 2) := dk_25 4 (dk_at dksX0_fine_3 19 rfl rfl)
theorem dX0_fine_92 : decode cX0_fine 92 = .ok (.getfield 161, 3) := dk_180 0 161 (dk_at dksX0_fine_3 21 rfl rfl)
theorem dX0_fine_95 : decode cX0_fine 95 = .ok (.laload, 1) := dk_47 (dk_at dksX0_fine_4 0 rfl rfl)
theorem dX0_fine_96 : decode cX0_fine 96 = .ok (.lload 5, 2) := dk_22 5 (dk_at dksX0_fine_4 1 rfl rfl)
theorem dX0_fine_98 : decode cX0_fine 98 = .ok (.lsub, 1) := dk_101 (dk_at dksX0_fine_4 3 rfl rfl)
theorem dX0_fine_99 : decode cX0_fine 99 = .ok (.ldc2_w 298, 3) := dk_20 1 42 (dk_at dksX0_fine_4 4 rfl rfl)
theorem dX0_fine_102 : decode cX0_fine 102 = .ok (.ladd, 1) := dk_97 (dk_at dksX0_fine_4 7 rfl rfl)
theorem dX0_fine_103 : decode cX0_fine 103 = .ok (.ldc2_w 300, 3) := dk_20 1 44 (dk_at dksX0_fine_4 8 rfl rfl)
theorem dX0_fine_106 : decode cX0_fine 106 = .ok (.ldiv, 1) := dk_109 (dk_at dksX0_fine_4 11 rfl rfl)
theorem dX0_fine_107 : decode cX0_fine 107 = .ok (.lstore 7, 2) := dk_55 7 (dk_at dksX0_fine_4 12 rfl rfl)
theorem dX0_fine_109 : decode cX0_fine 109 = .ok (.lload 7, 2) := dk_22 7 (dk_at dksX0_fine_4 14 rfl rfl)
theorem dX0_fine_111 : decode cX0_fine 111 = .ok (.ldc2_w 302, 3) := dk_20 1 46 (dk_at dksX0_fine_4 16 rfl rfl)
theorem dX0_fine_114 : decode cX0_fine 114 = .ok (.lcmp, 1) := dk_148 (dk_at dksX0_fine_4 19 rfl rfl)
theorem dX0_fine_115 : decode cX0_fine 115 = .ok (.ifCond .le 8, 3) := dk_158 0 8 (dk_at dksX0_fine_4 20 rfl rfl)
theorem dX0_fine_118 : decode cX0_fine 118 = .ok (.bipush (-5), 2) := dk_16 251 (dk_at dksX0_fine_5 0 rfl rfl)
theorem dX0_fine_120 : decode cX0_fine 120 = .ok (.goto 6, 3) := dk_167 0 6 (dk_at dksX0_fine_5 2 rfl rfl)
theorem dX0_fine_123 : decode cX0_fine 123 = .ok (.lload 7, 2) := dk_22 7 (dk_at dksX0_fine_5 5 rfl rfl)
theorem dX0_fine_125 : decode cX0_fine 125 = .ok (.l2i, 1) := dk_136 (dk_at dksX0_fine_5 7 rfl rfl)
theorem dX0_fine_126 : decode cX0_fine 126 = .ok (.ireturn, 1) := dk_172 (dk_at dksX0_fine_5 8 rfl rfl)
abbrev cX0_rest : ByteArray := prog_1_method_45_code
def yX0_rest : MethodName := ⟨RX0, "rest", "(III)I"⟩
def dkwX0_rest_4 : List UInt8 := [153, 0, 6, 21, 7, 172, 132, 7, 1, 167, 255, 226, 16, 251, 172]
abbrev dktX0_rest_4 : List UInt8 := dkwX0_rest_4 ++ []
def dkwX0_rest_3 : List UInt8 := [54, 7, 21, 7, 16, 100, 162, 0, 29, 42, 21, 7, 16, 10, 108, 21, 7, 16, 10, 112, 182, 1, 62]
abbrev dktX0_rest_3 : List UInt8 := dkwX0_rest_3 ++ dktX0_rest_4
def dkwX0_rest_2 : List UInt8 := [172, 42, 3, 25, 4, 25, 5, 25, 6, 182, 1, 58, 42, 4, 25, 5, 25, 4, 25, 6, 182, 1, 58, 3]
abbrev dktX0_rest_2 : List UInt8 := dkwX0_rest_2 ++ dktX0_rest_3
def dkwX0_rest_1 : List UInt8 := [198, 0, 13, 25, 5, 198, 0, 8, 25, 6, 199, 0, 5, 2, 172, 25, 4, 25, 5, 166, 0, 6, 16, 254]
abbrev dktX0_rest_1 : List UInt8 := dkwX0_rest_1 ++ dktX0_rest_2
def dkwX0_rest_0 : List UInt8 := [42, 27, 182, 0, 114, 58, 4, 42, 28, 182, 0, 114, 58, 5, 42, 29, 182, 0, 137, 58, 6, 25, 4]
abbrev dktX0_rest_0 : List UInt8 := dkwX0_rest_0 ++ dktX0_rest_1
theorem dksX0_rest_0 : cX0_rest.data.toList.drop 0 = dktX0_rest_0 := by decide +kernel
theorem dksX0_rest_1 : cX0_rest.data.toList.drop 23 = dktX0_rest_1 := dk_seg dksX0_rest_0 23 rfl rfl
theorem dksX0_rest_2 : cX0_rest.data.toList.drop 47 = dktX0_rest_2 := dk_seg dksX0_rest_1 24 rfl rfl
theorem dksX0_rest_3 : cX0_rest.data.toList.drop 71 = dktX0_rest_3 := dk_seg dksX0_rest_2 24 rfl rfl
theorem dksX0_rest_4 : cX0_rest.data.toList.drop 94 = dktX0_rest_4 := dk_seg dksX0_rest_3 23 rfl rfl
theorem dX0_rest_0 : decode cX0_rest 0 = .ok (.aload_n 0, 1) := dk_42 (dk_at dksX0_rest_0 0 rfl rfl)
theorem dX0_rest_1 : decode cX0_rest 1 = .ok (.iload_n 1, 1) := dk_27 (dk_at dksX0_rest_0 1 rfl rfl)
theorem dX0_rest_2 : decode cX0_rest 2 = .ok (.invokevirtual 114, 3) := dk_182 0 114 (dk_at dksX0_rest_0 2 rfl rfl)
theorem dX0_rest_5 : decode cX0_rest 5 = .ok (.astore 4, 2) := dk_58 4 (dk_at dksX0_rest_0 5 rfl rfl)
theorem dX0_rest_7 : decode cX0_rest 7 = .ok (.aload_n 0, 1) := dk_42 (dk_at dksX0_rest_0 7 rfl rfl)
theorem dX0_rest_8 : decode cX0_rest 8 = .ok (.iload_n 2, 1) := dk_28 (dk_at dksX0_rest_0 8 rfl rfl)
theorem dX0_rest_9 : decode cX0_rest 9 = .ok (.invokevirtual 114, 3) := dk_182 0 114 (dk_at dksX0_rest_0 9 rfl rfl)
theorem dX0_rest_12 : decode cX0_rest 12 = .ok (.astore 5, 2) := dk_58 5 (dk_at dksX0_rest_0 12 rfl rfl)
theorem dX0_rest_14 : decode cX0_rest 14 = .ok (.aload_n 0, 1) := dk_42 (dk_at dksX0_rest_0 14 rfl rfl)
theorem dX0_rest_15 : decode cX0_rest 15 = .ok (.iload_n 3, 1) := dk_29 (dk_at dksX0_rest_0 15 rfl rfl)
theorem dX0_rest_16 : decode cX0_rest 16 = .ok (.invokevirtual 137, 3) := dk_182 0 137 (dk_at dksX0_rest_0 16 rfl rfl)
theorem dX0_rest_19 : decode cX0_rest 19 = .ok (.astore 6, 2) := dk_58 6 (dk_at dksX0_rest_0 19 rfl rfl)
theorem dX0_rest_21 : decode cX0_rest 21 = .ok (.aload 4, 2) := dk_25 4 (dk_at dksX0_rest_0 21 rfl rfl)
theorem dX0_rest_23 : decode cX0_rest 23 = .ok (.ifnull 13, 3) := dk_198 0 13 (dk_at dksX0_rest_1 0 rfl rfl)
theorem dX0_rest_26 : decode cX0_rest 26 = .ok (.aload 5, 2) := dk_25 5 (dk_at dksX0_rest_1 3 rfl rfl)
theorem dX0_rest_28 : decode cX0_rest 28 = .ok (.ifnull 8, 3) := dk_198 0 8 (dk_at dksX0_rest_1 5 rfl rfl)
theorem dX0_rest_31 : decode cX0_rest 31 = .ok (.aload 6, 2) := dk_25 6 (dk_at dksX0_rest_1 8 rfl rfl)
theorem dX0_rest_33 : decode cX0_rest 33 = .ok (.ifnonnull 5, 3) := dk_199 0 5 (dk_at dksX0_rest_1 10 rfl rfl)
theorem dX0_rest_36 : decode cX0_rest 36 = .ok (.iconst (-1), 1) := dk_2 (dk_at dksX0_rest_1 13 rfl rfl)
theorem dX0_rest_37 : decode cX0_rest 37 = .ok (.ireturn, 1) := dk_172 (dk_at dksX0_rest_1 14 rfl rfl)
theorem dX0_rest_38 : decode cX0_rest 38 = .ok (.aload 4, 2) := dk_25 4 (dk_at dksX0_rest_1 15 rfl rfl)
theorem dX0_rest_40 : decode cX0_rest 40 = .ok (.aload 5, 2) := dk_25 5 (dk_at dksX0_rest_1 17 rfl rfl)
theorem dX0_rest_42 : decode cX0_rest 42 = .ok (.if_acmp .ne 6, 3) := dk_166 0 6 (dk_at dksX0_rest_1 19 rfl rfl)
theorem dX0_rest_45 : decode cX0_rest 45 = .ok (.bipush (-2), 2) := dk_16 254 (dk_at dksX0_rest_1 22 rfl rfl)
theorem dX0_rest_47 : decode cX0_rest 47 = .ok (.ireturn, 1) := dk_172 (dk_at dksX0_rest_2 0 rfl rfl)
theorem dX0_rest_48 : decode cX0_rest 48 = .ok (.aload_n 0, 1) := dk_42 (dk_at dksX0_rest_2 1 rfl rfl)
theorem dX0_rest_49 : decode cX0_rest 49 = .ok (.iconst 0, 1) := dk_3 (dk_at dksX0_rest_2 2 rfl rfl)
theorem dX0_rest_50 : decode cX0_rest 50 = .ok (.aload 4, 2) := dk_25 4 (dk_at dksX0_rest_2 3 rfl rfl)
theorem dX0_rest_52 : decode cX0_rest 52 = .ok (.aload 5, 2) := dk_25 5 (dk_at dksX0_rest_2 5 rfl rfl)
theorem dX0_rest_54 : decode cX0_rest 54 = .ok (.aload 6, 2) := dk_25 6 (dk_at dksX0_rest_2 7 rfl rfl)
theorem dX0_rest_56 : decode cX0_rest 56 = .ok (.invokevirtual 314, 3) := dk_182 1 58 (dk_at dksX0_rest_2 9 rfl rfl)
theorem dX0_rest_59 : decode cX0_rest 59 = .ok (.aload_n 0, 1) := dk_42 (dk_at dksX0_rest_2 12 rfl rfl)
theorem dX0_rest_60 : decode cX0_rest 60 = .ok (.iconst 1, 1) := dk_4 (dk_at dksX0_rest_2 13 rfl rfl)
theorem dX0_rest_61 : decode cX0_rest 61 = .ok (.aload 5, 2) := dk_25 5 (dk_at dksX0_rest_2 14 rfl rfl)
theorem dX0_rest_63 : decode cX0_rest 63 = .ok (.aload 4, 2) := dk_25 4 (dk_at dksX0_rest_2 16 rfl rfl)
theorem dX0_rest_65 : decode cX0_rest 65 = .ok (.aload 6, 2) := dk_25 6 (dk_at dksX0_rest_2 18 rfl rfl)
theorem dX0_rest_67 : decode cX0_rest 67 = .ok (.invokevirtual 314, 3) := dk_182 1 58 (dk_at dksX0_rest_2 20 rfl rfl)
theorem dX0_rest_70 : decode cX0_rest 70 = .ok (.iconst 0, 1) := dk_3 (dk_at dksX0_rest_2 23 rfl rfl)
theorem dX0_rest_71 : decode cX0_rest 71 = .ok (.istore 7, 2) := dk_54 7 (dk_at dksX0_rest_3 0 rfl rfl)
theorem dX0_rest_73 : decode cX0_rest 73 = .ok (.iload 7, 2) := dk_21 7 (dk_at dksX0_rest_3 2 rfl rfl)
theorem dX0_rest_75 : decode cX0_rest 75 = .ok (.bipush 100, 2) := dk_16 100 (dk_at dksX0_rest_3 4 rfl rfl)
theorem dX0_rest_77 : decode cX0_rest 77 = .ok (.if_icmp .ge 29, 3) := dk_162 0 29 (dk_at dksX0_rest_3 6 rfl rfl)
theorem dX0_rest_80 : decode cX0_rest 80 = .ok (.aload_n 0, 1) := dk_42 (dk_at dksX0_rest_3 9 rfl rfl)
theorem dX0_rest_81 : decode cX0_rest 81 = .ok (.iload 7, 2) := dk_21 7 (dk_at dksX0_rest_3 10 rfl rfl)
theorem dX0_rest_83 : decode cX0_rest 83 = .ok (.bipush 10, 2) := dk_16 10 (dk_at dksX0_rest_3 12 rfl rfl)
theorem dX0_rest_85 : decode cX0_rest 85 = .ok (.idiv, 1) := dk_108 (dk_at dksX0_rest_3 14 rfl rfl)
theorem dX0_rest_86 : decode cX0_rest 86 = .ok (.iload 7, 2) := dk_21 7 (dk_at dksX0_rest_3 15 rfl rfl)
theorem dX0_rest_88 : decode cX0_rest 88 = .ok (.bipush 10, 2) := dk_16 10 (dk_at dksX0_rest_3 17 rfl rfl)
theorem dX0_rest_90 : decode cX0_rest 90 = .ok (.irem, 1) := dk_112 (dk_at dksX0_rest_3 19 rfl rfl)
theorem dX0_rest_91 : decode cX0_rest 91 = .ok (.invokevirtual 318, 3) := dk_182 1 62 (dk_at dksX0_rest_3 20 rfl rfl)
theorem dX0_rest_94 : decode cX0_rest 94 = .ok (.ifCond .eq 6, 3) := dk_153 0 6 (dk_at dksX0_rest_4 0 rfl rfl)
theorem dX0_rest_97 : decode cX0_rest 97 = .ok (.iload 7, 2) := dk_21 7 (dk_at dksX0_rest_4 3 rfl rfl)
theorem dX0_rest_99 : decode cX0_rest 99 = .ok (.ireturn, 1) := dk_172 (dk_at dksX0_rest_4 5 rfl rfl)
theorem dX0_rest_100 : decode cX0_rest 100 = .ok (.iinc 7 1, 3) := dk_132 7 1 (dk_at dksX0_rest_4 6 rfl rfl)
theorem dX0_rest_103 : decode cX0_rest 103 = .ok (.goto (-30), 3) := dk_167 255 226 (dk_at dksX0_rest_4 9 rfl rfl)
theorem dX0_rest_106 : decode cX0_rest 106 = .ok (.bipush (-5), 2) := dk_16 251 (dk_at dksX0_rest_4 12 rfl rfl)
theorem dX0_rest_108 : decode cX0_rest 108 = .ok (.ireturn, 1) := dk_172 (dk_at dksX0_rest_4 14 rfl rfl)
abbrev cX0_findSide : ByteArray := prog_1_method_42_code
def yX0_findSide : MethodName := ⟨RX0, "findSide", "(ILFortyDays$Port;LFortyDays$Port;LFortyDays$Ship;)V"⟩
def dkwX0_findSide_4 : List UInt8 := [182, 1, 48, 20, 1, 52, 109, 80, 132, 5, 1, 167, 255, 198, 177]
abbrev dktX0_findSide_4 : List UInt8 := dkwX0_findSide_4 ++ []
def dkwX0_findSide_3 : List UInt8 := [182, 1, 14, 80, 42, 180, 0, 94, 4, 27, 100, 50, 21, 5, 42, 180, 0, 50, 21, 5, 50, 45]
abbrev dktX0_findSide_3 : List UInt8 := dkwX0_findSide_3 ++ dktX0_findSide_4
def dkwX0_findSide_2 : List UInt8 := [16, 10, 162, 0, 57, 42, 180, 0, 91, 27, 50, 21, 5, 42, 21, 5, 42, 180, 0, 58, 21, 5, 47]
abbrev dktX0_findSide_2 : List UInt8 := dkwX0_findSide_2 ++ dktX0_findSide_3
def dkwX0_findSide_1 : List UInt8 := [180, 0, 141, 180, 0, 144, 46, 182, 1, 34, 42, 42, 180, 0, 70, 3, 182, 1, 7, 3, 54, 5, 21, 5]
abbrev dktX0_findSide_1 : List UInt8 := dkwX0_findSide_1 ++ dktX0_findSide_2
def dkwX0_findSide_0 : List UInt8 := [42, 180, 0, 70, 44, 25, 4, 180, 0, 162, 25, 4, 180, 0, 141, 180, 0, 144, 44, 180, 0, 118, 25, 4]
abbrev dktX0_findSide_0 : List UInt8 := dkwX0_findSide_0 ++ dktX0_findSide_1
theorem dksX0_findSide_0 : cX0_findSide.data.toList.drop 0 = dktX0_findSide_0 := by decide +kernel
theorem dksX0_findSide_1 : cX0_findSide.data.toList.drop 24 = dktX0_findSide_1 := dk_seg dksX0_findSide_0 24 rfl rfl
theorem dksX0_findSide_2 : cX0_findSide.data.toList.drop 48 = dktX0_findSide_2 := dk_seg dksX0_findSide_1 24 rfl rfl
theorem dksX0_findSide_3 : cX0_findSide.data.toList.drop 71 = dktX0_findSide_3 := dk_seg dksX0_findSide_2 23 rfl rfl
theorem dksX0_findSide_4 : cX0_findSide.data.toList.drop 93 = dktX0_findSide_4 := dk_seg dksX0_findSide_3 22 rfl rfl
theorem dX0_findSide_0 : decode cX0_findSide 0 = .ok (.aload_n 0, 1) := dk_42 (dk_at dksX0_findSide_0 0 rfl rfl)
theorem dX0_findSide_1 : decode cX0_findSide 1 = .ok (.getfield 70, 3) := dk_180 0 70 (dk_at dksX0_findSide_0 1 rfl rfl)
theorem dX0_findSide_4 : decode cX0_findSide 4 = .ok (.aload_n 2, 1) := dk_44 (dk_at dksX0_findSide_0 4 rfl rfl)
theorem dX0_findSide_5 : decode cX0_findSide 5 = .ok (.aload 4, 2) := dk_25 4 (dk_at dksX0_findSide_0 5 rfl rfl)
theorem dX0_findSide_7 : decode cX0_findSide 7 = .ok (.getfield 162, 3) := dk_180 0 162 (dk_at dksX0_findSide_0 7 rfl rfl)
theorem dX0_findSide_10 : decode cX0_findSide 10 = .ok (.aload 4, 2) := dk_25 4 (dk_at dksX0_findSide_0 10 rfl rfl)
theorem dX0_findSide_12 : decode cX0_findSide 12 = .ok (.getfield 141, 3) := dk_180 0 141 (dk_at dksX0_findSide_0 12 rfl rfl)
theorem dX0_findSide_15 : decode cX0_findSide 15 = .ok (.getfield 144, 3) := dk_180 0 144 (dk_at dksX0_findSide_0 15 rfl rfl)
theorem dX0_findSide_18 : decode cX0_findSide 18 = .ok (.aload_n 2, 1) := dk_44 (dk_at dksX0_findSide_0 18 rfl rfl)
theorem dX0_findSide_19 : decode cX0_findSide 19 = .ok (.getfield 118, 3) := dk_180 0 118 (dk_at dksX0_findSide_0 19 rfl rfl)
theorem dX0_findSide_22 : decode cX0_findSide 22 = .ok (.aload 4, 2) := dk_25 4 (dk_at dksX0_findSide_0 22 rfl rfl)
theorem dX0_findSide_24 : decode cX0_findSide 24 = .ok (.getfield 141, 3) := dk_180 0 141 (dk_at dksX0_findSide_1 0 rfl rfl)
theorem dX0_findSide_27 : decode cX0_findSide 27 = .ok (.getfield 144, 3) := dk_180 0 144 (dk_at dksX0_findSide_1 3 rfl rfl)
theorem dX0_findSide_30 : decode cX0_findSide 30 = .ok (.iaload, 1) := dk_46 (dk_at dksX0_findSide_1 6 rfl rfl)
theorem dX0_findSide_31 : decode cX0_findSide 31 = .ok (.invokevirtual 290, 3) := dk_182 1 34 (dk_at dksX0_findSide_1 7 rfl rfl)
theorem dX0_findSide_34 : decode cX0_findSide 34 = .ok (.aload_n 0, 1) := dk_42 (dk_at dksX0_findSide_1 10 rfl rfl)
theorem dX0_findSide_35 : decode cX0_findSide 35 = .ok (.aload_n 0, 1) := dk_42 (dk_at dksX0_findSide_1 11 rfl rfl)
theorem dX0_findSide_36 : decode cX0_findSide 36 = .ok (.getfield 70, 3) := dk_180 0 70 (dk_at dksX0_findSide_1 12 rfl rfl)
theorem dX0_findSide_39 : decode cX0_findSide 39 = .ok (.iconst 0, 1) := dk_3 (dk_at dksX0_findSide_1 15 rfl rfl)
theorem dX0_findSide_40 : decode cX0_findSide 40 = .ok (.invokevirtual 263, 3) := dk_182 1 7 (dk_at dksX0_findSide_1 16 rfl rfl)
theorem dX0_findSide_43 : decode cX0_findSide 43 = .ok (.iconst 0, 1) := dk_3 (dk_at dksX0_findSide_1 19 rfl rfl)
theorem dX0_findSide_44 : decode cX0_findSide 44 = .ok (.istore 5, 2) := dk_54 5 (dk_at dksX0_findSide_1 20 rfl rfl)
theorem dX0_findSide_46 : decode cX0_findSide 46 = .ok (.iload 5, 2) := dk_21 5 (dk_at dksX0_findSide_1 22 rfl rfl)
theorem dX0_findSide_48 : decode cX0_findSide 48 = .ok (.bipush 10, 2) := dk_16 10 (dk_at dksX0_findSide_2 0 rfl rfl)
theorem dX0_findSide_50 : decode cX0_findSide 50 = .ok (.if_icmp .ge 57, 3) := dk_162 0 57 (dk_at dksX0_findSide_2 2 rfl rfl)
theorem dX0_findSide_53 : decode cX0_findSide 53 = .ok (.aload_n 0, 1) := dk_42 (dk_at dksX0_findSide_2 5 rfl rfl)
theorem dX0_findSide_54 : decode cX0_findSide 54 = .ok (.getfield 91, 3) := dk_180 0 91 (dk_at dksX0_findSide_2 6 rfl rfl)
theorem dX0_findSide_57 : decode cX0_findSide 57 = .ok (.iload_n 1, 1) := dk_27 (dk_at dksX0_findSide_2 9 rfl rfl)
theorem dX0_findSide_58 : decode cX0_findSide 58 = .ok (.aaload, 1) := dk_50 (dk_at dksX0_findSide_2 10 rfl rfl)
theorem dX0_findSide_59 : decode cX0_findSide 59 = .ok (.iload 5, 2) := dk_21 5 (dk_at dksX0_findSide_2 11 rfl rfl)
theorem dX0_findSide_61 : decode cX0_findSide 61 = .ok (.aload_n 0, 1) := dk_42 (dk_at dksX0_findSide_2 13 rfl rfl)
theorem dX0_findSide_62 : decode cX0_findSide 62 = .ok (.iload 5, 2) := dk_21 5 (dk_at dksX0_findSide_2 14 rfl rfl)
theorem dX0_findSide_64 : decode cX0_findSide 64 = .ok (.aload_n 0, 1) := dk_42 (dk_at dksX0_findSide_2 16 rfl rfl)
theorem dX0_findSide_65 : decode cX0_findSide 65 = .ok (.getfield 58, 3) := dk_180 0 58 (dk_at dksX0_findSide_2 17 rfl rfl)
theorem dX0_findSide_68 : decode cX0_findSide 68 = .ok (.iload 5, 2) := dk_21 5 (dk_at dksX0_findSide_2 20 rfl rfl)
theorem dX0_findSide_70 : decode cX0_findSide 70 = .ok (.laload, 1) := dk_47 (dk_at dksX0_findSide_2 22 rfl rfl)
theorem dX0_findSide_71 : decode cX0_findSide 71 = .ok (.invokevirtual 270, 3) := dk_182 1 14 (dk_at dksX0_findSide_3 0 rfl rfl)
theorem dX0_findSide_74 : decode cX0_findSide 74 = .ok (.lastore, 1) := dk_80 (dk_at dksX0_findSide_3 3 rfl rfl)
theorem dX0_findSide_75 : decode cX0_findSide 75 = .ok (.aload_n 0, 1) := dk_42 (dk_at dksX0_findSide_3 4 rfl rfl)
theorem dX0_findSide_76 : decode cX0_findSide 76 = .ok (.getfield 94, 3) := dk_180 0 94 (dk_at dksX0_findSide_3 5 rfl rfl)
theorem dX0_findSide_79 : decode cX0_findSide 79 = .ok (.iconst 1, 1) := dk_4 (dk_at dksX0_findSide_3 8 rfl rfl)
theorem dX0_findSide_80 : decode cX0_findSide 80 = .ok (.iload_n 1, 1) := dk_27 (dk_at dksX0_findSide_3 9 rfl rfl)
theorem dX0_findSide_81 : decode cX0_findSide 81 = .ok (.isub, 1) := dk_100 (dk_at dksX0_findSide_3 10 rfl rfl)
theorem dX0_findSide_82 : decode cX0_findSide 82 = .ok (.aaload, 1) := dk_50 (dk_at dksX0_findSide_3 11 rfl rfl)
theorem dX0_findSide_83 : decode cX0_findSide 83 = .ok (.iload 5, 2) := dk_21 5 (dk_at dksX0_findSide_3 12 rfl rfl)
theorem dX0_findSide_85 : decode cX0_findSide 85 = .ok (.aload_n 0, 1) := dk_42 (dk_at dksX0_findSide_3 14 rfl rfl)
theorem dX0_findSide_86 : decode cX0_findSide 86 = .ok (.getfield 50, 3) := dk_180 0 50 (dk_at dksX0_findSide_3 15 rfl rfl)
theorem dX0_findSide_89 : decode cX0_findSide 89 = .ok (.iload 5, 2) := dk_21 5 (dk_at dksX0_findSide_3 18 rfl rfl)
theorem dX0_findSide_91 : decode cX0_findSide 91 = .ok (.aaload, 1) := dk_50 (dk_at dksX0_findSide_3 20 rfl rfl)
theorem dX0_findSide_92 : decode cX0_findSide 92 = .ok (.aload_n 3, 1) := dk_45 (dk_at dksX0_findSide_3 21 rfl rfl)
theorem dX0_findSide_93 : decode cX0_findSide 93 = .ok (.invokevirtual 304, 3) := dk_182 1 48 (dk_at dksX0_findSide_4 0 rfl rfl)
theorem dX0_findSide_96 : decode cX0_findSide 96 = .ok (.ldc2_w 308, 3) := dk_20 1 52 (dk_at dksX0_findSide_4 3 rfl rfl)
theorem dX0_findSide_99 : decode cX0_findSide 99 = .ok (.ldiv, 1) := dk_109 (dk_at dksX0_findSide_4 6 rfl rfl)
theorem dX0_findSide_100 : decode cX0_findSide 100 = .ok (.lastore, 1) := dk_80 (dk_at dksX0_findSide_4 7 rfl rfl)
theorem dX0_findSide_101 : decode cX0_findSide 101 = .ok (.iinc 5 1, 3) := dk_132 5 1 (dk_at dksX0_findSide_4 8 rfl rfl)
theorem dX0_findSide_104 : decode cX0_findSide 104 = .ok (.goto (-58), 3) := dk_167 255 198 (dk_at dksX0_findSide_4 11 rfl rfl)
theorem dX0_findSide_107 : decode cX0_findSide 107 = .ok (.return_, 1) := dk_177 (dk_at dksX0_findSide_4 14 rfl rfl)
abbrev cX0_isRest : ByteArray := prog_1_method_44_code
def yX0_isRest : MethodName := ⟨RX0, "isRest", "(II)Z"⟩
def dkwX0_isRest_2 : List UInt8 := [132, 3, 1, 167, 255, 209, 4, 172]
abbrev dktX0_isRest_2 : List UInt8 := dkwX0_isRest_2 ++ []
def dkwX0_isRest_1 : List UInt8 := [155, 0, 21, 42, 4, 29, 27, 182, 1, 54, 42, 4, 28, 27, 182, 1, 54, 148, 156, 0, 5, 3, 172]
abbrev dktX0_isRest_1 : List UInt8 := dkwX0_isRest_1 ++ dktX0_isRest_2
def dkwX0_isRest_0 : List UInt8 := [3, 62, 29, 16, 10, 162, 0, 47, 42, 3, 29, 28, 182, 1, 54, 42, 3, 27, 28, 182, 1, 54, 148]
abbrev dktX0_isRest_0 : List UInt8 := dkwX0_isRest_0 ++ dktX0_isRest_1
theorem dksX0_isRest_0 : cX0_isRest.data.toList.drop 0 = dktX0_isRest_0 := by decide +kernel
theorem dksX0_isRest_1 : cX0_isRest.data.toList.drop 23 = dktX0_isRest_1 := dk_seg dksX0_isRest_0 23 rfl rfl
theorem dksX0_isRest_2 : cX0_isRest.data.toList.drop 46 = dktX0_isRest_2 := dk_seg dksX0_isRest_1 23 rfl rfl
theorem dX0_isRest_0 : decode cX0_isRest 0 = .ok (.iconst 0, 1) := dk_3 (dk_at dksX0_isRest_0 0 rfl rfl)
theorem dX0_isRest_1 : decode cX0_isRest 1 = .ok (.istore_n 3, 1) := dk_62 (dk_at dksX0_isRest_0 1 rfl rfl)
theorem dX0_isRest_2 : decode cX0_isRest 2 = .ok (.iload_n 3, 1) := dk_29 (dk_at dksX0_isRest_0 2 rfl rfl)
theorem dX0_isRest_3 : decode cX0_isRest 3 = .ok (.bipush 10, 2) := dk_16 10 (dk_at dksX0_isRest_0 3 rfl rfl)
theorem dX0_isRest_5 : decode cX0_isRest 5 = .ok (.if_icmp .ge 47, 3) := dk_162 0 47 (dk_at dksX0_isRest_0 5 rfl rfl)
theorem dX0_isRest_8 : decode cX0_isRest 8 = .ok (.aload_n 0, 1) := dk_42 (dk_at dksX0_isRest_0 8 rfl rfl)
theorem dX0_isRest_9 : decode cX0_isRest 9 = .ok (.iconst 0, 1) := dk_3 (dk_at dksX0_isRest_0 9 rfl rfl)
theorem dX0_isRest_10 : decode cX0_isRest 10 = .ok (.iload_n 3, 1) := dk_29 (dk_at dksX0_isRest_0 10 rfl rfl)
theorem dX0_isRest_11 : decode cX0_isRest 11 = .ok (.iload_n 2, 1) := dk_28 (dk_at dksX0_isRest_0 11 rfl rfl)
theorem dX0_isRest_12 : decode cX0_isRest 12 = .ok (.invokevirtual 310, 3) := dk_182 1 54 (dk_at dksX0_isRest_0 12 rfl rfl)
theorem dX0_isRest_15 : decode cX0_isRest 15 = .ok (.aload_n 0, 1) := dk_42 (dk_at dksX0_isRest_0 15 rfl rfl)
theorem dX0_isRest_16 : decode cX0_isRest 16 = .ok (.iconst 0, 1) := dk_3 (dk_at dksX0_isRest_0 16 rfl rfl)
theorem dX0_isRest_17 : decode cX0_isRest 17 = .ok (.iload_n 1, 1) := dk_27 (dk_at dksX0_isRest_0 17 rfl rfl)
theorem dX0_isRest_18 : decode cX0_isRest 18 = .ok (.iload_n 2, 1) := dk_28 (dk_at dksX0_isRest_0 18 rfl rfl)
theorem dX0_isRest_19 : decode cX0_isRest 19 = .ok (.invokevirtual 310, 3) := dk_182 1 54 (dk_at dksX0_isRest_0 19 rfl rfl)
theorem dX0_isRest_22 : decode cX0_isRest 22 = .ok (.lcmp, 1) := dk_148 (dk_at dksX0_isRest_0 22 rfl rfl)
theorem dX0_isRest_23 : decode cX0_isRest 23 = .ok (.ifCond .lt 21, 3) := dk_155 0 21 (dk_at dksX0_isRest_1 0 rfl rfl)
theorem dX0_isRest_26 : decode cX0_isRest 26 = .ok (.aload_n 0, 1) := dk_42 (dk_at dksX0_isRest_1 3 rfl rfl)
theorem dX0_isRest_27 : decode cX0_isRest 27 = .ok (.iconst 1, 1) := dk_4 (dk_at dksX0_isRest_1 4 rfl rfl)
theorem dX0_isRest_28 : decode cX0_isRest 28 = .ok (.iload_n 3, 1) := dk_29 (dk_at dksX0_isRest_1 5 rfl rfl)
theorem dX0_isRest_29 : decode cX0_isRest 29 = .ok (.iload_n 1, 1) := dk_27 (dk_at dksX0_isRest_1 6 rfl rfl)
theorem dX0_isRest_30 : decode cX0_isRest 30 = .ok (.invokevirtual 310, 3) := dk_182 1 54 (dk_at dksX0_isRest_1 7 rfl rfl)
theorem dX0_isRest_33 : decode cX0_isRest 33 = .ok (.aload_n 0, 1) := dk_42 (dk_at dksX0_isRest_1 10 rfl rfl)
theorem dX0_isRest_34 : decode cX0_isRest 34 = .ok (.iconst 1, 1) := dk_4 (dk_at dksX0_isRest_1 11 rfl rfl)
theorem dX0_isRest_35 : decode cX0_isRest 35 = .ok (.iload_n 2, 1) := dk_28 (dk_at dksX0_isRest_1 12 rfl rfl)
theorem dX0_isRest_36 : decode cX0_isRest 36 = .ok (.iload_n 1, 1) := dk_27 (dk_at dksX0_isRest_1 13 rfl rfl)
theorem dX0_isRest_37 : decode cX0_isRest 37 = .ok (.invokevirtual 310, 3) := dk_182 1 54 (dk_at dksX0_isRest_1 14 rfl rfl)
theorem dX0_isRest_40 : decode cX0_isRest 40 = .ok (.lcmp, 1) := dk_148 (dk_at dksX0_isRest_1 17 rfl rfl)
theorem dX0_isRest_41 : decode cX0_isRest 41 = .ok (.ifCond .ge 5, 3) := dk_156 0 5 (dk_at dksX0_isRest_1 18 rfl rfl)
theorem dX0_isRest_44 : decode cX0_isRest 44 = .ok (.iconst 0, 1) := dk_3 (dk_at dksX0_isRest_1 21 rfl rfl)
theorem dX0_isRest_45 : decode cX0_isRest 45 = .ok (.ireturn, 1) := dk_172 (dk_at dksX0_isRest_1 22 rfl rfl)
theorem dX0_isRest_46 : decode cX0_isRest 46 = .ok (.iinc 3 1, 3) := dk_132 3 1 (dk_at dksX0_isRest_2 0 rfl rfl)
theorem dX0_isRest_49 : decode cX0_isRest 49 = .ok (.goto (-47), 3) := dk_167 255 209 (dk_at dksX0_isRest_2 3 rfl rfl)
theorem dX0_isRest_52 : decode cX0_isRest 52 = .ok (.iconst 1, 1) := dk_4 (dk_at dksX0_isRest_2 6 rfl rfl)
theorem dX0_isRest_53 : decode cX0_isRest 53 = .ok (.ireturn, 1) := dk_172 (dk_at dksX0_isRest_2 7 rfl rfl)
abbrev cX0_costOf : ByteArray := prog_1_method_43_code
def yX0_costOf : MethodName := ⟨RX0, "costOf", "(III)J"⟩
def dkwX0_costOf_2 : List UInt8 := [180, 0, 94, 27, 50, 29, 47, 173]
abbrev dktX0_costOf_2 : List UInt8 := dkwX0_costOf_2 ++ []
def dkwX0_costOf_1 : List UInt8 := [167, 0, 4, 3, 54, 4, 21, 4, 153, 0, 14, 42, 180, 0, 91, 27, 50, 28, 47, 167, 0, 11, 42]
abbrev dktX0_costOf_1 : List UInt8 := dkwX0_costOf_1 ++ dktX0_costOf_2
def dkwX0_costOf_0 : List UInt8 := [27, 154, 0, 16, 28, 29, 163, 0, 7, 4, 167, 0, 17, 3, 167, 0, 13, 28, 29, 162, 0, 7, 4]
abbrev dktX0_costOf_0 : List UInt8 := dkwX0_costOf_0 ++ dktX0_costOf_1
theorem dksX0_costOf_0 : cX0_costOf.data.toList.drop 0 = dktX0_costOf_0 := by decide +kernel
theorem dksX0_costOf_1 : cX0_costOf.data.toList.drop 23 = dktX0_costOf_1 := dk_seg dksX0_costOf_0 23 rfl rfl
theorem dksX0_costOf_2 : cX0_costOf.data.toList.drop 46 = dktX0_costOf_2 := dk_seg dksX0_costOf_1 23 rfl rfl
theorem dX0_costOf_0 : decode cX0_costOf 0 = .ok (.iload_n 1, 1) := dk_27 (dk_at dksX0_costOf_0 0 rfl rfl)
theorem dX0_costOf_1 : decode cX0_costOf 1 = .ok (.ifCond .ne 16, 3) := dk_154 0 16 (dk_at dksX0_costOf_0 1 rfl rfl)
theorem dX0_costOf_4 : decode cX0_costOf 4 = .ok (.iload_n 2, 1) := dk_28 (dk_at dksX0_costOf_0 4 rfl rfl)
theorem dX0_costOf_5 : decode cX0_costOf 5 = .ok (.iload_n 3, 1) := dk_29 (dk_at dksX0_costOf_0 5 rfl rfl)
theorem dX0_costOf_6 : decode cX0_costOf 6 = .ok (.if_icmp .gt 7, 3) := dk_163 0 7 (dk_at dksX0_costOf_0 6 rfl rfl)
theorem dX0_costOf_9 : decode cX0_costOf 9 = .ok (.iconst 1, 1) := dk_4 (dk_at dksX0_costOf_0 9 rfl rfl)
theorem dX0_costOf_10 : decode cX0_costOf 10 = .ok (.goto 17, 3) := dk_167 0 17 (dk_at dksX0_costOf_0 10 rfl rfl)
theorem dX0_costOf_13 : decode cX0_costOf 13 = .ok (.iconst 0, 1) := dk_3 (dk_at dksX0_costOf_0 13 rfl rfl)
theorem dX0_costOf_14 : decode cX0_costOf 14 = .ok (.goto 13, 3) := dk_167 0 13 (dk_at dksX0_costOf_0 14 rfl rfl)
theorem dX0_costOf_17 : decode cX0_costOf 17 = .ok (.iload_n 2, 1) := dk_28 (dk_at dksX0_costOf_0 17 rfl rfl)
theorem dX0_costOf_18 : decode cX0_costOf 18 = .ok (.iload_n 3, 1) := dk_29 (dk_at dksX0_costOf_0 18 rfl rfl)
theorem dX0_costOf_19 : decode cX0_costOf 19 = .ok (.if_icmp .ge 7, 3) := dk_162 0 7 (dk_at dksX0_costOf_0 19 rfl rfl)
theorem dX0_costOf_22 : decode cX0_costOf 22 = .ok (.iconst 1, 1) := dk_4 (dk_at dksX0_costOf_0 22 rfl rfl)
theorem dX0_costOf_23 : decode cX0_costOf 23 = .ok (.goto 4, 3) := dk_167 0 4 (dk_at dksX0_costOf_1 0 rfl rfl)
theorem dX0_costOf_26 : decode cX0_costOf 26 = .ok (.iconst 0, 1) := dk_3 (dk_at dksX0_costOf_1 3 rfl rfl)
theorem dX0_costOf_27 : decode cX0_costOf 27 = .ok (.istore 4, 2) := dk_54 4 (dk_at dksX0_costOf_1 4 rfl rfl)
theorem dX0_costOf_29 : decode cX0_costOf 29 = .ok (.iload 4, 2) := dk_21 4 (dk_at dksX0_costOf_1 6 rfl rfl)
theorem dX0_costOf_31 : decode cX0_costOf 31 = .ok (.ifCond .eq 14, 3) := dk_153 0 14 (dk_at dksX0_costOf_1 8 rfl rfl)
theorem dX0_costOf_34 : decode cX0_costOf 34 = .ok (.aload_n 0, 1) := dk_42 (dk_at dksX0_costOf_1 11 rfl rfl)
theorem dX0_costOf_35 : decode cX0_costOf 35 = .ok (.getfield 91, 3) := dk_180 0 91 (dk_at dksX0_costOf_1 12 rfl rfl)
theorem dX0_costOf_38 : decode cX0_costOf 38 = .ok (.iload_n 1, 1) := dk_27 (dk_at dksX0_costOf_1 15 rfl rfl)
theorem dX0_costOf_39 : decode cX0_costOf 39 = .ok (.aaload, 1) := dk_50 (dk_at dksX0_costOf_1 16 rfl rfl)
theorem dX0_costOf_40 : decode cX0_costOf 40 = .ok (.iload_n 2, 1) := dk_28 (dk_at dksX0_costOf_1 17 rfl rfl)
theorem dX0_costOf_41 : decode cX0_costOf 41 = .ok (.laload, 1) := dk_47 (dk_at dksX0_costOf_1 18 rfl rfl)
theorem dX0_costOf_42 : decode cX0_costOf 42 = .ok (.goto 11, 3) := dk_167 0 11 (dk_at dksX0_costOf_1 19 rfl rfl)
theorem dX0_costOf_45 : decode cX0_costOf 45 = .ok (.aload_n 0, 1) := dk_42 (dk_at dksX0_costOf_1 22 rfl rfl)
theorem dX0_costOf_46 : decode cX0_costOf 46 = .ok (.getfield 94, 3) := dk_180 0 94 (dk_at dksX0_costOf_2 0 rfl rfl)
theorem dX0_costOf_49 : decode cX0_costOf 49 = .ok (.iload_n 1, 1) := dk_27 (dk_at dksX0_costOf_2 3 rfl rfl)
theorem dX0_costOf_50 : decode cX0_costOf 50 = .ok (.aaload, 1) := dk_50 (dk_at dksX0_costOf_2 4 rfl rfl)
theorem dX0_costOf_51 : decode cX0_costOf 51 = .ok (.iload_n 3, 1) := dk_29 (dk_at dksX0_costOf_2 5 rfl rfl)
theorem dX0_costOf_52 : decode cX0_costOf 52 = .ok (.laload, 1) := dk_47 (dk_at dksX0_costOf_2 6 rfl rfl)
theorem dX0_costOf_53 : decode cX0_costOf 53 = .ok (.lreturn, 1) := dk_173 (dk_at dksX0_costOf_2 7 rfl rfl)
abbrev cX0_matter : ByteArray := prog_1_method_46_code
def yX0_matter : MethodName := ⟨RX0, "matter", "(I)I"⟩
def dkwX0_matter_3 : List UInt8 := [155, 0, 6, 21, 5, 172, 132, 5, 1, 167, 255, 217, 16, 251, 172]
abbrev dktX0_matter_3 : List UInt8 := dkwX0_matter_3 ++ []
def dkwX0_matter_2 : List UInt8 := [20, 0, 222, 21, 5, 133, 105, 44, 180, 0, 141, 180, 0, 154, 180, 0, 121, 6, 46, 133, 105, 33, 148]
abbrev dktX0_matter_2 : List UInt8 := dkwX0_matter_2 ++ dktX0_matter_3
def dkwX0_matter_1 : List UInt8 := [180, 0, 58, 3, 47, 42, 3, 16, 9, 182, 0, 213, 101, 66, 3, 54, 5, 21, 5, 16, 20, 163, 0, 38]
abbrev dktX0_matter_1 : List UInt8 := dkwX0_matter_1 ++ dktX0_matter_2
def dkwX0_matter_0 : List UInt8 := [42, 27, 182, 0, 137, 77, 44, 199, 0, 5, 2, 172, 42, 44, 180, 0, 141, 3, 182, 1, 7, 42]
abbrev dktX0_matter_0 : List UInt8 := dkwX0_matter_0 ++ dktX0_matter_1
theorem dksX0_matter_0 : cX0_matter.data.toList.drop 0 = dktX0_matter_0 := by decide +kernel
theorem dksX0_matter_1 : cX0_matter.data.toList.drop 22 = dktX0_matter_1 := dk_seg dksX0_matter_0 22 rfl rfl
theorem dksX0_matter_2 : cX0_matter.data.toList.drop 46 = dktX0_matter_2 := dk_seg dksX0_matter_1 24 rfl rfl
theorem dksX0_matter_3 : cX0_matter.data.toList.drop 69 = dktX0_matter_3 := dk_seg dksX0_matter_2 23 rfl rfl
theorem dX0_matter_0 : decode cX0_matter 0 = .ok (.aload_n 0, 1) := dk_42 (dk_at dksX0_matter_0 0 rfl rfl)
theorem dX0_matter_1 : decode cX0_matter 1 = .ok (.iload_n 1, 1) := dk_27 (dk_at dksX0_matter_0 1 rfl rfl)
theorem dX0_matter_2 : decode cX0_matter 2 = .ok (.invokevirtual 137, 3) := dk_182 0 137 (dk_at dksX0_matter_0 2 rfl rfl)
theorem dX0_matter_5 : decode cX0_matter 5 = .ok (.astore_n 2, 1) := dk_77 (dk_at dksX0_matter_0 5 rfl rfl)
theorem dX0_matter_6 : decode cX0_matter 6 = .ok (.aload_n 2, 1) := dk_44 (dk_at dksX0_matter_0 6 rfl rfl)
theorem dX0_matter_7 : decode cX0_matter 7 = .ok (.ifnonnull 5, 3) := dk_199 0 5 (dk_at dksX0_matter_0 7 rfl rfl)
theorem dX0_matter_10 : decode cX0_matter 10 = .ok (.iconst (-1), 1) := dk_2 (dk_at dksX0_matter_0 10 rfl rfl)
theorem dX0_matter_11 : decode cX0_matter 11 = .ok (.ireturn, 1) := dk_172 (dk_at dksX0_matter_0 11 rfl rfl)
theorem dX0_matter_12 : decode cX0_matter 12 = .ok (.aload_n 0, 1) := dk_42 (dk_at dksX0_matter_0 12 rfl rfl)
theorem dX0_matter_13 : decode cX0_matter 13 = .ok (.aload_n 2, 1) := dk_44 (dk_at dksX0_matter_0 13 rfl rfl)
theorem dX0_matter_14 : decode cX0_matter 14 = .ok (.getfield 141, 3) := dk_180 0 141 (dk_at dksX0_matter_0 14 rfl rfl)
theorem dX0_matter_17 : decode cX0_matter 17 = .ok (.iconst 0, 1) := dk_3 (dk_at dksX0_matter_0 17 rfl rfl)
theorem dX0_matter_18 : decode cX0_matter 18 = .ok (.invokevirtual 263, 3) := dk_182 1 7 (dk_at dksX0_matter_0 18 rfl rfl)
theorem dX0_matter_21 : decode cX0_matter 21 = .ok (.aload_n 0, 1) := dk_42 (dk_at dksX0_matter_0 21 rfl rfl)
theorem dX0_matter_22 : decode cX0_matter 22 = .ok (.getfield 58, 3) := dk_180 0 58 (dk_at dksX0_matter_1 0 rfl rfl)
theorem dX0_matter_25 : decode cX0_matter 25 = .ok (.iconst 0, 1) := dk_3 (dk_at dksX0_matter_1 3 rfl rfl)
theorem dX0_matter_26 : decode cX0_matter 26 = .ok (.laload, 1) := dk_47 (dk_at dksX0_matter_1 4 rfl rfl)
theorem dX0_matter_27 : decode cX0_matter 27 = .ok (.aload_n 0, 1) := dk_42 (dk_at dksX0_matter_1 5 rfl rfl)
theorem dX0_matter_28 : decode cX0_matter 28 = .ok (.iconst 0, 1) := dk_3 (dk_at dksX0_matter_1 6 rfl rfl)
theorem dX0_matter_29 : decode cX0_matter 29 = .ok (.bipush 9, 2) := dk_16 9 (dk_at dksX0_matter_1 7 rfl rfl)
theorem dX0_matter_31 : decode cX0_matter 31 = .ok (.invokevirtual 213, 3) := dk_182 0 213 (dk_at dksX0_matter_1 9 rfl rfl)
theorem dX0_matter_34 : decode cX0_matter 34 = .ok (.lsub, 1) := dk_101 (dk_at dksX0_matter_1 12 rfl rfl)
theorem dX0_matter_35 : decode cX0_matter 35 = .ok (.lstore_n 3, 1) := dk_66 (dk_at dksX0_matter_1 13 rfl rfl)
theorem dX0_matter_36 : decode cX0_matter 36 = .ok (.iconst 0, 1) := dk_3 (dk_at dksX0_matter_1 14 rfl rfl)
theorem dX0_matter_37 : decode cX0_matter 37 = .ok (.istore 5, 2) := dk_54 5 (dk_at dksX0_matter_1 15 rfl rfl)
theorem dX0_matter_39 : decode cX0_matter 39 = .ok (.iload 5, 2) := dk_21 5 (dk_at dksX0_matter_1 17 rfl rfl)
theorem dX0_matter_41 : decode cX0_matter 41 = .ok (.bipush 20, 2) := dk_16 20 (dk_at dksX0_matter_1 19 rfl rfl)
theorem dX0_matter_43 : decode cX0_matter 43 = .ok (.if_icmp .gt 38, 3) := dk_163 0 38 (dk_at dksX0_matter_1 21 rfl rfl)
theorem dX0_matter_46 : decode cX0_matter 46 = .ok (.ldc2_w 222, 3) := dk_20 0 222 (dk_at dksX0_matter_2 0 rfl rfl)
theorem dX0_matter_49 : decode cX0_matter 49 = .ok (.iload 5, 2) := dk_21 5 (dk_at dksX0_matter_2 3 rfl rfl)
theorem dX0_matter_51 : decode cX0_matter 51 = .ok (.i2l, 1) := dk_133 (dk_at dksX0_matter_2 5 rfl rfl)
theorem dX0_matter_52 : decode cX0_matter 52 = .ok (.lmul, 1) := dk_105 (dk_at dksX0_matter_2 6 rfl rfl)
theorem dX0_matter_53 : decode cX0_matter 53 = .ok (.aload_n 2, 1) := dk_44 (dk_at dksX0_matter_2 7 rfl rfl)
theorem dX0_matter_54 : decode cX0_matter 54 = .ok (.getfield 141, 3) := dk_180 0 141 (dk_at dksX0_matter_2 8 rfl rfl)
theorem dX0_matter_57 : decode cX0_matter 57 = .ok (.getfield 154, 3) := dk_180 0 154 (dk_at dksX0_matter_2 11 rfl rfl)
theorem dX0_matter_60 : decode cX0_matter 60 = .ok (.getfield 121, 3) := dk_180 0 121 (dk_at dksX0_matter_2 14 rfl rfl)
theorem dX0_matter_63 : decode cX0_matter 63 = .ok (.iconst 3, 1) := dk_6 (dk_at dksX0_matter_2 17 rfl rfl)
theorem dX0_matter_64 : decode cX0_matter 64 = .ok (.iaload, 1) := dk_46 (dk_at dksX0_matter_2 18 rfl rfl)
theorem dX0_matter_65 : decode cX0_matter 65 = .ok (.i2l, 1) := dk_133 (dk_at dksX0_matter_2 19 rfl rfl)
theorem dX0_matter_66 : decode cX0_matter 66 = .ok (.lmul, 1) := dk_105 (dk_at dksX0_matter_2 20 rfl rfl)
theorem dX0_matter_67 : decode cX0_matter 67 = .ok (.lload_n 3, 1) := dk_33 (dk_at dksX0_matter_2 21 rfl rfl)
theorem dX0_matter_68 : decode cX0_matter 68 = .ok (.lcmp, 1) := dk_148 (dk_at dksX0_matter_2 22 rfl rfl)
theorem dX0_matter_69 : decode cX0_matter 69 = .ok (.ifCond .lt 6, 3) := dk_155 0 6 (dk_at dksX0_matter_3 0 rfl rfl)
theorem dX0_matter_72 : decode cX0_matter 72 = .ok (.iload 5, 2) := dk_21 5 (dk_at dksX0_matter_3 3 rfl rfl)
theorem dX0_matter_74 : decode cX0_matter 74 = .ok (.ireturn, 1) := dk_172 (dk_at dksX0_matter_3 5 rfl rfl)
theorem dX0_matter_75 : decode cX0_matter 75 = .ok (.iinc 5 1, 3) := dk_132 5 1 (dk_at dksX0_matter_3 6 rfl rfl)
theorem dX0_matter_78 : decode cX0_matter 78 = .ok (.goto (-39), 3) := dk_167 255 217 (dk_at dksX0_matter_3 9 rfl rfl)
theorem dX0_matter_81 : decode cX0_matter 81 = .ok (.bipush (-5), 2) := dk_16 251 (dk_at dksX0_matter_3 12 rfl rfl)
theorem dX0_matter_83 : decode cX0_matter 83 = .ok (.ireturn, 1) := dk_172 (dk_at dksX0_matter_3 14 rfl rfl)
abbrev cX0_edge : ByteArray := prog_1_method_48_code
def yX0_edge : MethodName := ⟨RX0, "edge", "(I)I"⟩
def dkwX0_edge_3 : List UInt8 := [167, 255, 216, 3, 172]
abbrev dktX0_edge_3 : List UInt8 := dkwX0_edge_3 ++ []
def dkwX0_edge_2 : List UInt8 := [153, 0, 7, 21, 4, 116, 172, 42, 44, 21, 4, 29, 182, 1, 68, 153, 0, 6, 21, 4, 172, 132, 4, 1]
abbrev dktX0_edge_2 : List UInt8 := dkwX0_edge_2 ++ dktX0_edge_3
def dkwX0_edge_1 : List UInt8 := [182, 1, 28, 62, 4, 54, 4, 21, 4, 16, 50, 163, 0, 39, 42, 44, 21, 4, 116, 29, 182, 1, 68]
abbrev dktX0_edge_1 : List UInt8 := dkwX0_edge_1 ++ dktX0_edge_2
def dkwX0_edge_0 : List UInt8 := [42, 27, 182, 0, 137, 77, 44, 199, 0, 5, 2, 172, 42, 44, 180, 0, 141, 3, 182, 1, 7, 42]
abbrev dktX0_edge_0 : List UInt8 := dkwX0_edge_0 ++ dktX0_edge_1
theorem dksX0_edge_0 : cX0_edge.data.toList.drop 0 = dktX0_edge_0 := by decide +kernel
theorem dksX0_edge_1 : cX0_edge.data.toList.drop 22 = dktX0_edge_1 := dk_seg dksX0_edge_0 22 rfl rfl
theorem dksX0_edge_2 : cX0_edge.data.toList.drop 45 = dktX0_edge_2 := dk_seg dksX0_edge_1 23 rfl rfl
theorem dksX0_edge_3 : cX0_edge.data.toList.drop 69 = dktX0_edge_3 := dk_seg dksX0_edge_2 24 rfl rfl
theorem dX0_edge_0 : decode cX0_edge 0 = .ok (.aload_n 0, 1) := dk_42 (dk_at dksX0_edge_0 0 rfl rfl)
theorem dX0_edge_1 : decode cX0_edge 1 = .ok (.iload_n 1, 1) := dk_27 (dk_at dksX0_edge_0 1 rfl rfl)
theorem dX0_edge_2 : decode cX0_edge 2 = .ok (.invokevirtual 137, 3) := dk_182 0 137 (dk_at dksX0_edge_0 2 rfl rfl)
theorem dX0_edge_5 : decode cX0_edge 5 = .ok (.astore_n 2, 1) := dk_77 (dk_at dksX0_edge_0 5 rfl rfl)
theorem dX0_edge_6 : decode cX0_edge 6 = .ok (.aload_n 2, 1) := dk_44 (dk_at dksX0_edge_0 6 rfl rfl)
theorem dX0_edge_7 : decode cX0_edge 7 = .ok (.ifnonnull 5, 3) := dk_199 0 5 (dk_at dksX0_edge_0 7 rfl rfl)
theorem dX0_edge_10 : decode cX0_edge 10 = .ok (.iconst (-1), 1) := dk_2 (dk_at dksX0_edge_0 10 rfl rfl)
theorem dX0_edge_11 : decode cX0_edge 11 = .ok (.ireturn, 1) := dk_172 (dk_at dksX0_edge_0 11 rfl rfl)
theorem dX0_edge_12 : decode cX0_edge 12 = .ok (.aload_n 0, 1) := dk_42 (dk_at dksX0_edge_0 12 rfl rfl)
theorem dX0_edge_13 : decode cX0_edge 13 = .ok (.aload_n 2, 1) := dk_44 (dk_at dksX0_edge_0 13 rfl rfl)
theorem dX0_edge_14 : decode cX0_edge 14 = .ok (.getfield 141, 3) := dk_180 0 141 (dk_at dksX0_edge_0 14 rfl rfl)
theorem dX0_edge_17 : decode cX0_edge 17 = .ok (.iconst 0, 1) := dk_3 (dk_at dksX0_edge_0 17 rfl rfl)
theorem dX0_edge_18 : decode cX0_edge 18 = .ok (.invokevirtual 263, 3) := dk_182 1 7 (dk_at dksX0_edge_0 18 rfl rfl)
theorem dX0_edge_21 : decode cX0_edge 21 = .ok (.aload_n 0, 1) := dk_42 (dk_at dksX0_edge_0 21 rfl rfl)
theorem dX0_edge_22 : decode cX0_edge 22 = .ok (.invokevirtual 284, 3) := dk_182 1 28 (dk_at dksX0_edge_1 0 rfl rfl)
theorem dX0_edge_25 : decode cX0_edge 25 = .ok (.istore_n 3, 1) := dk_62 (dk_at dksX0_edge_1 3 rfl rfl)
theorem dX0_edge_26 : decode cX0_edge 26 = .ok (.iconst 1, 1) := dk_4 (dk_at dksX0_edge_1 4 rfl rfl)
theorem dX0_edge_27 : decode cX0_edge 27 = .ok (.istore 4, 2) := dk_54 4 (dk_at dksX0_edge_1 5 rfl rfl)
theorem dX0_edge_29 : decode cX0_edge 29 = .ok (.iload 4, 2) := dk_21 4 (dk_at dksX0_edge_1 7 rfl rfl)
theorem dX0_edge_31 : decode cX0_edge 31 = .ok (.bipush 50, 2) := dk_16 50 (dk_at dksX0_edge_1 9 rfl rfl)
theorem dX0_edge_33 : decode cX0_edge 33 = .ok (.if_icmp .gt 39, 3) := dk_163 0 39 (dk_at dksX0_edge_1 11 rfl rfl)
theorem dX0_edge_36 : decode cX0_edge 36 = .ok (.aload_n 0, 1) := dk_42 (dk_at dksX0_edge_1 14 rfl rfl)
theorem dX0_edge_37 : decode cX0_edge 37 = .ok (.aload_n 2, 1) := dk_44 (dk_at dksX0_edge_1 15 rfl rfl)
theorem dX0_edge_38 : decode cX0_edge 38 = .ok (.iload 4, 2) := dk_21 4 (dk_at dksX0_edge_1 16 rfl rfl)
theorem dX0_edge_40 : decode cX0_edge 40 = .ok (.ineg, 1) := dk_116 (dk_at dksX0_edge_1 18 rfl rfl)
theorem dX0_edge_41 : decode cX0_edge 41 = .ok (.iload_n 3, 1) := dk_29 (dk_at dksX0_edge_1 19 rfl rfl)
theorem dX0_edge_42 : decode cX0_edge 42 = .ok (.invokevirtual 324, 3) := dk_182 1 68 (dk_at dksX0_edge_1 20 rfl rfl)
theorem dX0_edge_45 : decode cX0_edge 45 = .ok (.ifCond .eq 7, 3) := dk_153 0 7 (dk_at dksX0_edge_2 0 rfl rfl)
theorem dX0_edge_48 : decode cX0_edge 48 = .ok (.iload 4, 2) := dk_21 4 (dk_at dksX0_edge_2 3 rfl rfl)
theorem dX0_edge_50 : decode cX0_edge 50 = .ok (.ineg, 1) := dk_116 (dk_at dksX0_edge_2 5 rfl rfl)
theorem dX0_edge_51 : decode cX0_edge 51 = .ok (.ireturn, 1) := dk_172 (dk_at dksX0_edge_2 6 rfl rfl)
theorem dX0_edge_52 : decode cX0_edge 52 = .ok (.aload_n 0, 1) := dk_42 (dk_at dksX0_edge_2 7 rfl rfl)
theorem dX0_edge_53 : decode cX0_edge 53 = .ok (.aload_n 2, 1) := dk_44 (dk_at dksX0_edge_2 8 rfl rfl)
theorem dX0_edge_54 : decode cX0_edge 54 = .ok (.iload 4, 2) := dk_21 4 (dk_at dksX0_edge_2 9 rfl rfl)
theorem dX0_edge_56 : decode cX0_edge 56 = .ok (.iload_n 3, 1) := dk_29 (dk_at dksX0_edge_2 11 rfl rfl)
theorem dX0_edge_57 : decode cX0_edge 57 = .ok (.invokevirtual 324, 3) := dk_182 1 68 (dk_at dksX0_edge_2 12 rfl rfl)
theorem dX0_edge_60 : decode cX0_edge 60 = .ok (.ifCond .eq 6, 3) := dk_153 0 6 (dk_at dksX0_edge_2 15 rfl rfl)
theorem dX0_edge_63 : decode cX0_edge 63 = .ok (.iload 4, 2) := dk_21 4 (dk_at dksX0_edge_2 18 rfl rfl)
theorem dX0_edge_65 : decode cX0_edge 65 = .ok (.ireturn, 1) := dk_172 (dk_at dksX0_edge_2 20 rfl rfl)
theorem dX0_edge_66 : decode cX0_edge 66 = .ok (.iinc 4 1, 3) := dk_132 4 1 (dk_at dksX0_edge_2 21 rfl rfl)
theorem dX0_edge_69 : decode cX0_edge 69 = .ok (.goto (-40), 3) := dk_167 255 216 (dk_at dksX0_edge_3 0 rfl rfl)
theorem dX0_edge_72 : decode cX0_edge 72 = .ok (.iconst 0, 1) := dk_3 (dk_at dksX0_edge_3 3 rfl rfl)
theorem dX0_edge_73 : decode cX0_edge 73 = .ok (.ireturn, 1) := dk_172 (dk_at dksX0_edge_3 4 rfl rfl)
abbrev cX0_turns : ByteArray := prog_1_method_47_code
def yX0_turns : MethodName := ⟨RX0, "turns", "(LFortyDays$Ship;II)Z"⟩
def dkwX0_turns_2 : List UInt8 := [25, 4, 3, 181, 1, 65, 42, 182, 1, 28, 29, 159, 0, 7, 4, 167, 0, 4, 3, 172]
abbrev dktX0_turns_2 : List UInt8 := dkwX0_turns_2 ++ []
def dkwX0_turns_1 : List UInt8 := [184, 0, 5, 154, 0, 5, 3, 172, 25, 4, 28, 181, 1, 65, 42, 43, 180, 0, 141, 3, 182, 1, 7]
abbrev dktX0_turns_1 : List UInt8 := dkwX0_turns_1 ++ dktX0_turns_2
def dkwX0_turns_0 : List UInt8 := [43, 180, 0, 141, 180, 0, 154, 58, 4, 25, 4, 180, 0, 121, 3, 46, 28, 96, 3, 17, 3, 232]
abbrev dktX0_turns_0 : List UInt8 := dkwX0_turns_0 ++ dktX0_turns_1
theorem dksX0_turns_0 : cX0_turns.data.toList.drop 0 = dktX0_turns_0 := by decide +kernel
theorem dksX0_turns_1 : cX0_turns.data.toList.drop 22 = dktX0_turns_1 := dk_seg dksX0_turns_0 22 rfl rfl
theorem dksX0_turns_2 : cX0_turns.data.toList.drop 45 = dktX0_turns_2 := dk_seg dksX0_turns_1 23 rfl rfl
theorem dX0_turns_0 : decode cX0_turns 0 = .ok (.aload_n 1, 1) := dk_43 (dk_at dksX0_turns_0 0 rfl rfl)
theorem dX0_turns_1 : decode cX0_turns 1 = .ok (.getfield 141, 3) := dk_180 0 141 (dk_at dksX0_turns_0 1 rfl rfl)
theorem dX0_turns_4 : decode cX0_turns 4 = .ok (.getfield 154, 3) := dk_180 0 154 (dk_at dksX0_turns_0 4 rfl rfl)
theorem dX0_turns_7 : decode cX0_turns 7 = .ok (.astore 4, 2) := dk_58 4 (dk_at dksX0_turns_0 7 rfl rfl)
theorem dX0_turns_9 : decode cX0_turns 9 = .ok (.aload 4, 2) := dk_25 4 (dk_at dksX0_turns_0 9 rfl rfl)
theorem dX0_turns_11 : decode cX0_turns 11 = .ok (.getfield 121, 3) := dk_180 0 121 (dk_at dksX0_turns_0 11 rfl rfl)
theorem dX0_turns_14 : decode cX0_turns 14 = .ok (.iconst 0, 1) := dk_3 (dk_at dksX0_turns_0 14 rfl rfl)
theorem dX0_turns_15 : decode cX0_turns 15 = .ok (.iaload, 1) := dk_46 (dk_at dksX0_turns_0 15 rfl rfl)
theorem dX0_turns_16 : decode cX0_turns 16 = .ok (.iload_n 2, 1) := dk_28 (dk_at dksX0_turns_0 16 rfl rfl)
theorem dX0_turns_17 : decode cX0_turns 17 = .ok (.iadd, 1) := dk_96 (dk_at dksX0_turns_0 17 rfl rfl)
theorem dX0_turns_18 : decode cX0_turns 18 = .ok (.iconst 0, 1) := dk_3 (dk_at dksX0_turns_0 18 rfl rfl)
theorem dX0_turns_19 : decode cX0_turns 19 = .ok (.sipush 1000, 3) := dk_17 3 232 (dk_at dksX0_turns_0 19 rfl rfl)
theorem dX0_turns_22 : decode cX0_turns 22 = .ok (.invokestatic 5, 3) := dk_184 0 5 (dk_at dksX0_turns_1 0 rfl rfl)
theorem dX0_turns_25 : decode cX0_turns 25 = .ok (.ifCond .ne 5, 3) := dk_154 0 5 (dk_at dksX0_turns_1 3 rfl rfl)
theorem dX0_turns_28 : decode cX0_turns 28 = .ok (.iconst 0, 1) := dk_3 (dk_at dksX0_turns_1 6 rfl rfl)
theorem dX0_turns_29 : decode cX0_turns 29 = .ok (.ireturn, 1) := dk_172 (dk_at dksX0_turns_1 7 rfl rfl)
theorem dX0_turns_30 : decode cX0_turns 30 = .ok (.aload 4, 2) := dk_25 4 (dk_at dksX0_turns_1 8 rfl rfl)
theorem dX0_turns_32 : decode cX0_turns 32 = .ok (.iload_n 2, 1) := dk_28 (dk_at dksX0_turns_1 10 rfl rfl)
theorem dX0_turns_33 : decode cX0_turns 33 = .ok (.putfield 321, 3) := dk_181 1 65 (dk_at dksX0_turns_1 11 rfl rfl)
theorem dX0_turns_36 : decode cX0_turns 36 = .ok (.aload_n 0, 1) := dk_42 (dk_at dksX0_turns_1 14 rfl rfl)
theorem dX0_turns_37 : decode cX0_turns 37 = .ok (.aload_n 1, 1) := dk_43 (dk_at dksX0_turns_1 15 rfl rfl)
theorem dX0_turns_38 : decode cX0_turns 38 = .ok (.getfield 141, 3) := dk_180 0 141 (dk_at dksX0_turns_1 16 rfl rfl)
theorem dX0_turns_41 : decode cX0_turns 41 = .ok (.iconst 0, 1) := dk_3 (dk_at dksX0_turns_1 19 rfl rfl)
theorem dX0_turns_42 : decode cX0_turns 42 = .ok (.invokevirtual 263, 3) := dk_182 1 7 (dk_at dksX0_turns_1 20 rfl rfl)
theorem dX0_turns_45 : decode cX0_turns 45 = .ok (.aload 4, 2) := dk_25 4 (dk_at dksX0_turns_2 0 rfl rfl)
theorem dX0_turns_47 : decode cX0_turns 47 = .ok (.iconst 0, 1) := dk_3 (dk_at dksX0_turns_2 2 rfl rfl)
theorem dX0_turns_48 : decode cX0_turns 48 = .ok (.putfield 321, 3) := dk_181 1 65 (dk_at dksX0_turns_2 3 rfl rfl)
theorem dX0_turns_51 : decode cX0_turns 51 = .ok (.aload_n 0, 1) := dk_42 (dk_at dksX0_turns_2 6 rfl rfl)
theorem dX0_turns_52 : decode cX0_turns 52 = .ok (.invokevirtual 284, 3) := dk_182 1 28 (dk_at dksX0_turns_2 7 rfl rfl)
theorem dX0_turns_55 : decode cX0_turns 55 = .ok (.iload_n 3, 1) := dk_29 (dk_at dksX0_turns_2 10 rfl rfl)
theorem dX0_turns_56 : decode cX0_turns 56 = .ok (.if_icmp .eq 7, 3) := dk_159 0 7 (dk_at dksX0_turns_2 11 rfl rfl)
theorem dX0_turns_59 : decode cX0_turns 59 = .ok (.iconst 1, 1) := dk_4 (dk_at dksX0_turns_2 14 rfl rfl)
theorem dX0_turns_60 : decode cX0_turns 60 = .ok (.goto 4, 3) := dk_167 0 4 (dk_at dksX0_turns_2 15 rfl rfl)
theorem dX0_turns_63 : decode cX0_turns 63 = .ok (.iconst 0, 1) := dk_3 (dk_at dksX0_turns_2 18 rfl rfl)
theorem dX0_turns_64 : decode cX0_turns 64 = .ok (.ireturn, 1) := dk_172 (dk_at dksX0_turns_2 19 rfl rfl)
abbrev cX0_run : ByteArray := prog_1_method_50_code
def yX0_run : MethodName := ⟨RX0, "run", "(III)I"⟩
def dkwX0_run_2 : List UInt8 := [167, 0, 5, 16, 254, 172]
abbrev dktX0_run_2 : List UInt8 := dkwX0_run_2 ++ []
def dkwX0_run_1 : List UInt8 := [2, 172, 29, 3, 17, 3, 231, 184, 0, 5, 153, 0, 15, 42, 25, 4, 25, 5, 29, 182, 1, 78]
abbrev dktX0_run_1 : List UInt8 := dkwX0_run_1 ++ dktX0_run_2
def dkwX0_run_0 : List UInt8 := [42, 27, 182, 0, 249, 58, 4, 42, 28, 182, 0, 137, 58, 5, 25, 4, 198, 0, 8, 25, 5, 199, 0, 5]
abbrev dktX0_run_0 : List UInt8 := dkwX0_run_0 ++ dktX0_run_1
theorem dksX0_run_0 : cX0_run.data.toList.drop 0 = dktX0_run_0 := by decide +kernel
theorem dksX0_run_1 : cX0_run.data.toList.drop 24 = dktX0_run_1 := dk_seg dksX0_run_0 24 rfl rfl
theorem dksX0_run_2 : cX0_run.data.toList.drop 46 = dktX0_run_2 := dk_seg dksX0_run_1 22 rfl rfl
theorem dX0_run_0 : decode cX0_run 0 = .ok (.aload_n 0, 1) := dk_42 (dk_at dksX0_run_0 0 rfl rfl)
theorem dX0_run_1 : decode cX0_run 1 = .ok (.iload_n 1, 1) := dk_27 (dk_at dksX0_run_0 1 rfl rfl)
theorem dX0_run_2 : decode cX0_run 2 = .ok (.invokevirtual 249, 3) := dk_182 0 249 (dk_at dksX0_run_0 2 rfl rfl)
theorem dX0_run_5 : decode cX0_run 5 = .ok (.astore 4, 2) := dk_58 4 (dk_at dksX0_run_0 5 rfl rfl)
theorem dX0_run_7 : decode cX0_run 7 = .ok (.aload_n 0, 1) := dk_42 (dk_at dksX0_run_0 7 rfl rfl)
theorem dX0_run_8 : decode cX0_run 8 = .ok (.iload_n 2, 1) := dk_28 (dk_at dksX0_run_0 8 rfl rfl)
theorem dX0_run_9 : decode cX0_run 9 = .ok (.invokevirtual 137, 3) := dk_182 0 137 (dk_at dksX0_run_0 9 rfl rfl)
theorem dX0_run_12 : decode cX0_run 12 = .ok (.astore 5, 2) := dk_58 5 (dk_at dksX0_run_0 12 rfl rfl)
theorem dX0_run_14 : decode cX0_run 14 = .ok (.aload 4, 2) := dk_25 4 (dk_at dksX0_run_0 14 rfl rfl)
theorem dX0_run_16 : decode cX0_run 16 = .ok (.ifnull 8, 3) := dk_198 0 8 (dk_at dksX0_run_0 16 rfl rfl)
theorem dX0_run_19 : decode cX0_run 19 = .ok (.aload 5, 2) := dk_25 5 (dk_at dksX0_run_0 19 rfl rfl)
theorem dX0_run_21 : decode cX0_run 21 = .ok (.ifnonnull 5, 3) := dk_199 0 5 (dk_at dksX0_run_0 21 rfl rfl)
theorem dX0_run_24 : decode cX0_run 24 = .ok (.iconst (-1), 1) := dk_2 (dk_at dksX0_run_1 0 rfl rfl)
theorem dX0_run_25 : decode cX0_run 25 = .ok (.ireturn, 1) := dk_172 (dk_at dksX0_run_1 1 rfl rfl)
theorem dX0_run_26 : decode cX0_run 26 = .ok (.iload_n 3, 1) := dk_29 (dk_at dksX0_run_1 2 rfl rfl)
theorem dX0_run_27 : decode cX0_run 27 = .ok (.iconst 0, 1) := dk_3 (dk_at dksX0_run_1 3 rfl rfl)
theorem dX0_run_28 : decode cX0_run 28 = .ok (.sipush 999, 3) := dk_17 3 231 (dk_at dksX0_run_1 4 rfl rfl)
theorem dX0_run_31 : decode cX0_run 31 = .ok (.invokestatic 5, 3) := dk_184 0 5 (dk_at dksX0_run_1 7 rfl rfl)
theorem dX0_run_34 : decode cX0_run 34 = .ok (.ifCond .eq 15, 3) := dk_153 0 15 (dk_at dksX0_run_1 10 rfl rfl)
theorem dX0_run_37 : decode cX0_run 37 = .ok (.aload_n 0, 1) := dk_42 (dk_at dksX0_run_1 13 rfl rfl)
theorem dX0_run_38 : decode cX0_run 38 = .ok (.aload 4, 2) := dk_25 4 (dk_at dksX0_run_1 14 rfl rfl)
theorem dX0_run_40 : decode cX0_run 40 = .ok (.aload 5, 2) := dk_25 5 (dk_at dksX0_run_1 16 rfl rfl)
theorem dX0_run_42 : decode cX0_run 42 = .ok (.iload_n 3, 1) := dk_29 (dk_at dksX0_run_1 18 rfl rfl)
theorem dX0_run_43 : decode cX0_run 43 = .ok (.invokevirtual 334, 3) := dk_182 1 78 (dk_at dksX0_run_1 19 rfl rfl)
theorem dX0_run_46 : decode cX0_run 46 = .ok (.goto 5, 3) := dk_167 0 5 (dk_at dksX0_run_2 0 rfl rfl)
theorem dX0_run_49 : decode cX0_run 49 = .ok (.bipush (-2), 2) := dk_16 254 (dk_at dksX0_run_2 3 rfl rfl)
theorem dX0_run_51 : decode cX0_run 51 = .ok (.ireturn, 1) := dk_172 (dk_at dksX0_run_2 5 rfl rfl)
abbrev cX0_runOf : ByteArray := prog_1_method_49_code
def yX0_runOf : MethodName := ⟨RX0, "runOf", "(LFortyDays$Rule;LFortyDays$Ship;I)I"⟩
def dkwX0_runOf_9 : List UInt8 := [21, 6, 96, 172]
abbrev dktX0_runOf_9 : List UInt8 := dkwX0_runOf_9 ++ []
def dkwX0_runOf_8 : List UInt8 := [162, 0, 6, 132, 5, 1, 42, 180, 0, 70, 182, 0, 171, 132, 6, 1, 167, 255, 139, 16, 100, 21, 5, 104]
abbrev dktX0_runOf_8 : List UInt8 := dkwX0_runOf_8 ++ dktX0_runOf_9
def dkwX0_runOf_7 : List UInt8 := [104, 96, 17, 3, 232, 112, 21, 7, 25, 4, 182, 1, 75, 104, 162, 0, 15, 21, 5, 44, 180, 0, 162]
abbrev dktX0_runOf_7 : List UInt8 := dkwX0_runOf_7 ++ dktX0_runOf_8
def dkwX0_runOf_6 : List UInt8 := [162, 0, 16, 17, 39, 16, 16, 100, 21, 5, 104, 96, 21, 6, 96, 172, 29, 16, 7, 104, 21, 6, 16, 11]
abbrev dktX0_runOf_6 : List UInt8 := dkwX0_runOf_6 ++ dktX0_runOf_7
def dkwX0_runOf_5 : List UInt8 := [21, 6, 16, 29, 104, 96, 6, 104, 17, 3, 232, 112, 21, 7, 25, 4, 180, 0, 121, 4, 46, 104]
abbrev dktX0_runOf_5 : List UInt8 := dkwX0_runOf_5 ++ dktX0_runOf_6
def dkwX0_runOf_4 : List UInt8 := [180, 0, 70, 21, 6, 182, 1, 3, 154, 0, 103, 6, 21, 5, 184, 1, 72, 54, 7, 29, 16, 13, 104]
abbrev dktX0_runOf_4 : List UInt8 := dkwX0_runOf_4 ++ dktX0_runOf_5
def dkwX0_runOf_3 : List UInt8 := [180, 0, 70, 44, 180, 0, 141, 182, 0, 186, 3, 54, 6, 21, 6, 16, 20, 162, 0, 116, 43, 42]
abbrev dktX0_runOf_3 : List UInt8 := dkwX0_runOf_3 ++ dktX0_runOf_4
def dkwX0_runOf_2 : List UInt8 := [44, 180, 0, 161, 46, 162, 0, 7, 4, 167, 0, 4, 3, 96, 54, 5, 132, 6, 1, 167, 255, 204, 42]
abbrev dktX0_runOf_2 : List UInt8 := dkwX0_runOf_2 ++ dktX0_runOf_3
def dkwX0_runOf_1 : List UInt8 := [21, 5, 29, 16, 31, 104, 21, 6, 16, 17, 104, 96, 16, 7, 104, 17, 3, 232, 112, 25, 4, 180, 0, 118]
abbrev dktX0_runOf_1 : List UInt8 := dkwX0_runOf_1 ++ dktX0_runOf_2
def dkwX0_runOf_0 : List UInt8 := [44, 180, 0, 141, 180, 0, 154, 58, 4, 3, 54, 5, 3, 54, 6, 21, 6, 44, 180, 0, 162, 162, 0, 49]
abbrev dktX0_runOf_0 : List UInt8 := dkwX0_runOf_0 ++ dktX0_runOf_1
theorem dksX0_runOf_0 : cX0_runOf.data.toList.drop 0 = dktX0_runOf_0 := by decide +kernel
theorem dksX0_runOf_1 : cX0_runOf.data.toList.drop 24 = dktX0_runOf_1 := dk_seg dksX0_runOf_0 24 rfl rfl
theorem dksX0_runOf_2 : cX0_runOf.data.toList.drop 48 = dktX0_runOf_2 := dk_seg dksX0_runOf_1 24 rfl rfl
theorem dksX0_runOf_3 : cX0_runOf.data.toList.drop 71 = dktX0_runOf_3 := dk_seg dksX0_runOf_2 23 rfl rfl
theorem dksX0_runOf_4 : cX0_runOf.data.toList.drop 93 = dktX0_runOf_4 := dk_seg dksX0_runOf_3 22 rfl rfl
theorem dksX0_runOf_5 : cX0_runOf.data.toList.drop 116 = dktX0_runOf_5 := dk_seg dksX0_runOf_4 23 rfl rfl
theorem dksX0_runOf_6 : cX0_runOf.data.toList.drop 138 = dktX0_runOf_6 := dk_seg dksX0_runOf_5 22 rfl rfl
theorem dksX0_runOf_7 : cX0_runOf.data.toList.drop 162 = dktX0_runOf_7 := dk_seg dksX0_runOf_6 24 rfl rfl
theorem dksX0_runOf_8 : cX0_runOf.data.toList.drop 185 = dktX0_runOf_8 := dk_seg dksX0_runOf_7 23 rfl rfl
theorem dksX0_runOf_9 : cX0_runOf.data.toList.drop 209 = dktX0_runOf_9 := dk_seg dksX0_runOf_8 24 rfl rfl
theorem dX0_runOf_0 : decode cX0_runOf 0 = .ok (.aload_n 2, 1) := dk_44 (dk_at dksX0_runOf_0 0 rfl rfl)
theorem dX0_runOf_1 : decode cX0_runOf 1 = .ok (.getfield 141, 3) := dk_180 0 141 (dk_at dksX0_runOf_0 1 rfl rfl)
theorem dX0_runOf_4 : decode cX0_runOf 4 = .ok (.getfield 154, 3) := dk_180 0 154 (dk_at dksX0_runOf_0 4 rfl rfl)
theorem dX0_runOf_7 : decode cX0_runOf 7 = .ok (.astore 4, 2) := dk_58 4 (dk_at dksX0_runOf_0 7 rfl rfl)
theorem dX0_runOf_9 : decode cX0_runOf 9 = .ok (.iconst 0, 1) := dk_3 (dk_at dksX0_runOf_0 9 rfl rfl)
theorem dX0_runOf_10 : decode cX0_runOf 10 = .ok (.istore 5, 2) := dk_54 5 (dk_at dksX0_runOf_0 10 rfl rfl)
theorem dX0_runOf_12 : decode cX0_runOf 12 = .ok (.iconst 0, 1) := dk_3 (dk_at dksX0_runOf_0 12 rfl rfl)
theorem dX0_runOf_13 : decode cX0_runOf 13 = .ok (.istore 6, 2) := dk_54 6 (dk_at dksX0_runOf_0 13 rfl rfl)
theorem dX0_runOf_15 : decode cX0_runOf 15 = .ok (.iload 6, 2) := dk_21 6 (dk_at dksX0_runOf_0 15 rfl rfl)
theorem dX0_runOf_17 : decode cX0_runOf 17 = .ok (.aload_n 2, 1) := dk_44 (dk_at dksX0_runOf_0 17 rfl rfl)
theorem dX0_runOf_18 : decode cX0_runOf 18 = .ok (.getfield 162, 3) := dk_180 0 162 (dk_at dksX0_runOf_0 18 rfl rfl)
theorem dX0_runOf_21 : decode cX0_runOf 21 = .ok (.if_icmp .ge 49, 3) := dk_162 0 49 (dk_at dksX0_runOf_0 21 rfl rfl)
theorem dX0_runOf_24 : decode cX0_runOf 24 = .ok (.iload 5, 2) := dk_21 5 (dk_at dksX0_runOf_1 0 rfl rfl)
theorem dX0_runOf_26 : decode cX0_runOf 26 = .ok (.iload_n 3, 1) := dk_29 (dk_at dksX0_runOf_1 2 rfl rfl)
theorem dX0_runOf_27 : decode cX0_runOf 27 = .ok (.bipush 31, 2) := dk_16 31 (dk_at dksX0_runOf_1 3 rfl rfl)
theorem dX0_runOf_29 : decode cX0_runOf 29 = .ok (.imul, 1) := dk_104 (dk_at dksX0_runOf_1 5 rfl rfl)
theorem dX0_runOf_30 : decode cX0_runOf 30 = .ok (.iload 6, 2) := dk_21 6 (dk_at dksX0_runOf_1 6 rfl rfl)
theorem dX0_runOf_32 : decode cX0_runOf 32 = .ok (.bipush 17, 2) := dk_16 17 (dk_at dksX0_runOf_1 8 rfl rfl)
theorem dX0_runOf_34 : decode cX0_runOf 34 = .ok (.imul, 1) := dk_104 (dk_at dksX0_runOf_1 10 rfl rfl)
theorem dX0_runOf_35 : decode cX0_runOf 35 = .ok (.iadd, 1) := dk_96 (dk_at dksX0_runOf_1 11 rfl rfl)
theorem dX0_runOf_36 : decode cX0_runOf 36 = .ok (.bipush 7, 2) := dk_16 7 (dk_at dksX0_runOf_1 12 rfl rfl)
theorem dX0_runOf_38 : decode cX0_runOf 38 = .ok (.imul, 1) := dk_104 (dk_at dksX0_runOf_1 14 rfl rfl)
theorem dX0_runOf_39 : decode cX0_runOf 39 = .ok (.sipush 1000, 3) := dk_17 3 232 (dk_at dksX0_runOf_1 15 rfl rfl)
theorem dX0_runOf_42 : decode cX0_runOf 42 = .ok (.irem, 1) := dk_112 (dk_at dksX0_runOf_1 18 rfl rfl)
theorem dX0_runOf_43 : decode cX0_runOf 43 = .ok (.aload 4, 2) := dk_25 4 (dk_at dksX0_runOf_1 19 rfl rfl)
theorem dX0_runOf_45 : decode cX0_runOf 45 = .ok (.getfield 118, 3) := dk_180 0 118 (dk_at dksX0_runOf_1 21 rfl rfl)
theorem dX0_runOf_48 : decode cX0_runOf 48 = .ok (.aload_n 2, 1) := dk_44 (dk_at dksX0_runOf_2 0 rfl rfl)
theorem dX0_runOf_49 : decode cX0_runOf 49 = .ok (.getfield 161, 3) := dk_180 0 161 (dk_at dksX0_runOf_2 1 rfl rfl)
theorem dX0_runOf_52 : decode cX0_runOf 52 = .ok (.iaload, 1) := dk_46 (dk_at dksX0_runOf_2 4 rfl rfl)
theorem dX0_runOf_53 : decode cX0_runOf 53 = .ok (.if_icmp .ge 7, 3) := dk_162 0 7 (dk_at dksX0_runOf_2 5 rfl rfl)
theorem dX0_runOf_56 : decode cX0_runOf 56 = .ok (.iconst 1, 1) := dk_4 (dk_at dksX0_runOf_2 8 rfl rfl)
theorem dX0_runOf_57 : decode cX0_runOf 57 = .ok (.goto 4, 3) := dk_167 0 4 (dk_at dksX0_runOf_2 9 rfl rfl)
theorem dX0_runOf_60 : decode cX0_runOf 60 = .ok (.iconst 0, 1) := dk_3 (dk_at dksX0_runOf_2 12 rfl rfl)
theorem dX0_runOf_61 : decode cX0_runOf 61 = .ok (.iadd, 1) := dk_96 (dk_at dksX0_runOf_2 13 rfl rfl)
theorem dX0_runOf_62 : decode cX0_runOf 62 = .ok (.istore 5, 2) := dk_54 5 (dk_at dksX0_runOf_2 14 rfl rfl)
theorem dX0_runOf_64 : decode cX0_runOf 64 = .ok (.iinc 6 1, 3) := dk_132 6 1 (dk_at dksX0_runOf_2 16 rfl rfl)
theorem dX0_runOf_67 : decode cX0_runOf 67 = .ok (.goto (-52), 3) := dk_167 255 204 (dk_at dksX0_runOf_2 19 rfl rfl)
theorem dX0_runOf_70 : decode cX0_runOf 70 = .ok (.aload_n 0, 1) := dk_42 (dk_at dksX0_runOf_2 22 rfl rfl)
theorem dX0_runOf_71 : decode cX0_runOf 71 = .ok (.getfield 70, 3) := dk_180 0 70 (dk_at dksX0_runOf_3 0 rfl rfl)
theorem dX0_runOf_74 : decode cX0_runOf 74 = .ok (.aload_n 2, 1) := dk_44 (dk_at dksX0_runOf_3 3 rfl rfl)
theorem dX0_runOf_75 : decode cX0_runOf 75 = .ok (.getfield 141, 3) := dk_180 0 141 (dk_at dksX0_runOf_3 4 rfl rfl)
theorem dX0_runOf_78 : decode cX0_runOf 78 = .ok (.invokevirtual 186, 3) := dk_182 0 186 (dk_at dksX0_runOf_3 7 rfl rfl)
theorem dX0_runOf_81 : decode cX0_runOf 81 = .ok (.iconst 0, 1) := dk_3 (dk_at dksX0_runOf_3 10 rfl rfl)
theorem dX0_runOf_82 : decode cX0_runOf 82 = .ok (.istore 6, 2) := dk_54 6 (dk_at dksX0_runOf_3 11 rfl rfl)
theorem dX0_runOf_84 : decode cX0_runOf 84 = .ok (.iload 6, 2) := dk_21 6 (dk_at dksX0_runOf_3 13 rfl rfl)
theorem dX0_runOf_86 : decode cX0_runOf 86 = .ok (.bipush 20, 2) := dk_16 20 (dk_at dksX0_runOf_3 15 rfl rfl)
theorem dX0_runOf_88 : decode cX0_runOf 88 = .ok (.if_icmp .ge 116, 3) := dk_162 0 116 (dk_at dksX0_runOf_3 17 rfl rfl)
theorem dX0_runOf_91 : decode cX0_runOf 91 = .ok (.aload_n 1, 1) := dk_43 (dk_at dksX0_runOf_3 20 rfl rfl)
theorem dX0_runOf_92 : decode cX0_runOf 92 = .ok (.aload_n 0, 1) := dk_42 (dk_at dksX0_runOf_3 21 rfl rfl)
theorem dX0_runOf_93 : decode cX0_runOf 93 = .ok (.getfield 70, 3) := dk_180 0 70 (dk_at dksX0_runOf_4 0 rfl rfl)
theorem dX0_runOf_96 : decode cX0_runOf 96 = .ok (.iload 6, 2) := dk_21 6 (dk_at dksX0_runOf_4 3 rfl rfl)
theorem dX0_runOf_98 : decode cX0_runOf 98 = .ok (.invokevirtual 259, 3) := dk_182 1 3 (dk_at dksX0_runOf_4 5 rfl rfl)
theorem dX0_runOf_101 : decode cX0_runOf 101 = .ok (.ifCond .ne 103, 3) := dk_154 0 103 (dk_at dksX0_runOf_4 8 rfl rfl)
theorem dX0_runOf_104 : decode cX0_runOf 104 = .ok (.iconst 3, 1) := dk_6 (dk_at dksX0_runOf_4 11 rfl rfl)
theorem dX0_runOf_105 : decode cX0_runOf 105 = .ok (.iload 5, 2) := dk_21 5 (dk_at dksX0_runOf_4 12 rfl rfl)
theorem dX0_runOf_107 : decode cX0_runOf 107 = .ok (.invokestatic 328, 3) := dk_184 1 72 (dk_at dksX0_runOf_4 14 rfl rfl)
theorem dX0_runOf_110 : decode cX0_runOf 110 = .ok (.istore 7, 2) := dk_54 7 (dk_at dksX0_runOf_4 17 rfl rfl)
theorem dX0_runOf_112 : decode cX0_runOf 112 = .ok (.iload_n 3, 1) := dk_29 (dk_at dksX0_runOf_4 19 rfl rfl)
theorem dX0_runOf_113 : decode cX0_runOf 113 = .ok (.bipush 13, 2) := dk_16 13 (dk_at dksX0_runOf_4 20 rfl rfl)
theorem dX0_runOf_115 : decode cX0_runOf 115 = .ok (.imul, 1) := dk_104 (dk_at dksX0_runOf_4 22 rfl rfl)
theorem dX0_runOf_116 : decode cX0_runOf 116 = .ok (.iload 6, 2) := dk_21 6 (dk_at dksX0_runOf_5 0 rfl rfl)
theorem dX0_runOf_118 : decode cX0_runOf 118 = .ok (.bipush 29, 2) := dk_16 29 (dk_at dksX0_runOf_5 2 rfl rfl)
theorem dX0_runOf_120 : decode cX0_runOf 120 = .ok (.imul, 1) := dk_104 (dk_at dksX0_runOf_5 4 rfl rfl)
theorem dX0_runOf_121 : decode cX0_runOf 121 = .ok (.iadd, 1) := dk_96 (dk_at dksX0_runOf_5 5 rfl rfl)
theorem dX0_runOf_122 : decode cX0_runOf 122 = .ok (.iconst 3, 1) := dk_6 (dk_at dksX0_runOf_5 6 rfl rfl)
theorem dX0_runOf_123 : decode cX0_runOf 123 = .ok (.imul, 1) := dk_104 (dk_at dksX0_runOf_5 7 rfl rfl)
theorem dX0_runOf_124 : decode cX0_runOf 124 = .ok (.sipush 1000, 3) := dk_17 3 232 (dk_at dksX0_runOf_5 8 rfl rfl)
theorem dX0_runOf_127 : decode cX0_runOf 127 = .ok (.irem, 1) := dk_112 (dk_at dksX0_runOf_5 11 rfl rfl)
theorem dX0_runOf_128 : decode cX0_runOf 128 = .ok (.iload 7, 2) := dk_21 7 (dk_at dksX0_runOf_5 12 rfl rfl)
theorem dX0_runOf_130 : decode cX0_runOf 130 = .ok (.aload 4, 2) := dk_25 4 (dk_at dksX0_runOf_5 14 rfl rfl)
theorem dX0_runOf_132 : decode cX0_runOf 132 = .ok (.getfield 121, 3) := dk_180 0 121 (dk_at dksX0_runOf_5 16 rfl rfl)
theorem dX0_runOf_135 : decode cX0_runOf 135 = .ok (.iconst 1, 1) := dk_4 (dk_at dksX0_runOf_5 19 rfl rfl)
theorem dX0_runOf_136 : decode cX0_runOf 136 = .ok (.iaload, 1) := dk_46 (dk_at dksX0_runOf_5 20 rfl rfl)
theorem dX0_runOf_137 : decode cX0_runOf 137 = .ok (.imul, 1) := dk_104 (dk_at dksX0_runOf_5 21 rfl rfl)
theorem dX0_runOf_138 : decode cX0_runOf 138 = .ok (.if_icmp .ge 16, 3) := dk_162 0 16 (dk_at dksX0_runOf_6 0 rfl rfl)
theorem dX0_runOf_141 : decode cX0_runOf 141 = .ok (.sipush 10000, 3) := dk_17 39 16 (dk_at dksX0_runOf_6 3 rfl rfl)
theorem dX0_runOf_144 : decode cX0_runOf 144 = .ok (.bipush 100, 2) := dk_16 100 (dk_at dksX0_runOf_6 6 rfl rfl)
theorem dX0_runOf_146 : decode cX0_runOf 146 = .ok (.iload 5, 2) := dk_21 5 (dk_at dksX0_runOf_6 8 rfl rfl)
theorem dX0_runOf_148 : decode cX0_runOf 148 = .ok (.imul, 1) := dk_104 (dk_at dksX0_runOf_6 10 rfl rfl)
theorem dX0_runOf_149 : decode cX0_runOf 149 = .ok (.iadd, 1) := dk_96 (dk_at dksX0_runOf_6 11 rfl rfl)
theorem dX0_runOf_150 : decode cX0_runOf 150 = .ok (.iload 6, 2) := dk_21 6 (dk_at dksX0_runOf_6 12 rfl rfl)
theorem dX0_runOf_152 : decode cX0_runOf 152 = .ok (.iadd, 1) := dk_96 (dk_at dksX0_runOf_6 14 rfl rfl)
theorem dX0_runOf_153 : decode cX0_runOf 153 = .ok (.ireturn, 1) := dk_172 (dk_at dksX0_runOf_6 15 rfl rfl)
theorem dX0_runOf_154 : decode cX0_runOf 154 = .ok (.iload_n 3, 1) := dk_29 (dk_at dksX0_runOf_6 16 rfl rfl)
theorem dX0_runOf_155 : decode cX0_runOf 155 = .ok (.bipush 7, 2) := dk_16 7 (dk_at dksX0_runOf_6 17 rfl rfl)
theorem dX0_runOf_157 : decode cX0_runOf 157 = .ok (.imul, 1) := dk_104 (dk_at dksX0_runOf_6 19 rfl rfl)
theorem dX0_runOf_158 : decode cX0_runOf 158 = .ok (.iload 6, 2) := dk_21 6 (dk_at dksX0_runOf_6 20 rfl rfl)
theorem dX0_runOf_160 : decode cX0_runOf 160 = .ok (.bipush 11, 2) := dk_16 11 (dk_at dksX0_runOf_6 22 rfl rfl)
theorem dX0_runOf_162 : decode cX0_runOf 162 = .ok (.imul, 1) := dk_104 (dk_at dksX0_runOf_7 0 rfl rfl)
theorem dX0_runOf_163 : decode cX0_runOf 163 = .ok (.iadd, 1) := dk_96 (dk_at dksX0_runOf_7 1 rfl rfl)
theorem dX0_runOf_164 : decode cX0_runOf 164 = .ok (.sipush 1000, 3) := dk_17 3 232 (dk_at dksX0_runOf_7 2 rfl rfl)
theorem dX0_runOf_167 : decode cX0_runOf 167 = .ok (.irem, 1) := dk_112 (dk_at dksX0_runOf_7 5 rfl rfl)
theorem dX0_runOf_168 : decode cX0_runOf 168 = .ok (.iload 7, 2) := dk_21 7 (dk_at dksX0_runOf_7 6 rfl rfl)
theorem dX0_runOf_170 : decode cX0_runOf 170 = .ok (.aload 4, 2) := dk_25 4 (dk_at dksX0_runOf_7 8 rfl rfl)
theorem dX0_runOf_172 : decode cX0_runOf 172 = .ok (.invokevirtual 331, 3) := dk_182 1 75 (dk_at dksX0_runOf_7 10 rfl rfl)
theorem dX0_runOf_175 : decode cX0_runOf 175 = .ok (.imul, 1) := dk_104 (dk_at dksX0_runOf_7 13 rfl rfl)
theorem dX0_runOf_176 : decode cX0_runOf 176 = .ok (.if_icmp .ge 15, 3) := dk_162 0 15 (dk_at dksX0_runOf_7 14 rfl rfl)
theorem dX0_runOf_179 : decode cX0_runOf 179 = .ok (.iload 5, 2) := dk_21 5 (dk_at dksX0_runOf_7 17 rfl rfl)
theorem dX0_runOf_181 : decode cX0_runOf 181 = .ok (.aload_n 2, 1) := dk_44 (dk_at dksX0_runOf_7 19 rfl rfl)
theorem dX0_runOf_182 : decode cX0_runOf 182 = .ok (.getfield 162, 3) := dk_180 0 162 (dk_at dksX0_runOf_7 20 rfl rfl)
theorem dX0_runOf_185 : decode cX0_runOf 185 = .ok (.if_icmp .ge 6, 3) := dk_162 0 6 (dk_at dksX0_runOf_8 0 rfl rfl)
theorem dX0_runOf_188 : decode cX0_runOf 188 = .ok (.iinc 5 1, 3) := dk_132 5 1 (dk_at dksX0_runOf_8 3 rfl rfl)
theorem dX0_runOf_191 : decode cX0_runOf 191 = .ok (.aload_n 0, 1) := dk_42 (dk_at dksX0_runOf_8 6 rfl rfl)
theorem dX0_runOf_192 : decode cX0_runOf 192 = .ok (.getfield 70, 3) := dk_180 0 70 (dk_at dksX0_runOf_8 7 rfl rfl)
theorem dX0_runOf_195 : decode cX0_runOf 195 = .ok (.invokevirtual 171, 3) := dk_182 0 171 (dk_at dksX0_runOf_8 10 rfl rfl)
theorem dX0_runOf_198 : decode cX0_runOf 198 = .ok (.iinc 6 1, 3) := dk_132 6 1 (dk_at dksX0_runOf_8 13 rfl rfl)
theorem dX0_runOf_201 : decode cX0_runOf 201 = .ok (.goto (-117), 3) := dk_167 255 139 (dk_at dksX0_runOf_8 16 rfl rfl)
theorem dX0_runOf_204 : decode cX0_runOf 204 = .ok (.bipush 100, 2) := dk_16 100 (dk_at dksX0_runOf_8 19 rfl rfl)
theorem dX0_runOf_206 : decode cX0_runOf 206 = .ok (.iload 5, 2) := dk_21 5 (dk_at dksX0_runOf_8 21 rfl rfl)
theorem dX0_runOf_208 : decode cX0_runOf 208 = .ok (.imul, 1) := dk_104 (dk_at dksX0_runOf_8 23 rfl rfl)
theorem dX0_runOf_209 : decode cX0_runOf 209 = .ok (.iload 6, 2) := dk_21 6 (dk_at dksX0_runOf_9 0 rfl rfl)
theorem dX0_runOf_211 : decode cX0_runOf 211 = .ok (.iadd, 1) := dk_96 (dk_at dksX0_runOf_9 2 rfl rfl)
theorem dX0_runOf_212 : decode cX0_runOf 212 = .ok (.ireturn, 1) := dk_172 (dk_at dksX0_runOf_9 3 rfl rfl)
abbrev cX0_act : ByteArray := prog_1_method_51_code
def yX0_act : MethodName := ⟨RX0, "act", "(III)I"⟩
def dkwX0_act_2 : List UInt8 := [25, 4, 29, 182, 1, 86, 167, 0, 9, 25, 4, 29, 182, 1, 89, 172]
abbrev dktX0_act_2 : List UInt8 := dkwX0_act_2 ++ []
def dkwX0_act_1 : List UInt8 := [154, 0, 5, 3, 172, 28, 154, 0, 12, 25, 4, 29, 182, 1, 82, 167, 0, 23, 28, 4, 160, 0, 12]
abbrev dktX0_act_1 : List UInt8 := dkwX0_act_1 ++ dktX0_act_2
def dkwX0_act_0 : List UInt8 := [42, 3, 181, 0, 217, 42, 27, 182, 0, 249, 58, 4, 25, 4, 198, 0, 12, 28, 3, 5, 184, 0, 5]
abbrev dktX0_act_0 : List UInt8 := dkwX0_act_0 ++ dktX0_act_1
theorem dksX0_act_0 : cX0_act.data.toList.drop 0 = dktX0_act_0 := by decide +kernel
theorem dksX0_act_1 : cX0_act.data.toList.drop 23 = dktX0_act_1 := dk_seg dksX0_act_0 23 rfl rfl
theorem dksX0_act_2 : cX0_act.data.toList.drop 46 = dktX0_act_2 := dk_seg dksX0_act_1 23 rfl rfl
theorem dX0_act_0 : decode cX0_act 0 = .ok (.aload_n 0, 1) := dk_42 (dk_at dksX0_act_0 0 rfl rfl)
theorem dX0_act_1 : decode cX0_act 1 = .ok (.iconst 0, 1) := dk_3 (dk_at dksX0_act_0 1 rfl rfl)
theorem dX0_act_2 : decode cX0_act 2 = .ok (.putfield 217, 3) := dk_181 0 217 (dk_at dksX0_act_0 2 rfl rfl)
theorem dX0_act_5 : decode cX0_act 5 = .ok (.aload_n 0, 1) := dk_42 (dk_at dksX0_act_0 5 rfl rfl)
theorem dX0_act_6 : decode cX0_act 6 = .ok (.iload_n 1, 1) := dk_27 (dk_at dksX0_act_0 6 rfl rfl)
theorem dX0_act_7 : decode cX0_act 7 = .ok (.invokevirtual 249, 3) := dk_182 0 249 (dk_at dksX0_act_0 7 rfl rfl)
theorem dX0_act_10 : decode cX0_act 10 = .ok (.astore 4, 2) := dk_58 4 (dk_at dksX0_act_0 10 rfl rfl)
theorem dX0_act_12 : decode cX0_act 12 = .ok (.aload 4, 2) := dk_25 4 (dk_at dksX0_act_0 12 rfl rfl)
theorem dX0_act_14 : decode cX0_act 14 = .ok (.ifnull 12, 3) := dk_198 0 12 (dk_at dksX0_act_0 14 rfl rfl)
theorem dX0_act_17 : decode cX0_act 17 = .ok (.iload_n 2, 1) := dk_28 (dk_at dksX0_act_0 17 rfl rfl)
theorem dX0_act_18 : decode cX0_act 18 = .ok (.iconst 0, 1) := dk_3 (dk_at dksX0_act_0 18 rfl rfl)
theorem dX0_act_19 : decode cX0_act 19 = .ok (.iconst 2, 1) := dk_5 (dk_at dksX0_act_0 19 rfl rfl)
theorem dX0_act_20 : decode cX0_act 20 = .ok (.invokestatic 5, 3) := dk_184 0 5 (dk_at dksX0_act_0 20 rfl rfl)
theorem dX0_act_23 : decode cX0_act 23 = .ok (.ifCond .ne 5, 3) := dk_154 0 5 (dk_at dksX0_act_1 0 rfl rfl)
theorem dX0_act_26 : decode cX0_act 26 = .ok (.iconst 0, 1) := dk_3 (dk_at dksX0_act_1 3 rfl rfl)
theorem dX0_act_27 : decode cX0_act 27 = .ok (.ireturn, 1) := dk_172 (dk_at dksX0_act_1 4 rfl rfl)
theorem dX0_act_28 : decode cX0_act 28 = .ok (.iload_n 2, 1) := dk_28 (dk_at dksX0_act_1 5 rfl rfl)
theorem dX0_act_29 : decode cX0_act 29 = .ok (.ifCond .ne 12, 3) := dk_154 0 12 (dk_at dksX0_act_1 6 rfl rfl)
theorem dX0_act_32 : decode cX0_act 32 = .ok (.aload 4, 2) := dk_25 4 (dk_at dksX0_act_1 9 rfl rfl)
theorem dX0_act_34 : decode cX0_act 34 = .ok (.iload_n 3, 1) := dk_29 (dk_at dksX0_act_1 11 rfl rfl)
theorem dX0_act_35 : decode cX0_act 35 = .ok (.invokevirtual 338, 3) := dk_182 1 82 (dk_at dksX0_act_1 12 rfl rfl)
theorem dX0_act_38 : decode cX0_act 38 = .ok (.goto 23, 3) := dk_167 0 23 (dk_at dksX0_act_1 15 rfl rfl)
theorem dX0_act_41 : decode cX0_act 41 = .ok (.iload_n 2, 1) := dk_28 (dk_at dksX0_act_1 18 rfl rfl)
theorem dX0_act_42 : decode cX0_act 42 = .ok (.iconst 1, 1) := dk_4 (dk_at dksX0_act_1 19 rfl rfl)
theorem dX0_act_43 : decode cX0_act 43 = .ok (.if_icmp .ne 12, 3) := dk_160 0 12 (dk_at dksX0_act_1 20 rfl rfl)
theorem dX0_act_46 : decode cX0_act 46 = .ok (.aload 4, 2) := dk_25 4 (dk_at dksX0_act_2 0 rfl rfl)
theorem dX0_act_48 : decode cX0_act 48 = .ok (.iload_n 3, 1) := dk_29 (dk_at dksX0_act_2 2 rfl rfl)
theorem dX0_act_49 : decode cX0_act 49 = .ok (.invokevirtual 342, 3) := dk_182 1 86 (dk_at dksX0_act_2 3 rfl rfl)
theorem dX0_act_52 : decode cX0_act 52 = .ok (.goto 9, 3) := dk_167 0 9 (dk_at dksX0_act_2 6 rfl rfl)
theorem dX0_act_55 : decode cX0_act 55 = .ok (.aload 4, 2) := dk_25 4 (dk_at dksX0_act_2 9 rfl rfl)
theorem dX0_act_57 : decode cX0_act 57 = .ok (.iload_n 3, 1) := dk_29 (dk_at dksX0_act_2 11 rfl rfl)
theorem dX0_act_58 : decode cX0_act 58 = .ok (.invokevirtual 345, 3) := dk_182 1 89 (dk_at dksX0_act_2 12 rfl rfl)
theorem dX0_act_61 : decode cX0_act 61 = .ok (.ireturn, 1) := dk_172 (dk_at dksX0_act_2 15 rfl rfl)
abbrev cX0_body : ByteArray := prog_1_method_23_code
def yX0_body : MethodName := ⟨RX0, "body", "(I)V"⟩
def dkwX0_body_1 : List UInt8 := [180, 0, 217, 4, 96, 181, 0, 217, 177]
abbrev dktX0_body_1 : List UInt8 := dkwX0_body_1 ++ []
def dkwX0_body_0 : List UInt8 := [42, 180, 0, 217, 42, 180, 0, 73, 190, 162, 0, 13, 42, 180, 0, 73, 42, 180, 0, 217, 27, 79, 42, 89]
abbrev dktX0_body_0 : List UInt8 := dkwX0_body_0 ++ dktX0_body_1
theorem dksX0_body_0 : cX0_body.data.toList.drop 0 = dktX0_body_0 := by decide +kernel
theorem dksX0_body_1 : cX0_body.data.toList.drop 24 = dktX0_body_1 := dk_seg dksX0_body_0 24 rfl rfl
theorem dX0_body_0 : decode cX0_body 0 = .ok (.aload_n 0, 1) := dk_42 (dk_at dksX0_body_0 0 rfl rfl)
theorem dX0_body_1 : decode cX0_body 1 = .ok (.getfield 217, 3) := dk_180 0 217 (dk_at dksX0_body_0 1 rfl rfl)
theorem dX0_body_4 : decode cX0_body 4 = .ok (.aload_n 0, 1) := dk_42 (dk_at dksX0_body_0 4 rfl rfl)
theorem dX0_body_5 : decode cX0_body 5 = .ok (.getfield 73, 3) := dk_180 0 73 (dk_at dksX0_body_0 5 rfl rfl)
theorem dX0_body_8 : decode cX0_body 8 = .ok (.arraylength, 1) := dk_190 (dk_at dksX0_body_0 8 rfl rfl)
theorem dX0_body_9 : decode cX0_body 9 = .ok (.if_icmp .ge 13, 3) := dk_162 0 13 (dk_at dksX0_body_0 9 rfl rfl)
theorem dX0_body_12 : decode cX0_body 12 = .ok (.aload_n 0, 1) := dk_42 (dk_at dksX0_body_0 12 rfl rfl)
theorem dX0_body_13 : decode cX0_body 13 = .ok (.getfield 73, 3) := dk_180 0 73 (dk_at dksX0_body_0 13 rfl rfl)
theorem dX0_body_16 : decode cX0_body 16 = .ok (.aload_n 0, 1) := dk_42 (dk_at dksX0_body_0 16 rfl rfl)
theorem dX0_body_17 : decode cX0_body 17 = .ok (.getfield 217, 3) := dk_180 0 217 (dk_at dksX0_body_0 17 rfl rfl)
theorem dX0_body_20 : decode cX0_body 20 = .ok (.iload_n 1, 1) := dk_27 (dk_at dksX0_body_0 20 rfl rfl)
theorem dX0_body_21 : decode cX0_body 21 = .ok (.iastore, 1) := dk_79 (dk_at dksX0_body_0 21 rfl rfl)
theorem dX0_body_22 : decode cX0_body 22 = .ok (.aload_n 0, 1) := dk_42 (dk_at dksX0_body_0 22 rfl rfl)
theorem dX0_body_23 : decode cX0_body 23 = .ok (.dup, 1) := dk_89 (dk_at dksX0_body_0 23 rfl rfl)
theorem dX0_body_24 : decode cX0_body 24 = .ok (.getfield 217, 3) := dk_180 0 217 (dk_at dksX0_body_1 0 rfl rfl)
theorem dX0_body_27 : decode cX0_body 27 = .ok (.iconst 1, 1) := dk_4 (dk_at dksX0_body_1 3 rfl rfl)
theorem dX0_body_28 : decode cX0_body 28 = .ok (.iadd, 1) := dk_96 (dk_at dksX0_body_1 4 rfl rfl)
theorem dX0_body_29 : decode cX0_body 29 = .ok (.putfield 217, 3) := dk_181 0 217 (dk_at dksX0_body_1 5 rfl rfl)
theorem dX0_body_32 : decode cX0_body 32 = .ok (.return_, 1) := dk_177 (dk_at dksX0_body_1 8 rfl rfl)
abbrev cX0_trace : ByteArray := prog_1_method_52_code
def yX0_trace : MethodName := ⟨RX0, "trace", "(I)I"⟩
def dkwX0_trace_1 : List UInt8 := [180, 0, 73, 27, 46, 167, 0, 4, 2, 172]
abbrev dktX0_trace_1 : List UInt8 := dkwX0_trace_1 ++ []
def dkwX0_trace_0 : List UInt8 := [27, 3, 42, 180, 0, 73, 190, 4, 100, 184, 0, 5, 153, 0, 20, 27, 42, 180, 0, 217, 162, 0, 12, 42]
abbrev dktX0_trace_0 : List UInt8 := dkwX0_trace_0 ++ dktX0_trace_1
theorem dksX0_trace_0 : cX0_trace.data.toList.drop 0 = dktX0_trace_0 := by decide +kernel
theorem dksX0_trace_1 : cX0_trace.data.toList.drop 24 = dktX0_trace_1 := dk_seg dksX0_trace_0 24 rfl rfl
theorem dX0_trace_0 : decode cX0_trace 0 = .ok (.iload_n 1, 1) := dk_27 (dk_at dksX0_trace_0 0 rfl rfl)
theorem dX0_trace_1 : decode cX0_trace 1 = .ok (.iconst 0, 1) := dk_3 (dk_at dksX0_trace_0 1 rfl rfl)
theorem dX0_trace_2 : decode cX0_trace 2 = .ok (.aload_n 0, 1) := dk_42 (dk_at dksX0_trace_0 2 rfl rfl)
theorem dX0_trace_3 : decode cX0_trace 3 = .ok (.getfield 73, 3) := dk_180 0 73 (dk_at dksX0_trace_0 3 rfl rfl)
theorem dX0_trace_6 : decode cX0_trace 6 = .ok (.arraylength, 1) := dk_190 (dk_at dksX0_trace_0 6 rfl rfl)
theorem dX0_trace_7 : decode cX0_trace 7 = .ok (.iconst 1, 1) := dk_4 (dk_at dksX0_trace_0 7 rfl rfl)
theorem dX0_trace_8 : decode cX0_trace 8 = .ok (.isub, 1) := dk_100 (dk_at dksX0_trace_0 8 rfl rfl)
theorem dX0_trace_9 : decode cX0_trace 9 = .ok (.invokestatic 5, 3) := dk_184 0 5 (dk_at dksX0_trace_0 9 rfl rfl)
theorem dX0_trace_12 : decode cX0_trace 12 = .ok (.ifCond .eq 20, 3) := dk_153 0 20 (dk_at dksX0_trace_0 12 rfl rfl)
theorem dX0_trace_15 : decode cX0_trace 15 = .ok (.iload_n 1, 1) := dk_27 (dk_at dksX0_trace_0 15 rfl rfl)
theorem dX0_trace_16 : decode cX0_trace 16 = .ok (.aload_n 0, 1) := dk_42 (dk_at dksX0_trace_0 16 rfl rfl)
theorem dX0_trace_17 : decode cX0_trace 17 = .ok (.getfield 217, 3) := dk_180 0 217 (dk_at dksX0_trace_0 17 rfl rfl)
theorem dX0_trace_20 : decode cX0_trace 20 = .ok (.if_icmp .ge 12, 3) := dk_162 0 12 (dk_at dksX0_trace_0 20 rfl rfl)
theorem dX0_trace_23 : decode cX0_trace 23 = .ok (.aload_n 0, 1) := dk_42 (dk_at dksX0_trace_0 23 rfl rfl)
theorem dX0_trace_24 : decode cX0_trace 24 = .ok (.getfield 73, 3) := dk_180 0 73 (dk_at dksX0_trace_1 0 rfl rfl)
theorem dX0_trace_27 : decode cX0_trace 27 = .ok (.iload_n 1, 1) := dk_27 (dk_at dksX0_trace_1 3 rfl rfl)
theorem dX0_trace_28 : decode cX0_trace 28 = .ok (.iaload, 1) := dk_46 (dk_at dksX0_trace_1 4 rfl rfl)
theorem dX0_trace_29 : decode cX0_trace 29 = .ok (.goto 4, 3) := dk_167 0 4 (dk_at dksX0_trace_1 5 rfl rfl)
theorem dX0_trace_32 : decode cX0_trace 32 = .ok (.iconst (-1), 1) := dk_2 (dk_at dksX0_trace_1 8 rfl rfl)
theorem dX0_trace_33 : decode cX0_trace 33 = .ok (.ireturn, 1) := dk_172 (dk_at dksX0_trace_1 9 rfl rfl)
abbrev cX0_as : ByteArray := prog_1_method_53_code
def yX0_as : MethodName := ⟨RX0, "as", "(II)I"⟩
def dkwX0_as_1 : List UInt8 := [182, 1, 91, 153, 0, 10, 45, 180, 1, 94, 167, 0, 5, 16, 250, 172]
abbrev dktX0_as_1 : List UInt8 := dkwX0_as_1 ++ []
def dkwX0_as_0 : List UInt8 := [42, 27, 182, 0, 249, 78, 45, 198, 0, 13, 28, 3, 16, 6, 184, 0, 5, 154, 0, 5, 2, 172, 45, 28]
abbrev dktX0_as_0 : List UInt8 := dkwX0_as_0 ++ dktX0_as_1
theorem dksX0_as_0 : cX0_as.data.toList.drop 0 = dktX0_as_0 := by decide +kernel
theorem dksX0_as_1 : cX0_as.data.toList.drop 24 = dktX0_as_1 := dk_seg dksX0_as_0 24 rfl rfl
theorem dX0_as_0 : decode cX0_as 0 = .ok (.aload_n 0, 1) := dk_42 (dk_at dksX0_as_0 0 rfl rfl)
theorem dX0_as_1 : decode cX0_as 1 = .ok (.iload_n 1, 1) := dk_27 (dk_at dksX0_as_0 1 rfl rfl)
theorem dX0_as_2 : decode cX0_as 2 = .ok (.invokevirtual 249, 3) := dk_182 0 249 (dk_at dksX0_as_0 2 rfl rfl)
theorem dX0_as_5 : decode cX0_as 5 = .ok (.astore_n 3, 1) := dk_78 (dk_at dksX0_as_0 5 rfl rfl)
theorem dX0_as_6 : decode cX0_as 6 = .ok (.aload_n 3, 1) := dk_45 (dk_at dksX0_as_0 6 rfl rfl)
theorem dX0_as_7 : decode cX0_as 7 = .ok (.ifnull 13, 3) := dk_198 0 13 (dk_at dksX0_as_0 7 rfl rfl)
theorem dX0_as_10 : decode cX0_as 10 = .ok (.iload_n 2, 1) := dk_28 (dk_at dksX0_as_0 10 rfl rfl)
theorem dX0_as_11 : decode cX0_as 11 = .ok (.iconst 0, 1) := dk_3 (dk_at dksX0_as_0 11 rfl rfl)
theorem dX0_as_12 : decode cX0_as 12 = .ok (.bipush 6, 2) := dk_16 6 (dk_at dksX0_as_0 12 rfl rfl)
theorem dX0_as_14 : decode cX0_as 14 = .ok (.invokestatic 5, 3) := dk_184 0 5 (dk_at dksX0_as_0 14 rfl rfl)
theorem dX0_as_17 : decode cX0_as 17 = .ok (.ifCond .ne 5, 3) := dk_154 0 5 (dk_at dksX0_as_0 17 rfl rfl)
theorem dX0_as_20 : decode cX0_as 20 = .ok (.iconst (-1), 1) := dk_2 (dk_at dksX0_as_0 20 rfl rfl)
theorem dX0_as_21 : decode cX0_as 21 = .ok (.ireturn, 1) := dk_172 (dk_at dksX0_as_0 21 rfl rfl)
theorem dX0_as_22 : decode cX0_as 22 = .ok (.aload_n 3, 1) := dk_45 (dk_at dksX0_as_0 22 rfl rfl)
theorem dX0_as_23 : decode cX0_as 23 = .ok (.iload_n 2, 1) := dk_28 (dk_at dksX0_as_0 23 rfl rfl)
theorem dX0_as_24 : decode cX0_as 24 = .ok (.invokevirtual 347, 3) := dk_182 1 91 (dk_at dksX0_as_1 0 rfl rfl)
theorem dX0_as_27 : decode cX0_as 27 = .ok (.ifCond .eq 10, 3) := dk_153 0 10 (dk_at dksX0_as_1 3 rfl rfl)
theorem dX0_as_30 : decode cX0_as 30 = .ok (.aload_n 3, 1) := dk_45 (dk_at dksX0_as_1 6 rfl rfl)
theorem dX0_as_31 : decode cX0_as 31 = .ok (.getfield 350, 3) := dk_180 1 94 (dk_at dksX0_as_1 7 rfl rfl)
theorem dX0_as_34 : decode cX0_as 34 = .ok (.goto 5, 3) := dk_167 0 5 (dk_at dksX0_as_1 10 rfl rfl)
theorem dX0_as_37 : decode cX0_as 37 = .ok (.bipush (-6), 2) := dk_16 250 (dk_at dksX0_as_1 13 rfl rfl)
theorem dX0_as_39 : decode cX0_as 39 = .ok (.ireturn, 1) := dk_172 (dk_at dksX0_as_1 15 rfl rfl)
abbrev cX0_image : ByteArray := prog_1_method_54_code
def yX0_image : MethodName := ⟨RX0, "image", "()I"⟩
def dkwX0_image_0 : List UInt8 := [42, 187, 1, 97, 89, 42, 183, 1, 99, 181, 1, 100, 42, 180, 0, 45, 182, 0, 13, 172]
abbrev dktX0_image_0 : List UInt8 := dkwX0_image_0 ++ []
theorem dksX0_image_0 : cX0_image.data.toList.drop 0 = dktX0_image_0 := by decide +kernel
theorem dX0_image_0 : decode cX0_image 0 = .ok (.aload_n 0, 1) := dk_42 (dk_at dksX0_image_0 0 rfl rfl)
theorem dX0_image_1 : decode cX0_image 1 = .ok (.new 353, 3) := dk_187 1 97 (dk_at dksX0_image_0 1 rfl rfl)
theorem dX0_image_4 : decode cX0_image 4 = .ok (.dup, 1) := dk_89 (dk_at dksX0_image_0 4 rfl rfl)
theorem dX0_image_5 : decode cX0_image 5 = .ok (.aload_n 0, 1) := dk_42 (dk_at dksX0_image_0 5 rfl rfl)
theorem dX0_image_6 : decode cX0_image 6 = .ok (.invokespecial 355, 3) := dk_183 1 99 (dk_at dksX0_image_0 6 rfl rfl)
theorem dX0_image_9 : decode cX0_image 9 = .ok (.putfield 356, 3) := dk_181 1 100 (dk_at dksX0_image_0 9 rfl rfl)
theorem dX0_image_12 : decode cX0_image 12 = .ok (.aload_n 0, 1) := dk_42 (dk_at dksX0_image_0 12 rfl rfl)
theorem dX0_image_13 : decode cX0_image 13 = .ok (.getfield 45, 3) := dk_180 0 45 (dk_at dksX0_image_0 13 rfl rfl)
theorem dX0_image_16 : decode cX0_image 16 = .ok (.invokevirtual 13, 3) := dk_182 0 13 (dk_at dksX0_image_0 16 rfl rfl)
theorem dX0_image_19 : decode cX0_image 19 = .ok (.ireturn, 1) := dk_172 (dk_at dksX0_image_0 19 rfl rfl)
abbrev cX0_undo : ByteArray := prog_1_method_55_code
def yX0_undo : MethodName := ⟨RX0, "undo", "()I"⟩
def dkwX0_undo_1 : List UInt8 := [172]
abbrev dktX0_undo_1 : List UInt8 := dkwX0_undo_1 ++ []
def dkwX0_undo_0 : List UInt8 := [42, 180, 1, 100, 199, 0, 6, 16, 253, 172, 42, 180, 1, 100, 182, 1, 104, 42, 180, 0, 45, 182, 0, 13]
abbrev dktX0_undo_0 : List UInt8 := dkwX0_undo_0 ++ dktX0_undo_1
theorem dksX0_undo_0 : cX0_undo.data.toList.drop 0 = dktX0_undo_0 := by decide +kernel
theorem dksX0_undo_1 : cX0_undo.data.toList.drop 24 = dktX0_undo_1 := dk_seg dksX0_undo_0 24 rfl rfl
theorem dX0_undo_0 : decode cX0_undo 0 = .ok (.aload_n 0, 1) := dk_42 (dk_at dksX0_undo_0 0 rfl rfl)
theorem dX0_undo_1 : decode cX0_undo 1 = .ok (.getfield 356, 3) := dk_180 1 100 (dk_at dksX0_undo_0 1 rfl rfl)
theorem dX0_undo_4 : decode cX0_undo 4 = .ok (.ifnonnull 6, 3) := dk_199 0 6 (dk_at dksX0_undo_0 4 rfl rfl)
theorem dX0_undo_7 : decode cX0_undo 7 = .ok (.bipush (-3), 2) := dk_16 253 (dk_at dksX0_undo_0 7 rfl rfl)
theorem dX0_undo_9 : decode cX0_undo 9 = .ok (.ireturn, 1) := dk_172 (dk_at dksX0_undo_0 9 rfl rfl)
theorem dX0_undo_10 : decode cX0_undo 10 = .ok (.aload_n 0, 1) := dk_42 (dk_at dksX0_undo_0 10 rfl rfl)
theorem dX0_undo_11 : decode cX0_undo 11 = .ok (.getfield 356, 3) := dk_180 1 100 (dk_at dksX0_undo_0 11 rfl rfl)
theorem dX0_undo_14 : decode cX0_undo 14 = .ok (.invokevirtual 360, 3) := dk_182 1 104 (dk_at dksX0_undo_0 14 rfl rfl)
theorem dX0_undo_17 : decode cX0_undo 17 = .ok (.aload_n 0, 1) := dk_42 (dk_at dksX0_undo_0 17 rfl rfl)
theorem dX0_undo_18 : decode cX0_undo 18 = .ok (.getfield 45, 3) := dk_180 0 45 (dk_at dksX0_undo_0 18 rfl rfl)
theorem dX0_undo_21 : decode cX0_undo 21 = .ok (.invokevirtual 13, 3) := dk_182 0 13 (dk_at dksX0_undo_0 21 rfl rfl)
theorem dX0_undo_24 : decode cX0_undo 24 = .ok (.ireturn, 1) := dk_172 (dk_at dksX0_undo_1 0 rfl rfl)
abbrev cX0_count : ByteArray := prog_1_method_56_code
def yX0_count : MethodName := ⟨RX0, "count", "(I)I"⟩
def dkwX0_count_3 : List UInt8 := [42, 180, 0, 97, 172, 42, 180, 0, 217, 172, 2, 172]
abbrev dktX0_count_3 : List UInt8 := dkwX0_count_3 ++ []
def dkwX0_count_2 : List UInt8 := [42, 180, 0, 9, 182, 0, 13, 172, 42, 180, 0, 45, 182, 0, 13, 172, 42, 180, 0, 83, 182, 0, 13, 172]
abbrev dktX0_count_2 : List UInt8 := dkwX0_count_2 ++ dktX0_count_3
def dkwX0_count_1 : List UInt8 := [170, 0, 0, 0, 0, 0, 69, 0, 0, 0, 0, 0, 0, 0, 4, 0, 0, 0, 35, 0, 0, 0, 43, 0, 0, 0, 51, 0, 0, 0, 59, 0, 0, 0, 64]
abbrev dktX0_count_1 : List UInt8 := dkwX0_count_1 ++ dktX0_count_2
def dkwX0_count_0 : List UInt8 := [27]
abbrev dktX0_count_0 : List UInt8 := dkwX0_count_0 ++ dktX0_count_1
theorem dksX0_count_0 : cX0_count.data.toList.drop 0 = dktX0_count_0 := by decide +kernel
theorem dksX0_count_1 : cX0_count.data.toList.drop 1 = dktX0_count_1 := dk_seg dksX0_count_0 1 rfl rfl
theorem dksX0_count_2 : cX0_count.data.toList.drop 36 = dktX0_count_2 := dk_seg dksX0_count_1 35 rfl rfl
theorem dksX0_count_3 : cX0_count.data.toList.drop 60 = dktX0_count_3 := dk_seg dksX0_count_2 24 rfl rfl
theorem dX0_count_0 : decode cX0_count 0 = .ok (.iload_n 1, 1) := dk_27 (dk_at dksX0_count_0 0 rfl rfl)
theorem dX0_count_1 : decode cX0_count 1 = .ok (.tableswitch 69 0 4 #[35, 43, 51, 59, 64], 35) := by decide +kernel
theorem dX0_count_36 : decode cX0_count 36 = .ok (.aload_n 0, 1) := dk_42 (dk_at dksX0_count_2 0 rfl rfl)
theorem dX0_count_37 : decode cX0_count 37 = .ok (.getfield 9, 3) := dk_180 0 9 (dk_at dksX0_count_2 1 rfl rfl)
theorem dX0_count_40 : decode cX0_count 40 = .ok (.invokevirtual 13, 3) := dk_182 0 13 (dk_at dksX0_count_2 4 rfl rfl)
theorem dX0_count_43 : decode cX0_count 43 = .ok (.ireturn, 1) := dk_172 (dk_at dksX0_count_2 7 rfl rfl)
theorem dX0_count_44 : decode cX0_count 44 = .ok (.aload_n 0, 1) := dk_42 (dk_at dksX0_count_2 8 rfl rfl)
theorem dX0_count_45 : decode cX0_count 45 = .ok (.getfield 45, 3) := dk_180 0 45 (dk_at dksX0_count_2 9 rfl rfl)
theorem dX0_count_48 : decode cX0_count 48 = .ok (.invokevirtual 13, 3) := dk_182 0 13 (dk_at dksX0_count_2 12 rfl rfl)
theorem dX0_count_51 : decode cX0_count 51 = .ok (.ireturn, 1) := dk_172 (dk_at dksX0_count_2 15 rfl rfl)
theorem dX0_count_52 : decode cX0_count 52 = .ok (.aload_n 0, 1) := dk_42 (dk_at dksX0_count_2 16 rfl rfl)
theorem dX0_count_53 : decode cX0_count 53 = .ok (.getfield 83, 3) := dk_180 0 83 (dk_at dksX0_count_2 17 rfl rfl)
theorem dX0_count_56 : decode cX0_count 56 = .ok (.invokevirtual 13, 3) := dk_182 0 13 (dk_at dksX0_count_2 20 rfl rfl)
theorem dX0_count_59 : decode cX0_count 59 = .ok (.ireturn, 1) := dk_172 (dk_at dksX0_count_2 23 rfl rfl)
theorem dX0_count_60 : decode cX0_count 60 = .ok (.aload_n 0, 1) := dk_42 (dk_at dksX0_count_3 0 rfl rfl)
theorem dX0_count_61 : decode cX0_count 61 = .ok (.getfield 97, 3) := dk_180 0 97 (dk_at dksX0_count_3 1 rfl rfl)
theorem dX0_count_64 : decode cX0_count 64 = .ok (.ireturn, 1) := dk_172 (dk_at dksX0_count_3 4 rfl rfl)
theorem dX0_count_65 : decode cX0_count 65 = .ok (.aload_n 0, 1) := dk_42 (dk_at dksX0_count_3 5 rfl rfl)
theorem dX0_count_66 : decode cX0_count 66 = .ok (.getfield 217, 3) := dk_180 0 217 (dk_at dksX0_count_3 6 rfl rfl)
theorem dX0_count_69 : decode cX0_count 69 = .ok (.ireturn, 1) := dk_172 (dk_at dksX0_count_3 9 rfl rfl)
theorem dX0_count_70 : decode cX0_count 70 = .ok (.iconst (-1), 1) := dk_2 (dk_at dksX0_count_3 10 rfl rfl)
theorem dX0_count_71 : decode cX0_count 71 = .ok (.ireturn, 1) := dk_172 (dk_at dksX0_count_3 11 rfl rfl)
theorem q88 : (Jvm.Cond.initialized "FortyDays") ∈ lw_all := lw_g (lw_at lw_m1 1 rfl) rfl
theorem q122 : (Jvm.Cond.instantiable "FortyDays" (19 : Nat)) ∈ lw_all := lw_g (lw_at lw_m1 35 rfl) rfl
theorem q124 : (Jvm.Cond.instanceMethod ({ cls := "FortyDays", name := "<init>", desc := "()V" } : Jvm.MethodName)) ∈ lw_all := lw_g (lw_at lw_m1 37 rfl) rfl
theorem q125 : (Jvm.Cond.code ({ cls := "FortyDays", name := "<init>", desc := "()V" } : Jvm.MethodName) prog_1_method_4_code (2 : Nat) (Option.none : Option Jvm.ClassFile.FieldType)) ∈ lw_all := lw_g (lw_at lw_m1 38 rfl) rfl
theorem q126 : (Jvm.Cond.methodLink "FortyDays" (25 : Nat) ({ cls := "java/lang/Object", name := "<init>", desc := "()V" } : Jvm.MethodName)) ∈ lw_all := lw_g (lw_at lw_m1 39 rfl) rfl
theorem q129 : (Jvm.Cond.classLink "FortyDays" (14 : Nat) "java/util/ArrayList") ∈ lw_all := lw_g (lw_at lw_m1 42 rfl) rfl
theorem q131 : (Jvm.Cond.methodLink "FortyDays" (35 : Nat) ({ cls := "java/util/ArrayList", name := "<init>", desc := "()V" } : Jvm.MethodName)) ∈ lw_all := lw_g (lw_at lw_m1 44 rfl) rfl
theorem q156 : (Jvm.Cond.classLink "FortyDays" (36 : Nat) "FortyDays$Reader") ∈ lw_all := lw_g (lw_at lw_m1 69 rfl) rfl
theorem q158 : (Jvm.Cond.methodLinkNest "FortyDays" (38 : Nat) ({ cls := "FortyDays$Reader", name := "<init>", desc := "(LFortyDays;)V" } : Jvm.MethodName) "FortyDays") ∈ lw_tbl := lw_at lw_m1 71 rfl
theorem q184 : (Jvm.Cond.classLink "FortyDays" (48 : Nat) "FortyDays$Thought") ∈ lw_all := lw_g (lw_at lw_m1 97 rfl) rfl
theorem q187 : (Jvm.Cond.methodLinkNest "FortyDays" (65 : Nat) ({ cls := "FortyDays$Thought", name := "<init>", desc := "()V" } : Jvm.MethodName) "FortyDays") ∈ lw_tbl := lw_at lw_m1 100 rfl
theorem q192 : (Jvm.Cond.fieldLinkNest "FortyDays" (168 : Nat) "FortyDays$Thought" "at" "[I" "FortyDays") ∈ lw_tbl := lw_at lw_m1 105 rfl
theorem q195 : (Jvm.Cond.fieldLinkNest "FortyDays" (154 : Nat) "FortyDays$Thought" "port" "LFortyDays$Port;" "FortyDays") ∈ lw_tbl := lw_at lw_m1 108 rfl
theorem q199 : (Jvm.Cond.fieldLinkNest "FortyDays" (144 : Nat) "FortyDays$Thought" "says" "I" "FortyDays") ∈ lw_tbl := lw_at lw_m1 112 rfl
theorem q201 : (Jvm.Cond.fieldLinkNest "FortyDays" (165 : Nat) "FortyDays$Thought" "days" "I" "FortyDays") ∈ lw_tbl := lw_at lw_m1 114 rfl
theorem q204 : (Jvm.Cond.fieldLinkNest "FortyDays" (174 : Nat) "FortyDays$Thought" "gone" "I" "FortyDays") ∈ lw_tbl := lw_at lw_m1 117 rfl
theorem q220 : (Jvm.Cond.classLink "FortyDays" (76 : Nat) "FortyDays$Beside") ∈ lw_all := lw_g (lw_at lw_m1 133 rfl) rfl
theorem q222 : (Jvm.Cond.methodLink "FortyDays" (78 : Nat) ({ cls := "FortyDays$Beside", name := "<init>", desc := "(LFortyDays;)V" } : Jvm.MethodName)) ∈ lw_all := lw_g (lw_at lw_m1 135 rfl) rfl
theorem q244 : (Jvm.Cond.classLink "FortyDays" (89 : Nat) "[[J") ∈ lw_all := lw_g (lw_at lw_m1 157 rfl) rfl
theorem q248 : (Jvm.Cond.fieldLink "FortyDays" (31 : Nat) "FortyDays" "tape" "[B") ∈ lw_all := lw_g (lw_at lw_m1 161 rfl) rfl
theorem q251 : (Jvm.Cond.fieldLink "FortyDays" (97 : Nat) "FortyDays" "taped" "I") ∈ lw_all := lw_g (lw_at lw_m1 164 rfl) rfl
theorem q253 : (Jvm.Cond.fieldLink "FortyDays" (9 : Nat) "FortyDays" "ports" "Ljava/util/ArrayList;") ∈ lw_all := lw_g (lw_at lw_m1 166 rfl) rfl
theorem q255 : (Jvm.Cond.fieldLink "FortyDays" (41 : Nat) "FortyDays" "reader" "LFortyDays$Reader;") ∈ lw_all := lw_g (lw_at lw_m1 168 rfl) rfl
theorem q257 : (Jvm.Cond.fieldLink "FortyDays" (45 : Nat) "FortyDays" "ships" "Ljava/util/ArrayList;") ∈ lw_all := lw_g (lw_at lw_m1 170 rfl) rfl
theorem q258 : (Jvm.Cond.fieldLink "FortyDays" (50 : Nat) "FortyDays" "on" "[LFortyDays$Thought;") ∈ lw_all := lw_g (lw_at lw_m1 171 rfl) rfl
theorem q259 : (Jvm.Cond.fieldLink "FortyDays" (54 : Nat) "FortyDays" "costs" "[J") ∈ lw_all := lw_g (lw_at lw_m1 172 rfl) rfl
theorem q260 : (Jvm.Cond.fieldLink "FortyDays" (58 : Nat) "FortyDays" "harms" "[J") ∈ lw_all := lw_g (lw_at lw_m1 173 rfl) rfl
theorem q262 : (Jvm.Cond.fieldLink "FortyDays" (61 : Nat) "FortyDays" "shown" "[I") ∈ lw_all := lw_g (lw_at lw_m1 175 rfl) rfl
theorem q263 : (Jvm.Cond.fieldLink "FortyDays" (66 : Nat) "FortyDays" "looked" "LFortyDays$Thought;") ∈ lw_all := lw_g (lw_at lw_m1 176 rfl) rfl
theorem q264 : (Jvm.Cond.fieldLink "FortyDays" (70 : Nat) "FortyDays" "first" "LFortyDays$Thought;") ∈ lw_all := lw_g (lw_at lw_m1 177 rfl) rfl
theorem q265 : (Jvm.Cond.fieldLink "FortyDays" (217 : Nat) "FortyDays" "ran" "I") ∈ lw_all := lw_g (lw_at lw_m1 178 rfl) rfl
theorem q266 : (Jvm.Cond.fieldLink "FortyDays" (73 : Nat) "FortyDays" "bodies" "[I") ∈ lw_all := lw_g (lw_at lw_m1 179 rfl) rfl
theorem q268 : (Jvm.Cond.fieldLink "FortyDays" (79 : Nat) "FortyDays" "beside" "LFortyDays$Beside;") ∈ lw_all := lw_g (lw_at lw_m1 181 rfl) rfl
theorem q271 : (Jvm.Cond.fieldLink "FortyDays" (83 : Nat) "FortyDays" "rules" "Ljava/util/ArrayList;") ∈ lw_all := lw_g (lw_at lw_m1 184 rfl) rfl
theorem q272 : (Jvm.Cond.fieldLink "FortyDays" (86 : Nat) "FortyDays" "said" "[J") ∈ lw_all := lw_g (lw_at lw_m1 185 rfl) rfl
theorem q273 : (Jvm.Cond.fieldLink "FortyDays" (91 : Nat) "FortyDays" "with" "[[J") ∈ lw_all := lw_g (lw_at lw_m1 186 rfl) rfl
theorem q274 : (Jvm.Cond.fieldLink "FortyDays" (94 : Nat) "FortyDays" "without" "[[J") ∈ lw_all := lw_g (lw_at lw_m1 187 rfl) rfl
theorem q275 : (Jvm.Cond.fieldLink "FortyDays" (356 : Nat) "FortyDays" "image" "LFortyDays$Image;") ∈ lw_all := lw_g (lw_at lw_m1 188 rfl) rfl
theorem q276 : (Jvm.Cond.laysFinal "FortyDays" "FortyDays" "tape" "[B") ∈ lw_all := lw_g (lw_at lw_m1 189 rfl) rfl
theorem q277 : (Jvm.Cond.soleField "FortyDays" "tape") ∈ lw_all := lw_g (lw_at lw_m1 190 rfl) rfl
theorem q278 : (Jvm.Cond.lays "FortyDays" "FortyDays" "taped" "I") ∈ lw_all := lw_g (lw_at lw_m1 191 rfl) rfl
theorem q279 : (Jvm.Cond.soleField "FortyDays" "taped") ∈ lw_all := lw_g (lw_at lw_m1 192 rfl) rfl
theorem q280 : (Jvm.Cond.laysFinal "FortyDays" "FortyDays" "ports" "Ljava/util/ArrayList;") ∈ lw_all := lw_g (lw_at lw_m1 193 rfl) rfl
theorem q281 : (Jvm.Cond.soleField "FortyDays" "ports") ∈ lw_all := lw_g (lw_at lw_m1 194 rfl) rfl
theorem q282 : (Jvm.Cond.laysFinal "FortyDays" "FortyDays" "reader" "LFortyDays$Reader;") ∈ lw_all := lw_g (lw_at lw_m1 195 rfl) rfl
theorem q283 : (Jvm.Cond.soleField "FortyDays" "reader") ∈ lw_all := lw_g (lw_at lw_m1 196 rfl) rfl
theorem q284 : (Jvm.Cond.laysFinal "FortyDays" "FortyDays" "ships" "Ljava/util/ArrayList;") ∈ lw_all := lw_g (lw_at lw_m1 197 rfl) rfl
theorem q285 : (Jvm.Cond.soleField "FortyDays" "ships") ∈ lw_all := lw_g (lw_at lw_m1 198 rfl) rfl
theorem q286 : (Jvm.Cond.laysFinal "FortyDays" "FortyDays" "on" "[LFortyDays$Thought;") ∈ lw_all := lw_g (lw_at lw_m1 199 rfl) rfl
theorem q287 : (Jvm.Cond.soleField "FortyDays" "on") ∈ lw_all := lw_g (lw_at lw_m1 200 rfl) rfl
theorem q288 : (Jvm.Cond.laysFinal "FortyDays" "FortyDays" "costs" "[J") ∈ lw_all := lw_g (lw_at lw_m1 201 rfl) rfl
theorem q289 : (Jvm.Cond.soleField "FortyDays" "costs") ∈ lw_all := lw_g (lw_at lw_m1 202 rfl) rfl
theorem q290 : (Jvm.Cond.laysFinal "FortyDays" "FortyDays" "harms" "[J") ∈ lw_all := lw_g (lw_at lw_m1 203 rfl) rfl
theorem q291 : (Jvm.Cond.soleField "FortyDays" "harms") ∈ lw_all := lw_g (lw_at lw_m1 204 rfl) rfl
theorem q292 : (Jvm.Cond.laysFinal "FortyDays" "FortyDays" "shown" "[I") ∈ lw_all := lw_g (lw_at lw_m1 205 rfl) rfl
theorem q293 : (Jvm.Cond.soleField "FortyDays" "shown") ∈ lw_all := lw_g (lw_at lw_m1 206 rfl) rfl
theorem q294 : (Jvm.Cond.laysFinal "FortyDays" "FortyDays" "looked" "LFortyDays$Thought;") ∈ lw_all := lw_g (lw_at lw_m1 207 rfl) rfl
theorem q295 : (Jvm.Cond.soleField "FortyDays" "looked") ∈ lw_all := lw_g (lw_at lw_m1 208 rfl) rfl
theorem q296 : (Jvm.Cond.laysFinal "FortyDays" "FortyDays" "first" "LFortyDays$Thought;") ∈ lw_all := lw_g (lw_at lw_m1 209 rfl) rfl
theorem q297 : (Jvm.Cond.soleField "FortyDays" "first") ∈ lw_all := lw_g (lw_at lw_m1 210 rfl) rfl
theorem q298 : (Jvm.Cond.lays "FortyDays" "FortyDays" "ran" "I") ∈ lw_all := lw_g (lw_at lw_m1 211 rfl) rfl
theorem q299 : (Jvm.Cond.soleField "FortyDays" "ran") ∈ lw_all := lw_g (lw_at lw_m1 212 rfl) rfl
theorem q300 : (Jvm.Cond.laysFinal "FortyDays" "FortyDays" "bodies" "[I") ∈ lw_all := lw_g (lw_at lw_m1 213 rfl) rfl
theorem q301 : (Jvm.Cond.soleField "FortyDays" "bodies") ∈ lw_all := lw_g (lw_at lw_m1 214 rfl) rfl
theorem q302 : (Jvm.Cond.laysFinal "FortyDays" "FortyDays" "beside" "LFortyDays$Beside;") ∈ lw_all := lw_g (lw_at lw_m1 215 rfl) rfl
theorem q303 : (Jvm.Cond.soleField "FortyDays" "beside") ∈ lw_all := lw_g (lw_at lw_m1 216 rfl) rfl
theorem q304 : (Jvm.Cond.laysFinal "FortyDays" "FortyDays" "rules" "Ljava/util/ArrayList;") ∈ lw_all := lw_g (lw_at lw_m1 217 rfl) rfl
theorem q305 : (Jvm.Cond.soleField "FortyDays" "rules") ∈ lw_all := lw_g (lw_at lw_m1 218 rfl) rfl
theorem q306 : (Jvm.Cond.laysFinal "FortyDays" "FortyDays" "said" "[J") ∈ lw_all := lw_g (lw_at lw_m1 219 rfl) rfl
theorem q307 : (Jvm.Cond.soleField "FortyDays" "said") ∈ lw_all := lw_g (lw_at lw_m1 220 rfl) rfl
theorem q308 : (Jvm.Cond.laysFinal "FortyDays" "FortyDays" "with" "[[J") ∈ lw_all := lw_g (lw_at lw_m1 221 rfl) rfl
theorem q309 : (Jvm.Cond.soleField "FortyDays" "with") ∈ lw_all := lw_g (lw_at lw_m1 222 rfl) rfl
theorem q310 : (Jvm.Cond.laysFinal "FortyDays" "FortyDays" "without" "[[J") ∈ lw_all := lw_g (lw_at lw_m1 223 rfl) rfl
theorem q311 : (Jvm.Cond.soleField "FortyDays" "without") ∈ lw_all := lw_g (lw_at lw_m1 224 rfl) rfl
theorem q312 : (Jvm.Cond.lays "FortyDays" "FortyDays" "image" "LFortyDays$Image;") ∈ lw_all := lw_g (lw_at lw_m1 225 rfl) rfl
theorem q313 : (Jvm.Cond.soleField "FortyDays" "image") ∈ lw_all := lw_g (lw_at lw_m1 226 rfl) rfl
theorem q314 : (Jvm.Cond.superclass "FortyDays" "java/lang/Object") ∈ lw_all := lw_g (lw_at lw_m1 227 rfl) rfl
theorem q316 : (Jvm.Cond.instanceMethod ({ cls := "FortyDays", name := "feed", desc := "(JI)I" } : Jvm.MethodName)) ∈ lw_all := lw_g (lw_at lw_m1 229 rfl) rfl
theorem q317 : (Jvm.Cond.selects "FortyDays" ({ cls := "FortyDays", name := "feed", desc := "(JI)I" } : Jvm.MethodName) ({ cls := "FortyDays", name := "feed", desc := "(JI)I" } : Jvm.MethodName)) ∈ lw_all := lw_g (lw_at lw_m1 230 rfl) rfl
theorem q318 : (Jvm.Cond.code ({ cls := "FortyDays", name := "feed", desc := "(JI)I" } : Jvm.MethodName) prog_1_method_5_code (5 : Nat) (Option.some Jvm.ClassFile.FieldType.int)) ∈ lw_all := lw_g (lw_at lw_m1 231 rfl) rfl
theorem q319 : (Jvm.Cond.methodLink "FortyDays" (5 : Nat) ({ cls := "FortyDays", name := "in", desc := "(III)Z" } : Jvm.MethodName)) ∈ lw_all := lw_g (lw_at lw_m1 232 rfl) rfl
theorem q320 : (Jvm.Cond.static ({ cls := "FortyDays", name := "in", desc := "(III)Z" } : Jvm.MethodName)) ∈ lw_all := lw_g (lw_at lw_m1 233 rfl) rfl
theorem q321 : (Jvm.Cond.code ({ cls := "FortyDays", name := "in", desc := "(III)Z" } : Jvm.MethodName) prog_1_method_1_code (3 : Nat) (Option.some Jvm.ClassFile.FieldType.boolean)) ∈ lw_all := lw_g (lw_at lw_m1 234 rfl) rfl
theorem q323 : (Jvm.Cond.instanceMethod ({ cls := "FortyDays", name := "port", desc := "()I" } : Jvm.MethodName)) ∈ lw_all := lw_g (lw_at lw_m1 236 rfl) rfl
theorem q324 : (Jvm.Cond.selects "FortyDays" ({ cls := "FortyDays", name := "port", desc := "()I" } : Jvm.MethodName) ({ cls := "FortyDays", name := "port", desc := "()I" } : Jvm.MethodName)) ∈ lw_all := lw_g (lw_at lw_m1 237 rfl) rfl
theorem q325 : (Jvm.Cond.codeWith ({ cls := "FortyDays", name := "port", desc := "()I" } : Jvm.MethodName) prog_1_method_6_code (4 : Nat) (Option.some Jvm.ClassFile.FieldType.int) [((14 : Nat), (39 : Nat), (46 : Nat), (109 : Nat)), ((14 : Nat), (39 : Nat), (62 : Nat), (0 : Nat)), ((46 : Nat), (55 : Nat), (62 : Nat), (0 : Nat))]) ∈ lw_all := lw_g (lw_at lw_m1 238 rfl) rfl
theorem q326 : (Jvm.Cond.classLink "FortyDays" (109 : Nat) "FortyDays$Wrong") ∈ lw_all := lw_g (lw_at lw_m1 239 rfl) rfl
theorem q327 : (Jvm.Cond.methodLink "FortyDays" (13 : Nat) ({ cls := "java/util/ArrayList", name := "size", desc := "()I" } : Jvm.MethodName)) ∈ lw_all := lw_g (lw_at lw_m2 0 rfl) rfl
theorem q331 : (Jvm.Cond.methodLink "FortyDays" (101 : Nat) ({ cls := "FortyDays$Reader", name := "read", desc := "()LFortyDays$Port;" } : Jvm.MethodName)) ∈ lw_all := lw_g (lw_at lw_m2 4 rfl) rfl
theorem q345 : (Jvm.Cond.fieldLinkNest "FortyDays" (158 : Nat) "FortyDays$Port" "number" "I" "FortyDays") ∈ lw_tbl := lw_at lw_m2 18 rfl
theorem q349 : (Jvm.Cond.fieldLinkNest "FortyDays" (118 : Nat) "FortyDays$Port" "have" "[I" "FortyDays") ∈ lw_tbl := lw_at lw_m2 22 rfl
theorem q352 : (Jvm.Cond.fieldLinkNest "FortyDays" (121 : Nat) "FortyDays$Port" "last" "[I" "FortyDays") ∈ lw_tbl := lw_at lw_m2 25 rfl
theorem q360 : (Jvm.Cond.fieldLinkNest "FortyDays" (321 : Nat) "FortyDays$Port" "more" "I" "FortyDays") ∈ lw_tbl := lw_at lw_m2 33 rfl
theorem q447 : (Jvm.Cond.fieldLinkNest "FortyDays" (111 : Nat) "FortyDays$Wrong" "place" "I" "FortyDays") ∈ lw_tbl := lw_at lw_m2 120 rfl
theorem q557 : (Jvm.Cond.selects "FortyDays" ({ cls := "java/lang/Object", name := "getClass", desc := "()Ljava/lang/Class;" } : Jvm.MethodName) ({ cls := "java/lang/Object", name := "getClass", desc := "()Ljava/lang/Class;" } : Jvm.MethodName)) ∈ lw_all := lw_g (lw_at lw_m2 230 rfl) rfl
theorem q596 : (Jvm.Cond.methodLink "FortyDays" (105 : Nat) ({ cls := "java/util/ArrayList", name := "add", desc := "(Ljava/lang/Object;)Z" } : Jvm.MethodName)) ∈ lw_all := lw_g (lw_at lw_m3 29 rfl) rfl
theorem q598 : (Jvm.Cond.instanceMethod ({ cls := "FortyDays", name := "told", desc := "(II)I" } : Jvm.MethodName)) ∈ lw_all := lw_g (lw_at lw_m3 31 rfl) rfl
theorem q599 : (Jvm.Cond.selects "FortyDays" ({ cls := "FortyDays", name := "told", desc := "(II)I" } : Jvm.MethodName) ({ cls := "FortyDays", name := "told", desc := "(II)I" } : Jvm.MethodName)) ∈ lw_all := lw_g (lw_at lw_m3 32 rfl) rfl
theorem q600 : (Jvm.Cond.code ({ cls := "FortyDays", name := "told", desc := "(II)I" } : Jvm.MethodName) prog_1_method_7_code (4 : Nat) (Option.some Jvm.ClassFile.FieldType.int)) ∈ lw_all := lw_g (lw_at lw_m3 33 rfl) rfl
theorem q601 : (Jvm.Cond.methodLink "FortyDays" (114 : Nat) ({ cls := "FortyDays", name := "portAt", desc := "(I)LFortyDays$Port;" } : Jvm.MethodName)) ∈ lw_all := lw_g (lw_at lw_m3 34 rfl) rfl
theorem q602 : (Jvm.Cond.privateMethod ({ cls := "FortyDays", name := "portAt", desc := "(I)LFortyDays$Port;" } : Jvm.MethodName)) ∈ lw_tbl := lw_at lw_m3 35 rfl
theorem q603 : (Jvm.Cond.instanceMethod ({ cls := "FortyDays", name := "portAt", desc := "(I)LFortyDays$Port;" } : Jvm.MethodName)) ∈ lw_all := lw_g (lw_at lw_m3 36 rfl) rfl
theorem q604 : (Jvm.Cond.code ({ cls := "FortyDays", name := "portAt", desc := "(I)LFortyDays$Port;" } : Jvm.MethodName) prog_1_method_3_code (2 : Nat) (Option.some (Jvm.ClassFile.FieldType.object "FortyDays$Port"))) ∈ lw_all := lw_g (lw_at lw_m3 37 rfl) rfl
theorem q605 : (Jvm.Cond.methodLink "FortyDays" (19 : Nat) ({ cls := "java/util/ArrayList", name := "get", desc := "(I)Ljava/lang/Object;" } : Jvm.MethodName)) ∈ lw_all := lw_g (lw_at lw_m3 38 rfl) rfl
theorem q619 : (Jvm.Cond.classLink "FortyDays" (23 : Nat) "FortyDays$Port") ∈ lw_all := lw_g (lw_at lw_m3 52 rfl) rfl
theorem q621 : (Jvm.Cond.instanceMethod ({ cls := "FortyDays", name := "holds", desc := "(IIII)I" } : Jvm.MethodName)) ∈ lw_all := lw_g (lw_at lw_m3 54 rfl) rfl
theorem q622 : (Jvm.Cond.selects "FortyDays" ({ cls := "FortyDays", name := "holds", desc := "(IIII)I" } : Jvm.MethodName) ({ cls := "FortyDays", name := "holds", desc := "(IIII)I" } : Jvm.MethodName)) ∈ lw_all := lw_g (lw_at lw_m3 55 rfl) rfl
theorem q623 : (Jvm.Cond.code ({ cls := "FortyDays", name := "holds", desc := "(IIII)I" } : Jvm.MethodName) prog_1_method_8_code (6 : Nat) (Option.some Jvm.ClassFile.FieldType.int)) ∈ lw_all := lw_g (lw_at lw_m3 56 rfl) rfl
theorem q624 : (Jvm.Cond.methodLink "FortyDays" (124 : Nat) ({ cls := "FortyDays", name := "isPlace", desc := "(I)Z" } : Jvm.MethodName)) ∈ lw_all := lw_g (lw_at lw_m3 57 rfl) rfl
theorem q625 : (Jvm.Cond.static ({ cls := "FortyDays", name := "isPlace", desc := "(I)Z" } : Jvm.MethodName)) ∈ lw_all := lw_g (lw_at lw_m3 58 rfl) rfl
theorem q626 : (Jvm.Cond.code ({ cls := "FortyDays", name := "isPlace", desc := "(I)Z" } : Jvm.MethodName) prog_1_method_2_code (1 : Nat) (Option.some Jvm.ClassFile.FieldType.boolean)) ∈ lw_all := lw_g (lw_at lw_m3 59 rfl) rfl
theorem q627 : (Jvm.Cond.methodLink "FortyDays" (128 : Nat) ({ cls := "FortyDays$Port", name := "holdOf", desc := "(III)I" } : Jvm.MethodName)) ∈ lw_all := lw_g (lw_at lw_m3 60 rfl) rfl
theorem q661 : (Jvm.Cond.instanceMethod ({ cls := "FortyDays", name := "ship", desc := "(III)I" } : Jvm.MethodName)) ∈ lw_all := lw_g (lw_at lw_m3 94 rfl) rfl
theorem q662 : (Jvm.Cond.selects "FortyDays" ({ cls := "FortyDays", name := "ship", desc := "(III)I" } : Jvm.MethodName) ({ cls := "FortyDays", name := "ship", desc := "(III)I" } : Jvm.MethodName)) ∈ lw_all := lw_g (lw_at lw_m3 95 rfl) rfl
theorem q663 : (Jvm.Cond.code ({ cls := "FortyDays", name := "ship", desc := "(III)I" } : Jvm.MethodName) prog_1_method_10_code (5 : Nat) (Option.some Jvm.ClassFile.FieldType.int)) ∈ lw_all := lw_g (lw_at lw_m3 96 rfl) rfl
theorem q664 : (Jvm.Cond.classLink "FortyDays" (132 : Nat) "FortyDays$Ship") ∈ lw_all := lw_g (lw_at lw_m3 97 rfl) rfl
theorem q666 : (Jvm.Cond.methodLink "FortyDays" (134 : Nat) ({ cls := "FortyDays$Ship", name := "<init>", desc := "(LFortyDays$Port;II)V" } : Jvm.MethodName)) ∈ lw_all := lw_g (lw_at lw_m3 99 rfl) rfl
theorem q686 : (Jvm.Cond.fieldLinkNest "FortyDays" (161 : Nat) "FortyDays$Ship" "place" "I" "FortyDays") ∈ lw_tbl := lw_at lw_m3 119 rfl
theorem q688 : (Jvm.Cond.fieldLinkNest "FortyDays" (162 : Nat) "FortyDays$Ship" "hands" "I" "FortyDays") ∈ lw_tbl := lw_at lw_m3 121 rfl
theorem q691 : (Jvm.Cond.fieldLinkNest "FortyDays" (141 : Nat) "FortyDays$Ship" "thought" "LFortyDays$Thought;" "FortyDays") ∈ lw_tbl := lw_at lw_m3 124 rfl
theorem q700 : (Jvm.Cond.instanceMethod ({ cls := "FortyDays", name := "says", desc := "(II)I" } : Jvm.MethodName)) ∈ lw_all := lw_g (lw_at lw_m3 133 rfl) rfl
theorem q701 : (Jvm.Cond.selects "FortyDays" ({ cls := "FortyDays", name := "says", desc := "(II)I" } : Jvm.MethodName) ({ cls := "FortyDays", name := "says", desc := "(II)I" } : Jvm.MethodName)) ∈ lw_all := lw_g (lw_at lw_m3 134 rfl) rfl
theorem q702 : (Jvm.Cond.code ({ cls := "FortyDays", name := "says", desc := "(II)I" } : Jvm.MethodName) prog_1_method_11_code (5 : Nat) (Option.some Jvm.ClassFile.FieldType.int)) ∈ lw_all := lw_g (lw_at lw_m3 135 rfl) rfl
theorem q703 : (Jvm.Cond.methodLink "FortyDays" (137 : Nat) ({ cls := "FortyDays", name := "shipAt", desc := "(I)LFortyDays$Ship;" } : Jvm.MethodName)) ∈ lw_all := lw_g (lw_at lw_m3 136 rfl) rfl
theorem q704 : (Jvm.Cond.privateMethod ({ cls := "FortyDays", name := "shipAt", desc := "(I)LFortyDays$Ship;" } : Jvm.MethodName)) ∈ lw_tbl := lw_at lw_m3 137 rfl
theorem q705 : (Jvm.Cond.instanceMethod ({ cls := "FortyDays", name := "shipAt", desc := "(I)LFortyDays$Ship;" } : Jvm.MethodName)) ∈ lw_all := lw_g (lw_at lw_m3 138 rfl) rfl
theorem q706 : (Jvm.Cond.code ({ cls := "FortyDays", name := "shipAt", desc := "(I)LFortyDays$Ship;" } : Jvm.MethodName) prog_1_method_9_code (2 : Nat) (Option.some (Jvm.ClassFile.FieldType.object "FortyDays$Ship"))) ∈ lw_all := lw_g (lw_at lw_m3 139 rfl) rfl
theorem q707 : (Jvm.Cond.methodLink "FortyDays" (147 : Nat) ({ cls := "FortyDays$Ship", name := "sayAnew", desc := "(II)V" } : Jvm.MethodName)) ∈ lw_all := lw_g (lw_at lw_m3 140 rfl) rfl
theorem q713 : (Jvm.Cond.instanceMethod ({ cls := "FortyDays", name := "late", desc := "(II)I" } : Jvm.MethodName)) ∈ lw_all := lw_g (lw_at lw_m3 146 rfl) rfl
theorem q714 : (Jvm.Cond.selects "FortyDays" ({ cls := "FortyDays", name := "late", desc := "(II)I" } : Jvm.MethodName) ({ cls := "FortyDays", name := "late", desc := "(II)I" } : Jvm.MethodName)) ∈ lw_all := lw_g (lw_at lw_m3 147 rfl) rfl
theorem q715 : (Jvm.Cond.code ({ cls := "FortyDays", name := "late", desc := "(II)I" } : Jvm.MethodName) prog_1_method_12_code (4 : Nat) (Option.some Jvm.ClassFile.FieldType.int)) ∈ lw_all := lw_g (lw_at lw_m3 148 rfl) rfl
theorem q716 : (Jvm.Cond.methodLink "FortyDays" (151 : Nat) ({ cls := "FortyDays$Thought", name := "ill", desc := "()I" } : Jvm.MethodName)) ∈ lw_all := lw_g (lw_at lw_m3 149 rfl) rfl
theorem q721 : (Jvm.Cond.instanceMethod ({ cls := "FortyDays", name := "of", desc := "(II)I" } : Jvm.MethodName)) ∈ lw_all := lw_g (lw_at lw_m3 154 rfl) rfl
theorem q722 : (Jvm.Cond.selects "FortyDays" ({ cls := "FortyDays", name := "of", desc := "(II)I" } : Jvm.MethodName) ({ cls := "FortyDays", name := "of", desc := "(II)I" } : Jvm.MethodName)) ∈ lw_all := lw_g (lw_at lw_m3 155 rfl) rfl
theorem q723 : (Jvm.Cond.code ({ cls := "FortyDays", name := "of", desc := "(II)I" } : Jvm.MethodName) prog_1_method_13_code (4 : Nat) (Option.some Jvm.ClassFile.FieldType.int)) ∈ lw_all := lw_g (lw_at lw_m3 156 rfl) rfl
theorem q725 : (Jvm.Cond.instanceMethod ({ cls := "FortyDays", name := "days", desc := "(II)I" } : Jvm.MethodName)) ∈ lw_all := lw_g (lw_at lw_m3 158 rfl) rfl
theorem q726 : (Jvm.Cond.selects "FortyDays" ({ cls := "FortyDays", name := "days", desc := "(II)I" } : Jvm.MethodName) ({ cls := "FortyDays", name := "days", desc := "(II)I" } : Jvm.MethodName)) ∈ lw_all := lw_g (lw_at lw_m3 159 rfl) rfl
theorem q727 : (Jvm.Cond.code ({ cls := "FortyDays", name := "days", desc := "(II)I" } : Jvm.MethodName) prog_1_method_14_code (5 : Nat) (Option.some Jvm.ClassFile.FieldType.int)) ∈ lw_all := lw_g (lw_at lw_m3 160 rfl) rfl
theorem q728 : (Jvm.Cond.methodLink "FortyDays" (171 : Nat) ({ cls := "FortyDays$Thought", name := "day", desc := "()V" } : Jvm.MethodName)) ∈ lw_all := lw_g (lw_at lw_m3 161 rfl) rfl
theorem q746 : (Jvm.Cond.instanceMethod ({ cls := "FortyDays", name := "look", desc := "(I)I" } : Jvm.MethodName)) ∈ lw_all := lw_g (lw_at lw_m3 179 rfl) rfl
theorem q747 : (Jvm.Cond.selects "FortyDays" ({ cls := "FortyDays", name := "look", desc := "(I)I" } : Jvm.MethodName) ({ cls := "FortyDays", name := "look", desc := "(I)I" } : Jvm.MethodName)) ∈ lw_all := lw_g (lw_at lw_m3 180 rfl) rfl
theorem q748 : (Jvm.Cond.code ({ cls := "FortyDays", name := "look", desc := "(I)I" } : Jvm.MethodName) prog_1_method_15_code (3 : Nat) (Option.some Jvm.ClassFile.FieldType.int)) ∈ lw_all := lw_g (lw_at lw_m3 181 rfl) rfl
theorem q749 : (Jvm.Cond.methodLink "FortyDays" (177 : Nat) ({ cls := "FortyDays$Thought", name := "look", desc := "()V" } : Jvm.MethodName)) ∈ lw_all := lw_g (lw_at lw_m3 182 rfl) rfl
theorem q754 : (Jvm.Cond.instanceMethod ({ cls := "FortyDays", name := "harm", desc := "(I)J" } : Jvm.MethodName)) ∈ lw_all := lw_g (lw_at lw_m3 187 rfl) rfl
theorem q755 : (Jvm.Cond.selects "FortyDays" ({ cls := "FortyDays", name := "harm", desc := "(I)J" } : Jvm.MethodName) ({ cls := "FortyDays", name := "harm", desc := "(I)J" } : Jvm.MethodName)) ∈ lw_all := lw_g (lw_at lw_m3 188 rfl) rfl
theorem q756 : (Jvm.Cond.code ({ cls := "FortyDays", name := "harm", desc := "(I)J" } : Jvm.MethodName) prog_1_method_16_code (2 : Nat) (Option.some Jvm.ClassFile.FieldType.long)) ∈ lw_all := lw_g (lw_at lw_m3 189 rfl) rfl
theorem q757 : (Jvm.Cond.constantLong "FortyDays" (180 : Nat) (-9223372036854775808 : Int64)) ∈ lw_all := lw_g (lw_at lw_m3 190 rfl) rfl
theorem q758 : (Jvm.Cond.methodLink "FortyDays" (182 : Nat) ({ cls := "FortyDays$Thought", name := "harm", desc := "()J" } : Jvm.MethodName)) ∈ lw_all := lw_g (lw_at lw_m3 191 rfl) rfl
theorem q767 : (Jvm.Cond.instanceMethod ({ cls := "FortyDays", name := "rule", desc := "(II)I" } : Jvm.MethodName)) ∈ lw_all := lw_g (lw_at lw_m3 200 rfl) rfl
theorem q768 : (Jvm.Cond.selects "FortyDays" ({ cls := "FortyDays", name := "rule", desc := "(II)I" } : Jvm.MethodName) ({ cls := "FortyDays", name := "rule", desc := "(II)I" } : Jvm.MethodName)) ∈ lw_all := lw_g (lw_at lw_m3 201 rfl) rfl
theorem q769 : (Jvm.Cond.code ({ cls := "FortyDays", name := "rule", desc := "(II)I" } : Jvm.MethodName) prog_1_method_27_code (3 : Nat) (Option.some Jvm.ClassFile.FieldType.int)) ∈ lw_all := lw_g (lw_at lw_m3 202 rfl) rfl
theorem q770 : (Jvm.Cond.methodLink "FortyDays" (245 : Nat) ({ cls := "FortyDays", name := "make", desc := "(II)LFortyDays$Rule;" } : Jvm.MethodName)) ∈ lw_all := lw_g (lw_at lw_m3 203 rfl) rfl
theorem q771 : (Jvm.Cond.privateMethod ({ cls := "FortyDays", name := "make", desc := "(II)LFortyDays$Rule;" } : Jvm.MethodName)) ∈ lw_tbl := lw_at lw_m3 204 rfl
theorem q772 : (Jvm.Cond.instanceMethod ({ cls := "FortyDays", name := "make", desc := "(II)LFortyDays$Rule;" } : Jvm.MethodName)) ∈ lw_all := lw_g (lw_at lw_m3 205 rfl) rfl
theorem q773 : (Jvm.Cond.code ({ cls := "FortyDays", name := "make", desc := "(II)LFortyDays$Rule;" } : Jvm.MethodName) prog_1_method_26_code (3 : Nat) (Option.some (Jvm.ClassFile.FieldType.object "FortyDays$Rule"))) ∈ lw_all := lw_g (lw_at lw_m3 206 rfl) rfl
theorem q774 : (Jvm.Cond.classLink "FortyDays" (220 : Nat) "FortyDays$Rule") ∈ lw_all := lw_g (lw_at lw_m3 207 rfl) rfl
theorem q776 : (Jvm.Cond.methodLink "FortyDays" (224 : Nat) ({ cls := "FortyDays$Rule", name := "<init>", desc := "(LFortyDays;I)V" } : Jvm.MethodName)) ∈ lw_all := lw_g (lw_at lw_m3 209 rfl) rfl
theorem q795 : (Jvm.Cond.fieldLink "FortyDays" (350 : Nat) "FortyDays$Rule" "v" "I") ∈ lw_all := lw_g (lw_at lw_m3 228 rfl) rfl
theorem q804 : (Jvm.Cond.classLink "FortyDays" (227 : Nat) "FortyDays$Days") ∈ lw_all := lw_g (lw_at lw_m3 237 rfl) rfl
theorem q806 : (Jvm.Cond.methodLink "FortyDays" (229 : Nat) ({ cls := "FortyDays$Days", name := "<init>", desc := "(LFortyDays;I)V" } : Jvm.MethodName)) ∈ lw_all := lw_g (lw_at lw_m3 239 rfl) rfl
theorem q817 : (Jvm.Cond.classLink "FortyDays" (230 : Nat) "FortyDays$From") ∈ lw_all := lw_g (lw_at lw_m4 10 rfl) rfl
theorem q819 : (Jvm.Cond.methodLink "FortyDays" (232 : Nat) ({ cls := "FortyDays$From", name := "<init>", desc := "(LFortyDays;I)V" } : Jvm.MethodName)) ∈ lw_all := lw_g (lw_at lw_m4 12 rfl) rfl
theorem q831 : (Jvm.Cond.classLink "FortyDays" (233 : Nat) "FortyDays$Looked") ∈ lw_all := lw_g (lw_at lw_m4 24 rfl) rfl
theorem q833 : (Jvm.Cond.methodLink "FortyDays" (235 : Nat) ({ cls := "FortyDays$Looked", name := "<init>", desc := "(LFortyDays;I)V" } : Jvm.MethodName)) ∈ lw_all := lw_g (lw_at lw_m4 26 rfl) rfl
theorem q845 : (Jvm.Cond.classLink "FortyDays" (236 : Nat) "FortyDays$Think") ∈ lw_all := lw_g (lw_at lw_m4 38 rfl) rfl
theorem q847 : (Jvm.Cond.methodLink "FortyDays" (238 : Nat) ({ cls := "FortyDays$Think", name := "<init>", desc := "(LFortyDays;I)V" } : Jvm.MethodName)) ∈ lw_all := lw_g (lw_at lw_m4 40 rfl) rfl
theorem q858 : (Jvm.Cond.classLink "FortyDays" (239 : Nat) "FortyDays$Told") ∈ lw_all := lw_g (lw_at lw_m4 51 rfl) rfl
theorem q860 : (Jvm.Cond.methodLink "FortyDays" (241 : Nat) ({ cls := "FortyDays$Told", name := "<init>", desc := "(LFortyDays;I)V" } : Jvm.MethodName)) ∈ lw_all := lw_g (lw_at lw_m4 53 rfl) rfl
theorem q865 : (Jvm.Cond.fieldLinkNest "FortyDays" (256 : Nat) "FortyDays$Told" "row" "[I" "FortyDays") ∈ lw_tbl := lw_at lw_m4 58 rfl
theorem q868 : (Jvm.Cond.fieldLinkNest "FortyDays" (253 : Nat) "FortyDays$Told" "many" "I" "FortyDays") ∈ lw_tbl := lw_at lw_m4 61 rfl
theorem q880 : (Jvm.Cond.classLink "FortyDays" (242 : Nat) "FortyDays$Best") ∈ lw_all := lw_g (lw_at lw_m4 73 rfl) rfl
theorem q882 : (Jvm.Cond.methodLink "FortyDays" (244 : Nat) ({ cls := "FortyDays$Best", name := "<init>", desc := "(LFortyDays;I)V" } : Jvm.MethodName)) ∈ lw_all := lw_g (lw_at lw_m4 75 rfl) rfl
theorem q895 : (Jvm.Cond.instanceMethod ({ cls := "FortyDays", name := "row", desc := "(II)I" } : Jvm.MethodName)) ∈ lw_all := lw_g (lw_at lw_m4 88 rfl) rfl
theorem q896 : (Jvm.Cond.selects "FortyDays" ({ cls := "FortyDays", name := "row", desc := "(II)I" } : Jvm.MethodName) ({ cls := "FortyDays", name := "row", desc := "(II)I" } : Jvm.MethodName)) ∈ lw_all := lw_g (lw_at lw_m4 89 rfl) rfl
theorem q897 : (Jvm.Cond.code ({ cls := "FortyDays", name := "row", desc := "(II)I" } : Jvm.MethodName) prog_1_method_28_code (5 : Nat) (Option.some Jvm.ClassFile.FieldType.int)) ∈ lw_all := lw_g (lw_at lw_m4 90 rfl) rfl
theorem q898 : (Jvm.Cond.methodLink "FortyDays" (249 : Nat) ({ cls := "FortyDays", name := "ruleAt", desc := "(I)LFortyDays$Rule;" } : Jvm.MethodName)) ∈ lw_all := lw_g (lw_at lw_m4 91 rfl) rfl
theorem q899 : (Jvm.Cond.privateMethod ({ cls := "FortyDays", name := "ruleAt", desc := "(I)LFortyDays$Rule;" } : Jvm.MethodName)) ∈ lw_tbl := lw_at lw_m4 92 rfl
theorem q900 : (Jvm.Cond.instanceMethod ({ cls := "FortyDays", name := "ruleAt", desc := "(I)LFortyDays$Rule;" } : Jvm.MethodName)) ∈ lw_all := lw_g (lw_at lw_m4 93 rfl) rfl
theorem q901 : (Jvm.Cond.code ({ cls := "FortyDays", name := "ruleAt", desc := "(I)LFortyDays$Rule;" } : Jvm.MethodName) prog_1_method_24_code (2 : Nat) (Option.some (Jvm.ClassFile.FieldType.object "FortyDays$Rule"))) ∈ lw_all := lw_g (lw_at lw_m4 94 rfl) rfl
theorem q903 : (Jvm.Cond.instanceMethod ({ cls := "FortyDays", name := "lets", desc := "(III)I" } : Jvm.MethodName)) ∈ lw_all := lw_g (lw_at lw_m4 96 rfl) rfl
theorem q904 : (Jvm.Cond.selects "FortyDays" ({ cls := "FortyDays", name := "lets", desc := "(III)I" } : Jvm.MethodName) ({ cls := "FortyDays", name := "lets", desc := "(III)I" } : Jvm.MethodName)) ∈ lw_all := lw_g (lw_at lw_m4 97 rfl) rfl
theorem q905 : (Jvm.Cond.code ({ cls := "FortyDays", name := "lets", desc := "(III)I" } : Jvm.MethodName) prog_1_method_29_code (6 : Nat) (Option.some Jvm.ClassFile.FieldType.int)) ∈ lw_all := lw_g (lw_at lw_m4 98 rfl) rfl
theorem q906 : (Jvm.Cond.methodLink "FortyDays" (259 : Nat) ({ cls := "FortyDays$Rule", name := "letsIn", desc := "(LFortyDays$Thought;I)Z" } : Jvm.MethodName)) ∈ lw_all := lw_g (lw_at lw_m4 99 rfl) rfl
theorem q935 : (Jvm.Cond.static ({ cls := "FortyDays", name := "joint", desc := "(JJI)J" } : Jvm.MethodName)) ∈ lw_all := lw_g (lw_at lw_m4 128 rfl) rfl
theorem q936 : (Jvm.Cond.code ({ cls := "FortyDays", name := "joint", desc := "(JJI)J" } : Jvm.MethodName) prog_1_method_18_code (5 : Nat) (Option.some Jvm.ClassFile.FieldType.long)) ∈ lw_all := lw_g (lw_at lw_m4 129 rfl) rfl
theorem q937 : (Jvm.Cond.constant "FortyDays" (194 : Nat) (1000000 : Int32)) ∈ lw_all := lw_g (lw_at lw_m4 130 rfl) rfl
theorem q938 : (Jvm.Cond.constantLong "FortyDays" (195 : Nat) (1000000 : Int64)) ∈ lw_all := lw_g (lw_at lw_m4 131 rfl) rfl
theorem q958 : (Jvm.Cond.instanceMethod ({ cls := "FortyDays", name := "mean", desc := "(II)J" } : Jvm.MethodName)) ∈ lw_all := lw_g (lw_at lw_m4 151 rfl) rfl
theorem q959 : (Jvm.Cond.selects "FortyDays" ({ cls := "FortyDays", name := "mean", desc := "(II)J" } : Jvm.MethodName) ({ cls := "FortyDays", name := "mean", desc := "(II)J" } : Jvm.MethodName)) ∈ lw_all := lw_g (lw_at lw_m4 152 rfl) rfl
theorem q960 : (Jvm.Cond.code ({ cls := "FortyDays", name := "mean", desc := "(II)J" } : Jvm.MethodName) prog_1_method_31_code (5 : Nat) (Option.some Jvm.ClassFile.FieldType.long)) ∈ lw_all := lw_g (lw_at lw_m4 153 rfl) rfl
theorem q961 : (Jvm.Cond.methodLink "FortyDays" (273 : Nat) ({ cls := "FortyDays", name := "meanOf", desc := "(LFortyDays$Rule;LFortyDays$Thought;)J" } : Jvm.MethodName)) ∈ lw_all := lw_g (lw_at lw_m4 154 rfl) rfl
theorem q962 : (Jvm.Cond.privateMethod ({ cls := "FortyDays", name := "meanOf", desc := "(LFortyDays$Rule;LFortyDays$Thought;)J" } : Jvm.MethodName)) ∈ lw_tbl := lw_at lw_m4 155 rfl
theorem q963 : (Jvm.Cond.instanceMethod ({ cls := "FortyDays", name := "meanOf", desc := "(LFortyDays$Rule;LFortyDays$Thought;)J" } : Jvm.MethodName)) ∈ lw_all := lw_g (lw_at lw_m4 156 rfl) rfl
theorem q964 : (Jvm.Cond.code ({ cls := "FortyDays", name := "meanOf", desc := "(LFortyDays$Rule;LFortyDays$Thought;)J" } : Jvm.MethodName) prog_1_method_30_code (4 : Nat) (Option.some Jvm.ClassFile.FieldType.long)) ∈ lw_all := lw_g (lw_at lw_m4 157 rfl) rfl
theorem q965 : (Jvm.Cond.methodLink "FortyDays" (263 : Nat) ({ cls := "FortyDays", name := "goForward", desc := "(LFortyDays$Thought;I)V" } : Jvm.MethodName)) ∈ lw_all := lw_g (lw_at lw_m4 158 rfl) rfl
theorem q966 : (Jvm.Cond.privateMethod ({ cls := "FortyDays", name := "goForward", desc := "(LFortyDays$Thought;I)V" } : Jvm.MethodName)) ∈ lw_tbl := lw_at lw_m4 159 rfl
theorem q967 : (Jvm.Cond.instanceMethod ({ cls := "FortyDays", name := "goForward", desc := "(LFortyDays$Thought;I)V" } : Jvm.MethodName)) ∈ lw_all := lw_g (lw_at lw_m4 160 rfl) rfl
theorem q968 : (Jvm.Cond.code ({ cls := "FortyDays", name := "goForward", desc := "(LFortyDays$Thought;I)V" } : Jvm.MethodName) prog_1_method_17_code (4 : Nat) (Option.none : Option Jvm.ClassFile.FieldType)) ∈ lw_all := lw_g (lw_at lw_m4 161 rfl) rfl
theorem q969 : (Jvm.Cond.methodLink "FortyDays" (186 : Nat) ({ cls := "FortyDays$Thought", name := "become", desc := "(LFortyDays$Thought;)V" } : Jvm.MethodName)) ∈ lw_all := lw_g (lw_at lw_m4 162 rfl) rfl
theorem q970 : (Jvm.Cond.methodLink "FortyDays" (190 : Nat) ({ cls := "FortyDays$Thought", name := "cost", desc := "(I)J" } : Jvm.MethodName)) ∈ lw_all := lw_g (lw_at lw_m4 163 rfl) rfl
theorem q971 : (Jvm.Cond.methodLink "FortyDays" (267 : Nat) ({ cls := "FortyDays$Rule", name := "letIn", desc := "(I)J" } : Jvm.MethodName)) ∈ lw_all := lw_g (lw_at lw_m4 164 rfl) rfl
theorem q982 : (Jvm.Cond.privateMethod ({ cls := "FortyDays", name := "lookOn", desc := "(I)J" } : Jvm.MethodName)) ∈ lw_tbl := lw_at lw_m4 175 rfl
theorem q983 : (Jvm.Cond.instanceMethod ({ cls := "FortyDays", name := "lookOn", desc := "(I)J" } : Jvm.MethodName)) ∈ lw_all := lw_g (lw_at lw_m4 176 rfl) rfl
theorem q984 : (Jvm.Cond.code ({ cls := "FortyDays", name := "lookOn", desc := "(I)J" } : Jvm.MethodName) prog_1_method_25_code (2 : Nat) (Option.some Jvm.ClassFile.FieldType.long)) ∈ lw_all := lw_g (lw_at lw_m4 177 rfl) rfl
theorem q985 : (Jvm.Cond.constantLong "FortyDays" (222 : Nat) (1000 : Int64)) ∈ lw_all := lw_g (lw_at lw_m4 178 rfl) rfl
theorem q986 : (Jvm.Cond.constantLong "FortyDays" (197 : Nat) (10 : Int64)) ∈ lw_all := lw_g (lw_at lw_m4 179 rfl) rfl
theorem q987 : (Jvm.Cond.methodLink "FortyDays" (199 : Nat) ({ cls := "FortyDays", name := "joint", desc := "(JJI)J" } : Jvm.MethodName)) ∈ lw_all := lw_g (lw_at lw_m4 180 rfl) rfl
theorem q994 : (Jvm.Cond.methodLink "FortyDays" (270 : Nat) ({ cls := "FortyDays", name := "fold", desc := "(IJ)J" } : Jvm.MethodName)) ∈ lw_all := lw_g (lw_at lw_m4 187 rfl) rfl
theorem q995 : (Jvm.Cond.privateMethod ({ cls := "FortyDays", name := "fold", desc := "(IJ)J" } : Jvm.MethodName)) ∈ lw_tbl := lw_at lw_m4 188 rfl
theorem q996 : (Jvm.Cond.instanceMethod ({ cls := "FortyDays", name := "fold", desc := "(IJ)J" } : Jvm.MethodName)) ∈ lw_all := lw_g (lw_at lw_m4 189 rfl) rfl
theorem q997 : (Jvm.Cond.code ({ cls := "FortyDays", name := "fold", desc := "(IJ)J" } : Jvm.MethodName) prog_1_method_20_code (7 : Nat) (Option.some Jvm.ClassFile.FieldType.long)) ∈ lw_all := lw_g (lw_at lw_m4 190 rfl) rfl
theorem q998 : (Jvm.Cond.methodLink "FortyDays" (203 : Nat) ({ cls := "FortyDays", name := "held", desc := "(IJ)J" } : Jvm.MethodName)) ∈ lw_all := lw_g (lw_at lw_m4 191 rfl) rfl
theorem q999 : (Jvm.Cond.privateMethod ({ cls := "FortyDays", name := "held", desc := "(IJ)J" } : Jvm.MethodName)) ∈ lw_tbl := lw_at lw_m4 192 rfl
theorem q1000 : (Jvm.Cond.instanceMethod ({ cls := "FortyDays", name := "held", desc := "(IJ)J" } : Jvm.MethodName)) ∈ lw_all := lw_g (lw_at lw_m4 193 rfl) rfl
theorem q1001 : (Jvm.Cond.code ({ cls := "FortyDays", name := "held", desc := "(IJ)J" } : Jvm.MethodName) prog_1_method_19_code (4 : Nat) (Option.some Jvm.ClassFile.FieldType.long)) ∈ lw_all := lw_g (lw_at lw_m4 194 rfl) rfl
theorem q1003 : (Jvm.Cond.instanceMethod ({ cls := "FortyDays", name := "best", desc := "(IIII)J" } : Jvm.MethodName)) ∈ lw_all := lw_g (lw_at lw_m4 196 rfl) rfl
theorem q1004 : (Jvm.Cond.selects "FortyDays" ({ cls := "FortyDays", name := "best", desc := "(IIII)J" } : Jvm.MethodName) ({ cls := "FortyDays", name := "best", desc := "(IIII)J" } : Jvm.MethodName)) ∈ lw_all := lw_g (lw_at lw_m4 197 rfl) rfl
theorem q1005 : (Jvm.Cond.code ({ cls := "FortyDays", name := "best", desc := "(IIII)J" } : Jvm.MethodName) prog_1_method_32_code (6 : Nat) (Option.some Jvm.ClassFile.FieldType.long)) ∈ lw_all := lw_g (lw_at lw_m4 198 rfl) rfl
theorem q1006 : (Jvm.Cond.methodLink "FortyDays" (213 : Nat) ({ cls := "FortyDays", name := "bestFrom", desc := "(II)J" } : Jvm.MethodName)) ∈ lw_all := lw_g (lw_at lw_m4 199 rfl) rfl
theorem q1007 : (Jvm.Cond.privateMethod ({ cls := "FortyDays", name := "bestFrom", desc := "(II)J" } : Jvm.MethodName)) ∈ lw_tbl := lw_at lw_m4 200 rfl
theorem q1008 : (Jvm.Cond.instanceMethod ({ cls := "FortyDays", name := "bestFrom", desc := "(II)J" } : Jvm.MethodName)) ∈ lw_all := lw_g (lw_at lw_m4 201 rfl) rfl
theorem q1009 : (Jvm.Cond.code ({ cls := "FortyDays", name := "bestFrom", desc := "(II)J" } : Jvm.MethodName) prog_1_method_21_code (6 : Nat) (Option.some Jvm.ClassFile.FieldType.long)) ∈ lw_all := lw_g (lw_at lw_m4 202 rfl) rfl
theorem q1010 : (Jvm.Cond.methodLink "FortyDays" (207 : Nat) ({ cls := "java/lang/Math", name := "min", desc := "(JJ)J" } : Jvm.MethodName)) ∈ lw_all := lw_g (lw_at lw_m4 203 rfl) rfl
theorem q1011 : (Jvm.Cond.methodLink "FortyDays" (277 : Nat) ({ cls := "FortyDays", name := "isBestIn", desc := "(II)Z" } : Jvm.MethodName)) ∈ lw_all := lw_g (lw_at lw_m4 204 rfl) rfl
theorem q1012 : (Jvm.Cond.privateMethod ({ cls := "FortyDays", name := "isBestIn", desc := "(II)Z" } : Jvm.MethodName)) ∈ lw_tbl := lw_at lw_m4 205 rfl
theorem q1013 : (Jvm.Cond.instanceMethod ({ cls := "FortyDays", name := "isBestIn", desc := "(II)Z" } : Jvm.MethodName)) ∈ lw_all := lw_g (lw_at lw_m4 206 rfl) rfl
theorem q1014 : (Jvm.Cond.code ({ cls := "FortyDays", name := "isBestIn", desc := "(II)Z" } : Jvm.MethodName) prog_1_method_22_code (3 : Nat) (Option.some Jvm.ClassFile.FieldType.boolean)) ∈ lw_all := lw_g (lw_at lw_m4 207 rfl) rfl
theorem q1016 : (Jvm.Cond.instanceMethod ({ cls := "FortyDays", name := "plain", desc := "(II)I" } : Jvm.MethodName)) ∈ lw_all := lw_g (lw_at lw_m4 209 rfl) rfl
theorem q1017 : (Jvm.Cond.selects "FortyDays" ({ cls := "FortyDays", name := "plain", desc := "(II)I" } : Jvm.MethodName) ({ cls := "FortyDays", name := "plain", desc := "(II)I" } : Jvm.MethodName)) ∈ lw_all := lw_g (lw_at lw_m4 210 rfl) rfl
theorem q1018 : (Jvm.Cond.code ({ cls := "FortyDays", name := "plain", desc := "(II)I" } : Jvm.MethodName) prog_1_method_35_code (4 : Nat) (Option.some Jvm.ClassFile.FieldType.int)) ∈ lw_all := lw_g (lw_at lw_m4 211 rfl) rfl
theorem q1019 : (Jvm.Cond.methodLink "FortyDays" (284 : Nat) ({ cls := "FortyDays", name := "plainNow", desc := "()I" } : Jvm.MethodName)) ∈ lw_all := lw_g (lw_at lw_m4 212 rfl) rfl
theorem q1020 : (Jvm.Cond.privateMethod ({ cls := "FortyDays", name := "plainNow", desc := "()I" } : Jvm.MethodName)) ∈ lw_tbl := lw_at lw_m4 213 rfl
theorem q1021 : (Jvm.Cond.instanceMethod ({ cls := "FortyDays", name := "plainNow", desc := "()I" } : Jvm.MethodName)) ∈ lw_all := lw_g (lw_at lw_m4 214 rfl) rfl
theorem q1022 : (Jvm.Cond.code ({ cls := "FortyDays", name := "plainNow", desc := "()I" } : Jvm.MethodName) prog_1_method_33_code (3 : Nat) (Option.some Jvm.ClassFile.FieldType.int)) ∈ lw_all := lw_g (lw_at lw_m4 215 rfl) rfl
theorem q1023 : (Jvm.Cond.methodLink "FortyDays" (287 : Nat) ({ cls := "FortyDays", name := "whenNow", desc := "()I" } : Jvm.MethodName)) ∈ lw_all := lw_g (lw_at lw_m4 216 rfl) rfl
theorem q1024 : (Jvm.Cond.privateMethod ({ cls := "FortyDays", name := "whenNow", desc := "()I" } : Jvm.MethodName)) ∈ lw_tbl := lw_at lw_m4 217 rfl
theorem q1025 : (Jvm.Cond.instanceMethod ({ cls := "FortyDays", name := "whenNow", desc := "()I" } : Jvm.MethodName)) ∈ lw_all := lw_g (lw_at lw_m4 218 rfl) rfl
theorem q1026 : (Jvm.Cond.code ({ cls := "FortyDays", name := "whenNow", desc := "()I" } : Jvm.MethodName) prog_1_method_34_code (3 : Nat) (Option.some Jvm.ClassFile.FieldType.int)) ∈ lw_all := lw_g (lw_at lw_m4 219 rfl) rfl
theorem q1027 : (Jvm.Cond.methodLink "FortyDays" (281 : Nat) ({ cls := "FortyDays", name := "lookOn", desc := "(I)J" } : Jvm.MethodName)) ∈ lw_all := lw_g (lw_at lw_m4 220 rfl) rfl
theorem q1029 : (Jvm.Cond.instanceMethod ({ cls := "FortyDays", name := "loses", desc := "(I)J" } : Jvm.MethodName)) ∈ lw_all := lw_g (lw_at lw_m4 222 rfl) rfl
theorem q1030 : (Jvm.Cond.selects "FortyDays" ({ cls := "FortyDays", name := "loses", desc := "(I)J" } : Jvm.MethodName) ({ cls := "FortyDays", name := "loses", desc := "(I)J" } : Jvm.MethodName)) ∈ lw_all := lw_g (lw_at lw_m4 223 rfl) rfl
theorem q1031 : (Jvm.Cond.code ({ cls := "FortyDays", name := "loses", desc := "(I)J" } : Jvm.MethodName) prog_1_method_36_code (4 : Nat) (Option.some Jvm.ClassFile.FieldType.long)) ∈ lw_all := lw_g (lw_at lw_m4 224 rfl) rfl
theorem q1033 : (Jvm.Cond.instanceMethod ({ cls := "FortyDays", name := "judged", desc := "(II)I" } : Jvm.MethodName)) ∈ lw_all := lw_g (lw_at lw_m4 226 rfl) rfl
theorem q1034 : (Jvm.Cond.selects "FortyDays" ({ cls := "FortyDays", name := "judged", desc := "(II)I" } : Jvm.MethodName) ({ cls := "FortyDays", name := "judged", desc := "(II)I" } : Jvm.MethodName)) ∈ lw_all := lw_g (lw_at lw_m4 227 rfl) rfl
theorem q1035 : (Jvm.Cond.code ({ cls := "FortyDays", name := "judged", desc := "(II)I" } : Jvm.MethodName) prog_1_method_37_code (8 : Nat) (Option.some Jvm.ClassFile.FieldType.int)) ∈ lw_all := lw_g (lw_at lw_m4 228 rfl) rfl
theorem q1037 : (Jvm.Cond.instanceMethod ({ cls := "FortyDays", name := "room", desc := "(II)I" } : Jvm.MethodName)) ∈ lw_all := lw_g (lw_at lw_m4 230 rfl) rfl
theorem q1038 : (Jvm.Cond.selects "FortyDays" ({ cls := "FortyDays", name := "room", desc := "(II)I" } : Jvm.MethodName) ({ cls := "FortyDays", name := "room", desc := "(II)I" } : Jvm.MethodName)) ∈ lw_all := lw_g (lw_at lw_m4 231 rfl) rfl
theorem q1039 : (Jvm.Cond.code ({ cls := "FortyDays", name := "room", desc := "(II)I" } : Jvm.MethodName) prog_1_method_38_code (11 : Nat) (Option.some Jvm.ClassFile.FieldType.int)) ∈ lw_all := lw_g (lw_at lw_m4 232 rfl) rfl
theorem q1041 : (Jvm.Cond.instanceMethod ({ cls := "FortyDays", name := "lies", desc := "(II)I" } : Jvm.MethodName)) ∈ lw_all := lw_g (lw_at lw_m4 234 rfl) rfl
theorem q1042 : (Jvm.Cond.selects "FortyDays" ({ cls := "FortyDays", name := "lies", desc := "(II)I" } : Jvm.MethodName) ({ cls := "FortyDays", name := "lies", desc := "(II)I" } : Jvm.MethodName)) ∈ lw_all := lw_g (lw_at lw_m4 235 rfl) rfl
theorem q1043 : (Jvm.Cond.code ({ cls := "FortyDays", name := "lies", desc := "(II)I" } : Jvm.MethodName) prog_1_method_40_code (7 : Nat) (Option.some Jvm.ClassFile.FieldType.int)) ∈ lw_all := lw_g (lw_at lw_m4 236 rfl) rfl
theorem q1044 : (Jvm.Cond.methodLink "FortyDays" (294 : Nat) ({ cls := "FortyDays", name := "findSaid", desc := "(LFortyDays$Rule;LFortyDays$Ship;)V" } : Jvm.MethodName)) ∈ lw_all := lw_g (lw_at lw_m4 237 rfl) rfl
theorem q1045 : (Jvm.Cond.privateMethod ({ cls := "FortyDays", name := "findSaid", desc := "(LFortyDays$Rule;LFortyDays$Ship;)V" } : Jvm.MethodName)) ∈ lw_tbl := lw_at lw_m4 238 rfl
theorem q1046 : (Jvm.Cond.instanceMethod ({ cls := "FortyDays", name := "findSaid", desc := "(LFortyDays$Rule;LFortyDays$Ship;)V" } : Jvm.MethodName)) ∈ lw_all := lw_g (lw_at lw_m4 239 rfl) rfl
theorem q1047 : (Jvm.Cond.code ({ cls := "FortyDays", name := "findSaid", desc := "(LFortyDays$Rule;LFortyDays$Ship;)V" } : Jvm.MethodName) prog_1_method_39_code (4 : Nat) (Option.none : Option Jvm.ClassFile.FieldType)) ∈ lw_all := lw_g (lw_at lw_m5 0 rfl) rfl
theorem q1048 : (Jvm.Cond.methodLink "FortyDays" (290 : Nat) ({ cls := "FortyDays$Thought", name := "begin", desc := "(LFortyDays$Port;III)V" } : Jvm.MethodName)) ∈ lw_all := lw_g (lw_at lw_m5 1 rfl) rfl
theorem q1050 : (Jvm.Cond.instanceMethod ({ cls := "FortyDays", name := "fine", desc := "(II)I" } : Jvm.MethodName)) ∈ lw_all := lw_g (lw_at lw_m5 3 rfl) rfl
theorem q1051 : (Jvm.Cond.selects "FortyDays" ({ cls := "FortyDays", name := "fine", desc := "(II)I" } : Jvm.MethodName) ({ cls := "FortyDays", name := "fine", desc := "(II)I" } : Jvm.MethodName)) ∈ lw_all := lw_g (lw_at lw_m5 4 rfl) rfl
theorem q1052 : (Jvm.Cond.code ({ cls := "FortyDays", name := "fine", desc := "(II)I" } : Jvm.MethodName) prog_1_method_41_code (12 : Nat) (Option.some Jvm.ClassFile.FieldType.int)) ∈ lw_all := lw_g (lw_at lw_m5 5 rfl) rfl
theorem q1053 : (Jvm.Cond.constantLong "FortyDays" (298 : Nat) (499 : Int64)) ∈ lw_all := lw_g (lw_at lw_m5 6 rfl) rfl
theorem q1054 : (Jvm.Cond.constantLong "FortyDays" (300 : Nat) (500 : Int64)) ∈ lw_all := lw_g (lw_at lw_m5 7 rfl) rfl
theorem q1055 : (Jvm.Cond.constantLong "FortyDays" (302 : Nat) (999 : Int64)) ∈ lw_all := lw_g (lw_at lw_m5 8 rfl) rfl
theorem q1057 : (Jvm.Cond.instanceMethod ({ cls := "FortyDays", name := "rest", desc := "(III)I" } : Jvm.MethodName)) ∈ lw_all := lw_g (lw_at lw_m5 10 rfl) rfl
theorem q1058 : (Jvm.Cond.selects "FortyDays" ({ cls := "FortyDays", name := "rest", desc := "(III)I" } : Jvm.MethodName) ({ cls := "FortyDays", name := "rest", desc := "(III)I" } : Jvm.MethodName)) ∈ lw_all := lw_g (lw_at lw_m5 11 rfl) rfl
theorem q1059 : (Jvm.Cond.code ({ cls := "FortyDays", name := "rest", desc := "(III)I" } : Jvm.MethodName) prog_1_method_45_code (8 : Nat) (Option.some Jvm.ClassFile.FieldType.int)) ∈ lw_all := lw_g (lw_at lw_m5 12 rfl) rfl
theorem q1060 : (Jvm.Cond.methodLink "FortyDays" (314 : Nat) ({ cls := "FortyDays", name := "findSide", desc := "(ILFortyDays$Port;LFortyDays$Port;LFortyDays$Ship;)V" } : Jvm.MethodName)) ∈ lw_all := lw_g (lw_at lw_m5 13 rfl) rfl
theorem q1061 : (Jvm.Cond.privateMethod ({ cls := "FortyDays", name := "findSide", desc := "(ILFortyDays$Port;LFortyDays$Port;LFortyDays$Ship;)V" } : Jvm.MethodName)) ∈ lw_tbl := lw_at lw_m5 14 rfl
theorem q1062 : (Jvm.Cond.instanceMethod ({ cls := "FortyDays", name := "findSide", desc := "(ILFortyDays$Port;LFortyDays$Port;LFortyDays$Ship;)V" } : Jvm.MethodName)) ∈ lw_all := lw_g (lw_at lw_m5 15 rfl) rfl
theorem q1063 : (Jvm.Cond.code ({ cls := "FortyDays", name := "findSide", desc := "(ILFortyDays$Port;LFortyDays$Port;LFortyDays$Ship;)V" } : Jvm.MethodName) prog_1_method_42_code (6 : Nat) (Option.none : Option Jvm.ClassFile.FieldType)) ∈ lw_all := lw_g (lw_at lw_m5 16 rfl) rfl
theorem q1064 : (Jvm.Cond.methodLink "FortyDays" (304 : Nat) ({ cls := "FortyDays$Thought", name := "harmIn", desc := "(LFortyDays$Port;)J" } : Jvm.MethodName)) ∈ lw_all := lw_g (lw_at lw_m5 17 rfl) rfl
theorem q1065 : (Jvm.Cond.constantLong "FortyDays" (308 : Nat) (2 : Int64)) ∈ lw_all := lw_g (lw_at lw_m5 18 rfl) rfl
theorem q1066 : (Jvm.Cond.methodLink "FortyDays" (318 : Nat) ({ cls := "FortyDays", name := "isRest", desc := "(II)Z" } : Jvm.MethodName)) ∈ lw_all := lw_g (lw_at lw_m5 19 rfl) rfl
theorem q1067 : (Jvm.Cond.privateMethod ({ cls := "FortyDays", name := "isRest", desc := "(II)Z" } : Jvm.MethodName)) ∈ lw_tbl := lw_at lw_m5 20 rfl
theorem q1068 : (Jvm.Cond.instanceMethod ({ cls := "FortyDays", name := "isRest", desc := "(II)Z" } : Jvm.MethodName)) ∈ lw_all := lw_g (lw_at lw_m5 21 rfl) rfl
theorem q1069 : (Jvm.Cond.code ({ cls := "FortyDays", name := "isRest", desc := "(II)Z" } : Jvm.MethodName) prog_1_method_44_code (4 : Nat) (Option.some Jvm.ClassFile.FieldType.boolean)) ∈ lw_all := lw_g (lw_at lw_m5 22 rfl) rfl
theorem q1070 : (Jvm.Cond.methodLink "FortyDays" (310 : Nat) ({ cls := "FortyDays", name := "costOf", desc := "(III)J" } : Jvm.MethodName)) ∈ lw_all := lw_g (lw_at lw_m5 23 rfl) rfl
theorem q1071 : (Jvm.Cond.privateMethod ({ cls := "FortyDays", name := "costOf", desc := "(III)J" } : Jvm.MethodName)) ∈ lw_tbl := lw_at lw_m5 24 rfl
theorem q1072 : (Jvm.Cond.instanceMethod ({ cls := "FortyDays", name := "costOf", desc := "(III)J" } : Jvm.MethodName)) ∈ lw_all := lw_g (lw_at lw_m5 25 rfl) rfl
theorem q1073 : (Jvm.Cond.code ({ cls := "FortyDays", name := "costOf", desc := "(III)J" } : Jvm.MethodName) prog_1_method_43_code (5 : Nat) (Option.some Jvm.ClassFile.FieldType.long)) ∈ lw_all := lw_g (lw_at lw_m5 26 rfl) rfl
theorem q1075 : (Jvm.Cond.instanceMethod ({ cls := "FortyDays", name := "matter", desc := "(I)I" } : Jvm.MethodName)) ∈ lw_all := lw_g (lw_at lw_m5 28 rfl) rfl
theorem q1076 : (Jvm.Cond.selects "FortyDays" ({ cls := "FortyDays", name := "matter", desc := "(I)I" } : Jvm.MethodName) ({ cls := "FortyDays", name := "matter", desc := "(I)I" } : Jvm.MethodName)) ∈ lw_all := lw_g (lw_at lw_m5 29 rfl) rfl
theorem q1077 : (Jvm.Cond.code ({ cls := "FortyDays", name := "matter", desc := "(I)I" } : Jvm.MethodName) prog_1_method_46_code (6 : Nat) (Option.some Jvm.ClassFile.FieldType.int)) ∈ lw_all := lw_g (lw_at lw_m5 30 rfl) rfl
theorem q1079 : (Jvm.Cond.instanceMethod ({ cls := "FortyDays", name := "edge", desc := "(I)I" } : Jvm.MethodName)) ∈ lw_all := lw_g (lw_at lw_m5 32 rfl) rfl
theorem q1080 : (Jvm.Cond.selects "FortyDays" ({ cls := "FortyDays", name := "edge", desc := "(I)I" } : Jvm.MethodName) ({ cls := "FortyDays", name := "edge", desc := "(I)I" } : Jvm.MethodName)) ∈ lw_all := lw_g (lw_at lw_m5 33 rfl) rfl
theorem q1081 : (Jvm.Cond.code ({ cls := "FortyDays", name := "edge", desc := "(I)I" } : Jvm.MethodName) prog_1_method_48_code (5 : Nat) (Option.some Jvm.ClassFile.FieldType.int)) ∈ lw_all := lw_g (lw_at lw_m5 34 rfl) rfl
theorem q1082 : (Jvm.Cond.methodLink "FortyDays" (324 : Nat) ({ cls := "FortyDays", name := "turns", desc := "(LFortyDays$Ship;II)Z" } : Jvm.MethodName)) ∈ lw_all := lw_g (lw_at lw_m5 35 rfl) rfl
theorem q1083 : (Jvm.Cond.privateMethod ({ cls := "FortyDays", name := "turns", desc := "(LFortyDays$Ship;II)Z" } : Jvm.MethodName)) ∈ lw_tbl := lw_at lw_m5 36 rfl
theorem q1084 : (Jvm.Cond.instanceMethod ({ cls := "FortyDays", name := "turns", desc := "(LFortyDays$Ship;II)Z" } : Jvm.MethodName)) ∈ lw_all := lw_g (lw_at lw_m5 37 rfl) rfl
theorem q1085 : (Jvm.Cond.code ({ cls := "FortyDays", name := "turns", desc := "(LFortyDays$Ship;II)Z" } : Jvm.MethodName) prog_1_method_47_code (5 : Nat) (Option.some Jvm.ClassFile.FieldType.boolean)) ∈ lw_all := lw_g (lw_at lw_m5 38 rfl) rfl
theorem q1087 : (Jvm.Cond.instanceMethod ({ cls := "FortyDays", name := "run", desc := "(III)I" } : Jvm.MethodName)) ∈ lw_all := lw_g (lw_at lw_m5 40 rfl) rfl
theorem q1088 : (Jvm.Cond.selects "FortyDays" ({ cls := "FortyDays", name := "run", desc := "(III)I" } : Jvm.MethodName) ({ cls := "FortyDays", name := "run", desc := "(III)I" } : Jvm.MethodName)) ∈ lw_all := lw_g (lw_at lw_m5 41 rfl) rfl
theorem q1089 : (Jvm.Cond.code ({ cls := "FortyDays", name := "run", desc := "(III)I" } : Jvm.MethodName) prog_1_method_50_code (6 : Nat) (Option.some Jvm.ClassFile.FieldType.int)) ∈ lw_all := lw_g (lw_at lw_m5 42 rfl) rfl
theorem q1090 : (Jvm.Cond.methodLink "FortyDays" (334 : Nat) ({ cls := "FortyDays", name := "runOf", desc := "(LFortyDays$Rule;LFortyDays$Ship;I)I" } : Jvm.MethodName)) ∈ lw_all := lw_g (lw_at lw_m5 43 rfl) rfl
theorem q1091 : (Jvm.Cond.privateMethod ({ cls := "FortyDays", name := "runOf", desc := "(LFortyDays$Rule;LFortyDays$Ship;I)I" } : Jvm.MethodName)) ∈ lw_tbl := lw_at lw_m5 44 rfl
theorem q1092 : (Jvm.Cond.instanceMethod ({ cls := "FortyDays", name := "runOf", desc := "(LFortyDays$Rule;LFortyDays$Ship;I)I" } : Jvm.MethodName)) ∈ lw_all := lw_g (lw_at lw_m5 45 rfl) rfl
theorem q1093 : (Jvm.Cond.code ({ cls := "FortyDays", name := "runOf", desc := "(LFortyDays$Rule;LFortyDays$Ship;I)I" } : Jvm.MethodName) prog_1_method_49_code (8 : Nat) (Option.some Jvm.ClassFile.FieldType.int)) ∈ lw_all := lw_g (lw_at lw_m5 46 rfl) rfl
theorem q1094 : (Jvm.Cond.methodLink "FortyDays" (328 : Nat) ({ cls := "java/lang/Math", name := "min", desc := "(II)I" } : Jvm.MethodName)) ∈ lw_all := lw_g (lw_at lw_m5 47 rfl) rfl
theorem q1095 : (Jvm.Cond.methodLink "FortyDays" (331 : Nat) ({ cls := "FortyDays$Port", name := "give", desc := "()I" } : Jvm.MethodName)) ∈ lw_all := lw_g (lw_at lw_m5 48 rfl) rfl
theorem q1097 : (Jvm.Cond.instanceMethod ({ cls := "FortyDays", name := "act", desc := "(III)I" } : Jvm.MethodName)) ∈ lw_all := lw_g (lw_at lw_m5 50 rfl) rfl
theorem q1098 : (Jvm.Cond.selects "FortyDays" ({ cls := "FortyDays", name := "act", desc := "(III)I" } : Jvm.MethodName) ({ cls := "FortyDays", name := "act", desc := "(III)I" } : Jvm.MethodName)) ∈ lw_all := lw_g (lw_at lw_m5 51 rfl) rfl
theorem q1099 : (Jvm.Cond.code ({ cls := "FortyDays", name := "act", desc := "(III)I" } : Jvm.MethodName) prog_1_method_51_code (5 : Nat) (Option.some Jvm.ClassFile.FieldType.int)) ∈ lw_all := lw_g (lw_at lw_m5 52 rfl) rfl
theorem q1100 : (Jvm.Cond.methodLink "FortyDays" (338 : Nat) ({ cls := "FortyDays$Rule", name := "holds", desc := "(I)I" } : Jvm.MethodName)) ∈ lw_all := lw_g (lw_at lw_m5 53 rfl) rfl
theorem q1110 : (Jvm.Cond.privateMethod ({ cls := "FortyDays", name := "body", desc := "(I)V" } : Jvm.MethodName)) ∈ lw_tbl := lw_at lw_m5 63 rfl
theorem q1111 : (Jvm.Cond.instanceMethod ({ cls := "FortyDays", name := "body", desc := "(I)V" } : Jvm.MethodName)) ∈ lw_all := lw_g (lw_at lw_m5 64 rfl) rfl
theorem q1112 : (Jvm.Cond.code ({ cls := "FortyDays", name := "body", desc := "(I)V" } : Jvm.MethodName) prog_1_method_23_code (2 : Nat) (Option.none : Option Jvm.ClassFile.FieldType)) ∈ lw_all := lw_g (lw_at lw_m5 65 rfl) rfl
theorem q1125 : (Jvm.Cond.methodLink "FortyDays" (342 : Nat) ({ cls := "FortyDays$Rule", name := "lets", desc := "(I)I" } : Jvm.MethodName)) ∈ lw_all := lw_g (lw_at lw_m5 78 rfl) rfl
theorem q1147 : (Jvm.Cond.methodLink "FortyDays" (345 : Nat) ({ cls := "FortyDays$Rule", name := "costs", desc := "(I)I" } : Jvm.MethodName)) ∈ lw_all := lw_g (lw_at lw_m5 100 rfl) rfl
theorem q1174 : (Jvm.Cond.instanceMethod ({ cls := "FortyDays", name := "trace", desc := "(I)I" } : Jvm.MethodName)) ∈ lw_all := lw_g (lw_at lw_m5 127 rfl) rfl
theorem q1175 : (Jvm.Cond.selects "FortyDays" ({ cls := "FortyDays", name := "trace", desc := "(I)I" } : Jvm.MethodName) ({ cls := "FortyDays", name := "trace", desc := "(I)I" } : Jvm.MethodName)) ∈ lw_all := lw_g (lw_at lw_m5 128 rfl) rfl
theorem q1176 : (Jvm.Cond.code ({ cls := "FortyDays", name := "trace", desc := "(I)I" } : Jvm.MethodName) prog_1_method_52_code (2 : Nat) (Option.some Jvm.ClassFile.FieldType.int)) ∈ lw_all := lw_g (lw_at lw_m5 129 rfl) rfl
theorem q1178 : (Jvm.Cond.instanceMethod ({ cls := "FortyDays", name := "as", desc := "(II)I" } : Jvm.MethodName)) ∈ lw_all := lw_g (lw_at lw_m5 131 rfl) rfl
theorem q1179 : (Jvm.Cond.selects "FortyDays" ({ cls := "FortyDays", name := "as", desc := "(II)I" } : Jvm.MethodName) ({ cls := "FortyDays", name := "as", desc := "(II)I" } : Jvm.MethodName)) ∈ lw_all := lw_g (lw_at lw_m5 132 rfl) rfl
theorem q1180 : (Jvm.Cond.code ({ cls := "FortyDays", name := "as", desc := "(II)I" } : Jvm.MethodName) prog_1_method_53_code (4 : Nat) (Option.some Jvm.ClassFile.FieldType.int)) ∈ lw_all := lw_g (lw_at lw_m5 133 rfl) rfl
theorem q1181 : (Jvm.Cond.methodLink "FortyDays" (347 : Nat) ({ cls := "FortyDays$Rule", name := "isUnder", desc := "(I)Z" } : Jvm.MethodName)) ∈ lw_all := lw_g (lw_at lw_m5 134 rfl) rfl
theorem q1211 : (Jvm.Cond.instanceMethod ({ cls := "FortyDays", name := "image", desc := "()I" } : Jvm.MethodName)) ∈ lw_all := lw_g (lw_at lw_m5 164 rfl) rfl
theorem q1212 : (Jvm.Cond.selects "FortyDays" ({ cls := "FortyDays", name := "image", desc := "()I" } : Jvm.MethodName) ({ cls := "FortyDays", name := "image", desc := "()I" } : Jvm.MethodName)) ∈ lw_all := lw_g (lw_at lw_m5 165 rfl) rfl
theorem q1213 : (Jvm.Cond.code ({ cls := "FortyDays", name := "image", desc := "()I" } : Jvm.MethodName) prog_1_method_54_code (1 : Nat) (Option.some Jvm.ClassFile.FieldType.int)) ∈ lw_all := lw_g (lw_at lw_m5 166 rfl) rfl
theorem q1214 : (Jvm.Cond.classLink "FortyDays" (353 : Nat) "FortyDays$Image") ∈ lw_all := lw_g (lw_at lw_m5 167 rfl) rfl
theorem q1216 : (Jvm.Cond.methodLink "FortyDays" (355 : Nat) ({ cls := "FortyDays$Image", name := "<init>", desc := "(LFortyDays;)V" } : Jvm.MethodName)) ∈ lw_all := lw_g (lw_at lw_m5 169 rfl) rfl
theorem q1260 : (Jvm.Cond.instanceMethod ({ cls := "FortyDays", name := "undo", desc := "()I" } : Jvm.MethodName)) ∈ lw_all := lw_g (lw_at lw_m5 213 rfl) rfl
theorem q1261 : (Jvm.Cond.selects "FortyDays" ({ cls := "FortyDays", name := "undo", desc := "()I" } : Jvm.MethodName) ({ cls := "FortyDays", name := "undo", desc := "()I" } : Jvm.MethodName)) ∈ lw_all := lw_g (lw_at lw_m5 214 rfl) rfl
theorem q1262 : (Jvm.Cond.code ({ cls := "FortyDays", name := "undo", desc := "()I" } : Jvm.MethodName) prog_1_method_55_code (1 : Nat) (Option.some Jvm.ClassFile.FieldType.int)) ∈ lw_all := lw_g (lw_at lw_m5 215 rfl) rfl
theorem q1263 : (Jvm.Cond.methodLink "FortyDays" (360 : Nat) ({ cls := "FortyDays$Image", name := "putBack", desc := "()V" } : Jvm.MethodName)) ∈ lw_all := lw_g (lw_at lw_m5 216 rfl) rfl
theorem q1282 : (Jvm.Cond.instanceMethod ({ cls := "FortyDays", name := "count", desc := "(I)I" } : Jvm.MethodName)) ∈ lw_all := lw_g (lw_at lw_m5 235 rfl) rfl
theorem q1283 : (Jvm.Cond.selects "FortyDays" ({ cls := "FortyDays", name := "count", desc := "(I)I" } : Jvm.MethodName) ({ cls := "FortyDays", name := "count", desc := "(I)I" } : Jvm.MethodName)) ∈ lw_all := lw_g (lw_at lw_m5 236 rfl) rfl
theorem q1284 : (Jvm.Cond.code ({ cls := "FortyDays", name := "count", desc := "(I)I" } : Jvm.MethodName) prog_1_method_56_code (2 : Nat) (Option.some Jvm.ClassFile.FieldType.int)) ∈ lw_all := lw_g (lw_at lw_m5 237 rfl) rfl
theorem q1765 : (Jvm.Cond.castable "FortyDays" "java/lang/Object") ∈ lw_tbl := lw_at lw_m7 238 rfl
theorem in_X0 : ∀ w ∈ wsX00, w ∈ lw_all := lw_in wsX00 [276, 278, 280, 282, 284, 286, 288, 290, 292, 294, 296, 298, 300, 302, 304, 306, 308, 310, 312] (by decide +kernel) (by decide +kernel)
