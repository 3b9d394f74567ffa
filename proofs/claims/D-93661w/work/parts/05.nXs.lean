/-! FortyDays$Reader -/
set_option maxRecDepth 100000
def RX1 : String := "FortyDays$Reader"
def TX1 : u_T := fun k => match k with
  | 0 => ("FortyDays$Reader", "words", "[[C", true)
  | 1 => ("FortyDays$Reader", "have", "[C", true)
  | 2 => ("FortyDays$Reader", "hold", "[C", true)
  | 3 => ("FortyDays$Reader", "at", "I", false)
  | 4 => ("FortyDays$Reader", "open", "I", false)
  | _ => ("FortyDays$Reader", "this$0", "LFortyDays;", true)
def tyX1 : Nat → FieldType := fun k => match k with
  | 0 => .array (.array .char)
  | 1 => .array .char
  | 2 => .array .char
  | 3 => .int
  | 4 => .int
  | _ => .object "FortyDays"
abbrev wsX10 : List Cond := u_ws RX1 TX1 6
theorem nmX1 : ∀ a, a < 6 → ∀ b, b < 6 → a ≠ b → (TX1 a).2.1 ≠ (TX1 b).2.1 := by decide +kernel
theorem tyX1_ok : ∀ k, k < 6 → parseFieldDescriptor (TX1 k).2.2.1 = some (tyX1 k) := by decide +kernel
abbrev cX1_init : ByteArray := prog_11_method_1_code
def yX1_init : MethodName := ⟨RX1, "<init>", "(LFortyDays;)V"⟩
def dkwX1_init_9 : List UInt8 := [85, 89, 5, 16, 108, 85, 89, 6, 16, 100, 85, 181, 0, 24, 177]
abbrev dktX1_init_9 : List UInt8 := dkwX1_init_9 ++ []
def dkwX1_init_8 : List UInt8 := [16, 118, 85, 89, 6, 16, 101, 85, 181, 0, 21, 42, 7, 188, 5, 89, 3, 16, 104, 85, 89, 4, 16, 111]
abbrev dktX1_init_8 : List UInt8 := dkwX1_init_8 ++ dktX1_init_9
def dkwX1_init_7 : List UInt8 := [16, 115, 85, 83, 181, 0, 17, 42, 7, 188, 5, 89, 3, 16, 104, 85, 89, 4, 16, 97, 85, 89, 5]
abbrev dktX1_init_7 : List UInt8 := dkwX1_init_7 ++ dktX1_init_8
def dkwX1_init_6 : List UInt8 := [83, 89, 8, 7, 188, 5, 89, 3, 16, 109, 85, 89, 4, 16, 105, 85, 89, 5, 16, 115, 85, 89, 6]
abbrev dktX1_init_6 : List UInt8 := dkwX1_init_6 ++ dktX1_init_7
def dkwX1_init_5 : List UInt8 := [7, 7, 188, 5, 89, 3, 16, 108, 85, 89, 4, 16, 111, 85, 89, 5, 16, 111, 85, 89, 6, 16, 107, 85]
abbrev dktX1_init_5 : List UInt8 := dkwX1_init_5 ++ dktX1_init_6
def dkwX1_init_4 : List UInt8 := [188, 5, 89, 3, 16, 104, 85, 89, 4, 16, 97, 85, 89, 5, 16, 114, 85, 89, 6, 16, 109, 85, 83, 89]
abbrev dktX1_init_4 : List UInt8 := dkwX1_init_4 ++ dktX1_init_5
def dkwX1_init_3 : List UInt8 := [89, 3, 16, 111, 85, 89, 4, 16, 118, 85, 89, 5, 16, 101, 85, 89, 6, 16, 114, 85, 83, 89, 6, 7]
abbrev dktX1_init_3 : List UInt8 := dkwX1_init_3 ++ dktX1_init_4
def dkwX1_init_2 : List UInt8 := [16, 115, 85, 89, 4, 16, 104, 85, 89, 5, 16, 111, 85, 89, 6, 16, 119, 85, 83, 89, 5, 7, 188, 5]
abbrev dktX1_init_2 : List UInt8 := dkwX1_init_2 ++ dktX1_init_3
def dkwX1_init_1 : List UInt8 := [85, 89, 4, 16, 105, 85, 89, 5, 16, 118, 85, 89, 6, 16, 101, 85, 83, 89, 4, 7, 188, 5, 89, 3]
abbrev dktX1_init_1 : List UInt8 := dkwX1_init_1 ++ dktX1_init_2
def dkwX1_init_0 : List UInt8 := [42, 43, 181, 0, 3, 42, 183, 0, 9, 42, 16, 6, 189, 0, 15, 89, 3, 7, 188, 5, 89, 3, 16, 103]
abbrev dktX1_init_0 : List UInt8 := dkwX1_init_0 ++ dktX1_init_1
theorem dksX1_init_0 : cX1_init.data.toList.drop 0 = dktX1_init_0 := by decide +kernel
theorem dksX1_init_1 : cX1_init.data.toList.drop 24 = dktX1_init_1 := dk_seg dksX1_init_0 24 rfl rfl
theorem dksX1_init_2 : cX1_init.data.toList.drop 48 = dktX1_init_2 := dk_seg dksX1_init_1 24 rfl rfl
theorem dksX1_init_3 : cX1_init.data.toList.drop 72 = dktX1_init_3 := dk_seg dksX1_init_2 24 rfl rfl
theorem dksX1_init_4 : cX1_init.data.toList.drop 96 = dktX1_init_4 := dk_seg dksX1_init_3 24 rfl rfl
theorem dksX1_init_5 : cX1_init.data.toList.drop 120 = dktX1_init_5 := dk_seg dksX1_init_4 24 rfl rfl
theorem dksX1_init_6 : cX1_init.data.toList.drop 144 = dktX1_init_6 := dk_seg dksX1_init_5 24 rfl rfl
theorem dksX1_init_7 : cX1_init.data.toList.drop 167 = dktX1_init_7 := dk_seg dksX1_init_6 23 rfl rfl
theorem dksX1_init_8 : cX1_init.data.toList.drop 190 = dktX1_init_8 := dk_seg dksX1_init_7 23 rfl rfl
theorem dksX1_init_9 : cX1_init.data.toList.drop 214 = dktX1_init_9 := dk_seg dksX1_init_8 24 rfl rfl
theorem dX1_init_0 : decode cX1_init 0 = .ok (.aload_n 0, 1) := dk_42 (dk_at dksX1_init_0 0 rfl rfl)
theorem dX1_init_1 : decode cX1_init 1 = .ok (.aload_n 1, 1) := dk_43 (dk_at dksX1_init_0 1 rfl rfl)
theorem dX1_init_2 : decode cX1_init 2 = .ok (.putfield 3, 3) := dk_181 0 3 (dk_at dksX1_init_0 2 rfl rfl)
theorem dX1_init_5 : decode cX1_init 5 = .ok (.aload_n 0, 1) := dk_42 (dk_at dksX1_init_0 5 rfl rfl)
theorem dX1_init_6 : decode cX1_init 6 = .ok (.invokespecial 9, 3) := dk_183 0 9 (dk_at dksX1_init_0 6 rfl rfl)
theorem dX1_init_9 : decode cX1_init 9 = .ok (.aload_n 0, 1) := dk_42 (dk_at dksX1_init_0 9 rfl rfl)
theorem dX1_init_10 : decode cX1_init 10 = .ok (.bipush 6, 2) := dk_16 6 (dk_at dksX1_init_0 10 rfl rfl)
theorem dX1_init_12 : decode cX1_init 12 = .ok (.anewarray 15, 3) := dk_189 0 15 (dk_at dksX1_init_0 12 rfl rfl)
theorem dX1_init_15 : decode cX1_init 15 = .ok (.dup, 1) := dk_89 (dk_at dksX1_init_0 15 rfl rfl)
theorem dX1_init_16 : decode cX1_init 16 = .ok (.iconst 0, 1) := dk_3 (dk_at dksX1_init_0 16 rfl rfl)
theorem dX1_init_17 : decode cX1_init 17 = .ok (.iconst 4, 1) := dk_7 (dk_at dksX1_init_0 17 rfl rfl)
theorem dX1_init_18 : decode cX1_init 18 = .ok (.newarray .char, 2) := dk_188_5 (dk_at dksX1_init_0 18 rfl rfl)
theorem dX1_init_20 : decode cX1_init 20 = .ok (.dup, 1) := dk_89 (dk_at dksX1_init_0 20 rfl rfl)
theorem dX1_init_21 : decode cX1_init 21 = .ok (.iconst 0, 1) := dk_3 (dk_at dksX1_init_0 21 rfl rfl)
theorem dX1_init_22 : decode cX1_init 22 = .ok (.bipush 103, 2) := dk_16 103 (dk_at dksX1_init_0 22 rfl rfl)
theorem dX1_init_24 : decode cX1_init 24 = .ok (.castore, 1) := dk_85 (dk_at dksX1_init_1 0 rfl rfl)
theorem dX1_init_25 : decode cX1_init 25 = .ok (.dup, 1) := dk_89 (dk_at dksX1_init_1 1 rfl rfl)
theorem dX1_init_26 : decode cX1_init 26 = .ok (.iconst 1, 1) := dk_4 (dk_at dksX1_init_1 2 rfl rfl)
theorem dX1_init_27 : decode cX1_init 27 = .ok (.bipush 105, 2) := dk_16 105 (dk_at dksX1_init_1 3 rfl rfl)
theorem dX1_init_29 : decode cX1_init 29 = .ok (.castore, 1) := dk_85 (dk_at dksX1_init_1 5 rfl rfl)
theorem dX1_init_30 : decode cX1_init 30 = .ok (.dup, 1) := dk_89 (dk_at dksX1_init_1 6 rfl rfl)
theorem dX1_init_31 : decode cX1_init 31 = .ok (.iconst 2, 1) := dk_5 (dk_at dksX1_init_1 7 rfl rfl)
theorem dX1_init_32 : decode cX1_init 32 = .ok (.bipush 118, 2) := dk_16 118 (dk_at dksX1_init_1 8 rfl rfl)
theorem dX1_init_34 : decode cX1_init 34 = .ok (.castore, 1) := dk_85 (dk_at dksX1_init_1 10 rfl rfl)
theorem dX1_init_35 : decode cX1_init 35 = .ok (.dup, 1) := dk_89 (dk_at dksX1_init_1 11 rfl rfl)
theorem dX1_init_36 : decode cX1_init 36 = .ok (.iconst 3, 1) := dk_6 (dk_at dksX1_init_1 12 rfl rfl)
theorem dX1_init_37 : decode cX1_init 37 = .ok (.bipush 101, 2) := dk_16 101 (dk_at dksX1_init_1 13 rfl rfl)
theorem dX1_init_39 : decode cX1_init 39 = .ok (.castore, 1) := dk_85 (dk_at dksX1_init_1 15 rfl rfl)
theorem dX1_init_40 : decode cX1_init 40 = .ok (.aastore, 1) := dk_83 (dk_at dksX1_init_1 16 rfl rfl)
theorem dX1_init_41 : decode cX1_init 41 = .ok (.dup, 1) := dk_89 (dk_at dksX1_init_1 17 rfl rfl)
theorem dX1_init_42 : decode cX1_init 42 = .ok (.iconst 1, 1) := dk_4 (dk_at dksX1_init_1 18 rfl rfl)
theorem dX1_init_43 : decode cX1_init 43 = .ok (.iconst 4, 1) := dk_7 (dk_at dksX1_init_1 19 rfl rfl)
theorem dX1_init_44 : decode cX1_init 44 = .ok (.newarray .char, 2) := dk_188_5 (dk_at dksX1_init_1 20 rfl rfl)
theorem dX1_init_46 : decode cX1_init 46 = .ok (.dup, 1) := dk_89 (dk_at dksX1_init_1 22 rfl rfl)
theorem dX1_init_47 : decode cX1_init 47 = .ok (.iconst 0, 1) := dk_3 (dk_at dksX1_init_1 23 rfl rfl)
theorem dX1_init_48 : decode cX1_init 48 = .ok (.bipush 115, 2) := dk_16 115 (dk_at dksX1_init_2 0 rfl rfl)
theorem dX1_init_50 : decode cX1_init 50 = .ok (.castore, 1) := dk_85 (dk_at dksX1_init_2 2 rfl rfl)
theorem dX1_init_51 : decode cX1_init 51 = .ok (.dup, 1) := dk_89 (dk_at dksX1_init_2 3 rfl rfl)
theorem dX1_init_52 : decode cX1_init 52 = .ok (.iconst 1, 1) := dk_4 (dk_at dksX1_init_2 4 rfl rfl)
theorem dX1_init_53 : decode cX1_init 53 = .ok (.bipush 104, 2) := dk_16 104 (dk_at dksX1_init_2 5 rfl rfl)
theorem dX1_init_55 : decode cX1_init 55 = .ok (.castore, 1) := dk_85 (dk_at dksX1_init_2 7 rfl rfl)
theorem dX1_init_56 : decode cX1_init 56 = .ok (.dup, 1) := dk_89 (dk_at dksX1_init_2 8 rfl rfl)
theorem dX1_init_57 : decode cX1_init 57 = .ok (.iconst 2, 1) := dk_5 (dk_at dksX1_init_2 9 rfl rfl)
theorem dX1_init_58 : decode cX1_init 58 = .ok (.bipush 111, 2) := dk_16 111 (dk_at dksX1_init_2 10 rfl rfl)
theorem dX1_init_60 : decode cX1_init 60 = .ok (.castore, 1) := dk_85 (dk_at dksX1_init_2 12 rfl rfl)
theorem dX1_init_61 : decode cX1_init 61 = .ok (.dup, 1) := dk_89 (dk_at dksX1_init_2 13 rfl rfl)
theorem dX1_init_62 : decode cX1_init 62 = .ok (.iconst 3, 1) := dk_6 (dk_at dksX1_init_2 14 rfl rfl)
theorem dX1_init_63 : decode cX1_init 63 = .ok (.bipush 119, 2) := dk_16 119 (dk_at dksX1_init_2 15 rfl rfl)
theorem dX1_init_65 : decode cX1_init 65 = .ok (.castore, 1) := dk_85 (dk_at dksX1_init_2 17 rfl rfl)
theorem dX1_init_66 : decode cX1_init 66 = .ok (.aastore, 1) := dk_83 (dk_at dksX1_init_2 18 rfl rfl)
theorem dX1_init_67 : decode cX1_init 67 = .ok (.dup, 1) := dk_89 (dk_at dksX1_init_2 19 rfl rfl)
theorem dX1_init_68 : decode cX1_init 68 = .ok (.iconst 2, 1) := dk_5 (dk_at dksX1_init_2 20 rfl rfl)
theorem dX1_init_69 : decode cX1_init 69 = .ok (.iconst 4, 1) := dk_7 (dk_at dksX1_init_2 21 rfl rfl)
theorem dX1_init_70 : decode cX1_init 70 = .ok (.newarray .char, 2) := dk_188_5 (dk_at dksX1_init_2 22 rfl rfl)
theorem dX1_init_72 : decode cX1_init 72 = .ok (.dup, 1) := dk_89 (dk_at dksX1_init_3 0 rfl rfl)
theorem dX1_init_73 : decode cX1_init 73 = .ok (.iconst 0, 1) := dk_3 (dk_at dksX1_init_3 1 rfl rfl)
theorem dX1_init_74 : decode cX1_init 74 = .ok (.bipush 111, 2) := dk_16 111 (dk_at dksX1_init_3 2 rfl rfl)
theorem dX1_init_76 : decode cX1_init 76 = .ok (.castore, 1) := dk_85 (dk_at dksX1_init_3 4 rfl rfl)
theorem dX1_init_77 : decode cX1_init 77 = .ok (.dup, 1) := dk_89 (dk_at dksX1_init_3 5 rfl rfl)
theorem dX1_init_78 : decode cX1_init 78 = .ok (.iconst 1, 1) := dk_4 (dk_at dksX1_init_3 6 rfl rfl)
theorem dX1_init_79 : decode cX1_init 79 = .ok (.bipush 118, 2) := dk_16 118 (dk_at dksX1_init_3 7 rfl rfl)
theorem dX1_init_81 : decode cX1_init 81 = .ok (.castore, 1) := dk_85 (dk_at dksX1_init_3 9 rfl rfl)
theorem dX1_init_82 : decode cX1_init 82 = .ok (.dup, 1) := dk_89 (dk_at dksX1_init_3 10 rfl rfl)
theorem dX1_init_83 : decode cX1_init 83 = .ok (.iconst 2, 1) := dk_5 (dk_at dksX1_init_3 11 rfl rfl)
theorem dX1_init_84 : decode cX1_init 84 = .ok (.bipush 101, 2) := dk_16 101 (dk_at dksX1_init_3 12 rfl rfl)
theorem dX1_init_86 : decode cX1_init 86 = .ok (.castore, 1) := dk_85 (dk_at dksX1_init_3 14 rfl rfl)
theorem dX1_init_87 : decode cX1_init 87 = .ok (.dup, 1) := dk_89 (dk_at dksX1_init_3 15 rfl rfl)
theorem dX1_init_88 : decode cX1_init 88 = .ok (.iconst 3, 1) := dk_6 (dk_at dksX1_init_3 16 rfl rfl)
theorem dX1_init_89 : decode cX1_init 89 = .ok (.bipush 114, 2) := dk_16 114 (dk_at dksX1_init_3 17 rfl rfl)
theorem dX1_init_91 : decode cX1_init 91 = .ok (.castore, 1) := dk_85 (dk_at dksX1_init_3 19 rfl rfl)
theorem dX1_init_92 : decode cX1_init 92 = .ok (.aastore, 1) := dk_83 (dk_at dksX1_init_3 20 rfl rfl)
theorem dX1_init_93 : decode cX1_init 93 = .ok (.dup, 1) := dk_89 (dk_at dksX1_init_3 21 rfl rfl)
theorem dX1_init_94 : decode cX1_init 94 = .ok (.iconst 3, 1) := dk_6 (dk_at dksX1_init_3 22 rfl rfl)
theorem dX1_init_95 : decode cX1_init 95 = .ok (.iconst 4, 1) := dk_7 (dk_at dksX1_init_3 23 rfl rfl)
theorem dX1_init_96 : decode cX1_init 96 = .ok (.newarray .char, 2) := dk_188_5 (dk_at dksX1_init_4 0 rfl rfl)
theorem dX1_init_98 : decode cX1_init 98 = .ok (.dup, 1) := dk_89 (dk_at dksX1_init_4 2 rfl rfl)
theorem dX1_init_99 : decode cX1_init 99 = .ok (.iconst 0, 1) := dk_3 (dk_at dksX1_init_4 3 rfl rfl)
theorem dX1_init_100 : decode cX1_init 100 = .ok (.bipush 104, 2) := dk_16 104 (dk_at dksX1_init_4 4 rfl rfl)
theorem dX1_init_102 : decode cX1_init 102 = .ok (.castore, 1) := dk_85 (dk_at dksX1_init_4 6 rfl rfl)
theorem dX1_init_103 : decode cX1_init 103 = .ok (.dup, 1) := dk_89 (dk_at dksX1_init_4 7 rfl rfl)
theorem dX1_init_104 : decode cX1_init 104 = .ok (.iconst 1, 1) := dk_4 (dk_at dksX1_init_4 8 rfl rfl)
theorem dX1_init_105 : decode cX1_init 105 = .ok (.bipush 97, 2) := dk_16 97 (dk_at dksX1_init_4 9 rfl rfl)
theorem dX1_init_107 : decode cX1_init 107 = .ok (.castore, 1) := dk_85 (dk_at dksX1_init_4 11 rfl rfl)
theorem dX1_init_108 : decode cX1_init 108 = .ok (.dup, 1) := dk_89 (dk_at dksX1_init_4 12 rfl rfl)
theorem dX1_init_109 : decode cX1_init 109 = .ok (.iconst 2, 1) := dk_5 (dk_at dksX1_init_4 13 rfl rfl)
theorem dX1_init_110 : decode cX1_init 110 = .ok (.bipush 114, 2) := dk_16 114 (dk_at dksX1_init_4 14 rfl rfl)
theorem dX1_init_112 : decode cX1_init 112 = .ok (.castore, 1) := dk_85 (dk_at dksX1_init_4 16 rfl rfl)
theorem dX1_init_113 : decode cX1_init 113 = .ok (.dup, 1) := dk_89 (dk_at dksX1_init_4 17 rfl rfl)
theorem dX1_init_114 : decode cX1_init 114 = .ok (.iconst 3, 1) := dk_6 (dk_at dksX1_init_4 18 rfl rfl)
theorem dX1_init_115 : decode cX1_init 115 = .ok (.bipush 109, 2) := dk_16 109 (dk_at dksX1_init_4 19 rfl rfl)
theorem dX1_init_117 : decode cX1_init 117 = .ok (.castore, 1) := dk_85 (dk_at dksX1_init_4 21 rfl rfl)
theorem dX1_init_118 : decode cX1_init 118 = .ok (.aastore, 1) := dk_83 (dk_at dksX1_init_4 22 rfl rfl)
theorem dX1_init_119 : decode cX1_init 119 = .ok (.dup, 1) := dk_89 (dk_at dksX1_init_4 23 rfl rfl)
theorem dX1_init_120 : decode cX1_init 120 = .ok (.iconst 4, 1) := dk_7 (dk_at dksX1_init_5 0 rfl rfl)
theorem dX1_init_121 : decode cX1_init 121 = .ok (.iconst 4, 1) := dk_7 (dk_at dksX1_init_5 1 rfl rfl)
theorem dX1_init_122 : decode cX1_init 122 = .ok (.newarray .char, 2) := dk_188_5 (dk_at dksX1_init_5 2 rfl rfl)
theorem dX1_init_124 : decode cX1_init 124 = .ok (.dup, 1) := dk_89 (dk_at dksX1_init_5 4 rfl rfl)
theorem dX1_init_125 : decode cX1_init 125 = .ok (.iconst 0, 1) := dk_3 (dk_at dksX1_init_5 5 rfl rfl)
theorem dX1_init_126 : decode cX1_init 126 = .ok (.bipush 108, 2) := dk_16 108 (dk_at dksX1_init_5 6 rfl rfl)
theorem dX1_init_128 : decode cX1_init 128 = .ok (.castore, 1) := dk_85 (dk_at dksX1_init_5 8 rfl rfl)
theorem dX1_init_129 : decode cX1_init 129 = .ok (.dup, 1) := dk_89 (dk_at dksX1_init_5 9 rfl rfl)
theorem dX1_init_130 : decode cX1_init 130 = .ok (.iconst 1, 1) := dk_4 (dk_at dksX1_init_5 10 rfl rfl)
theorem dX1_init_131 : decode cX1_init 131 = .ok (.bipush 111, 2) := dk_16 111 (dk_at dksX1_init_5 11 rfl rfl)
theorem dX1_init_133 : decode cX1_init 133 = .ok (.castore, 1) := dk_85 (dk_at dksX1_init_5 13 rfl rfl)
theorem dX1_init_134 : decode cX1_init 134 = .ok (.dup, 1) := dk_89 (dk_at dksX1_init_5 14 rfl rfl)
theorem dX1_init_135 : decode cX1_init 135 = .ok (.iconst 2, 1) := dk_5 (dk_at dksX1_init_5 15 rfl rfl)
theorem dX1_init_136 : decode cX1_init 136 = .ok (.bipush 111, 2) := dk_16 111 (dk_at dksX1_init_5 16 rfl rfl)
theorem dX1_init_138 : decode cX1_init 138 = .ok (.castore, 1) := dk_85 (dk_at dksX1_init_5 18 rfl rfl)
theorem dX1_init_139 : decode cX1_init 139 = .ok (.dup, 1) := dk_89 (dk_at dksX1_init_5 19 rfl rfl)
theorem dX1_init_140 : decode cX1_init 140 = .ok (.iconst 3, 1) := dk_6 (dk_at dksX1_init_5 20 rfl rfl)
theorem dX1_init_141 : decode cX1_init 141 = .ok (.bipush 107, 2) := dk_16 107 (dk_at dksX1_init_5 21 rfl rfl)
theorem dX1_init_143 : decode cX1_init 143 = .ok (.castore, 1) := dk_85 (dk_at dksX1_init_5 23 rfl rfl)
theorem dX1_init_144 : decode cX1_init 144 = .ok (.aastore, 1) := dk_83 (dk_at dksX1_init_6 0 rfl rfl)
theorem dX1_init_145 : decode cX1_init 145 = .ok (.dup, 1) := dk_89 (dk_at dksX1_init_6 1 rfl rfl)
theorem dX1_init_146 : decode cX1_init 146 = .ok (.iconst 5, 1) := dk_8 (dk_at dksX1_init_6 2 rfl rfl)
theorem dX1_init_147 : decode cX1_init 147 = .ok (.iconst 4, 1) := dk_7 (dk_at dksX1_init_6 3 rfl rfl)
theorem dX1_init_148 : decode cX1_init 148 = .ok (.newarray .char, 2) := dk_188_5 (dk_at dksX1_init_6 4 rfl rfl)
theorem dX1_init_150 : decode cX1_init 150 = .ok (.dup, 1) := dk_89 (dk_at dksX1_init_6 6 rfl rfl)
theorem dX1_init_151 : decode cX1_init 151 = .ok (.iconst 0, 1) := dk_3 (dk_at dksX1_init_6 7 rfl rfl)
theorem dX1_init_152 : decode cX1_init 152 = .ok (.bipush 109, 2) := dk_16 109 (dk_at dksX1_init_6 8 rfl rfl)
theorem dX1_init_154 : decode cX1_init 154 = .ok (.castore, 1) := dk_85 (dk_at dksX1_init_6 10 rfl rfl)
theorem dX1_init_155 : decode cX1_init 155 = .ok (.dup, 1) := dk_89 (dk_at dksX1_init_6 11 rfl rfl)
theorem dX1_init_156 : decode cX1_init 156 = .ok (.iconst 1, 1) := dk_4 (dk_at dksX1_init_6 12 rfl rfl)
theorem dX1_init_157 : decode cX1_init 157 = .ok (.bipush 105, 2) := dk_16 105 (dk_at dksX1_init_6 13 rfl rfl)
theorem dX1_init_159 : decode cX1_init 159 = .ok (.castore, 1) := dk_85 (dk_at dksX1_init_6 15 rfl rfl)
theorem dX1_init_160 : decode cX1_init 160 = .ok (.dup, 1) := dk_89 (dk_at dksX1_init_6 16 rfl rfl)
theorem dX1_init_161 : decode cX1_init 161 = .ok (.iconst 2, 1) := dk_5 (dk_at dksX1_init_6 17 rfl rfl)
theorem dX1_init_162 : decode cX1_init 162 = .ok (.bipush 115, 2) := dk_16 115 (dk_at dksX1_init_6 18 rfl rfl)
theorem dX1_init_164 : decode cX1_init 164 = .ok (.castore, 1) := dk_85 (dk_at dksX1_init_6 20 rfl rfl)
theorem dX1_init_165 : decode cX1_init 165 = .ok (.dup, 1) := dk_89 (dk_at dksX1_init_6 21 rfl rfl)
theorem dX1_init_166 : decode cX1_init 166 = .ok (.iconst 3, 1) := dk_6 (dk_at dksX1_init_6 22 rfl rfl)
theorem dX1_init_167 : decode cX1_init 167 = .ok (.bipush 115, 2) := dk_16 115 (dk_at dksX1_init_7 0 rfl rfl)
theorem dX1_init_169 : decode cX1_init 169 = .ok (.castore, 1) := dk_85 (dk_at dksX1_init_7 2 rfl rfl)
theorem dX1_init_170 : decode cX1_init 170 = .ok (.aastore, 1) := dk_83 (dk_at dksX1_init_7 3 rfl rfl)
theorem dX1_init_171 : decode cX1_init 171 = .ok (.putfield 17, 3) := dk_181 0 17 (dk_at dksX1_init_7 4 rfl rfl)
theorem dX1_init_174 : decode cX1_init 174 = .ok (.aload_n 0, 1) := dk_42 (dk_at dksX1_init_7 7 rfl rfl)
theorem dX1_init_175 : decode cX1_init 175 = .ok (.iconst 4, 1) := dk_7 (dk_at dksX1_init_7 8 rfl rfl)
theorem dX1_init_176 : decode cX1_init 176 = .ok (.newarray .char, 2) := dk_188_5 (dk_at dksX1_init_7 9 rfl rfl)
theorem dX1_init_178 : decode cX1_init 178 = .ok (.dup, 1) := dk_89 (dk_at dksX1_init_7 11 rfl rfl)
theorem dX1_init_179 : decode cX1_init 179 = .ok (.iconst 0, 1) := dk_3 (dk_at dksX1_init_7 12 rfl rfl)
theorem dX1_init_180 : decode cX1_init 180 = .ok (.bipush 104, 2) := dk_16 104 (dk_at dksX1_init_7 13 rfl rfl)
theorem dX1_init_182 : decode cX1_init 182 = .ok (.castore, 1) := dk_85 (dk_at dksX1_init_7 15 rfl rfl)
theorem dX1_init_183 : decode cX1_init 183 = .ok (.dup, 1) := dk_89 (dk_at dksX1_init_7 16 rfl rfl)
theorem dX1_init_184 : decode cX1_init 184 = .ok (.iconst 1, 1) := dk_4 (dk_at dksX1_init_7 17 rfl rfl)
theorem dX1_init_185 : decode cX1_init 185 = .ok (.bipush 97, 2) := dk_16 97 (dk_at dksX1_init_7 18 rfl rfl)
theorem dX1_init_187 : decode cX1_init 187 = .ok (.castore, 1) := dk_85 (dk_at dksX1_init_7 20 rfl rfl)
theorem dX1_init_188 : decode cX1_init 188 = .ok (.dup, 1) := dk_89 (dk_at dksX1_init_7 21 rfl rfl)
theorem dX1_init_189 : decode cX1_init 189 = .ok (.iconst 2, 1) := dk_5 (dk_at dksX1_init_7 22 rfl rfl)
theorem dX1_init_190 : decode cX1_init 190 = .ok (.bipush 118, 2) := dk_16 118 (dk_at dksX1_init_8 0 rfl rfl)
theorem dX1_init_192 : decode cX1_init 192 = .ok (.castore, 1) := dk_85 (dk_at dksX1_init_8 2 rfl rfl)
theorem dX1_init_193 : decode cX1_init 193 = .ok (.dup, 1) := dk_89 (dk_at dksX1_init_8 3 rfl rfl)
theorem dX1_init_194 : decode cX1_init 194 = .ok (.iconst 3, 1) := dk_6 (dk_at dksX1_init_8 4 rfl rfl)
theorem dX1_init_195 : decode cX1_init 195 = .ok (.bipush 101, 2) := dk_16 101 (dk_at dksX1_init_8 5 rfl rfl)
theorem dX1_init_197 : decode cX1_init 197 = .ok (.castore, 1) := dk_85 (dk_at dksX1_init_8 7 rfl rfl)
theorem dX1_init_198 : decode cX1_init 198 = .ok (.putfield 21, 3) := dk_181 0 21 (dk_at dksX1_init_8 8 rfl rfl)
theorem dX1_init_201 : decode cX1_init 201 = .ok (.aload_n 0, 1) := dk_42 (dk_at dksX1_init_8 11 rfl rfl)
theorem dX1_init_202 : decode cX1_init 202 = .ok (.iconst 4, 1) := dk_7 (dk_at dksX1_init_8 12 rfl rfl)
theorem dX1_init_203 : decode cX1_init 203 = .ok (.newarray .char, 2) := dk_188_5 (dk_at dksX1_init_8 13 rfl rfl)
theorem dX1_init_205 : decode cX1_init 205 = .ok (.dup, 1) := dk_89 (dk_at dksX1_init_8 15 rfl rfl)
theorem dX1_init_206 : decode cX1_init 206 = .ok (.iconst 0, 1) := dk_3 (dk_at dksX1_init_8 16 rfl rfl)
theorem dX1_init_207 : decode cX1_init 207 = .ok (.bipush 104, 2) := dk_16 104 (dk_at dksX1_init_8 17 rfl rfl)
theorem dX1_init_209 : decode cX1_init 209 = .ok (.castore, 1) := dk_85 (dk_at dksX1_init_8 19 rfl rfl)
theorem dX1_init_210 : decode cX1_init 210 = .ok (.dup, 1) := dk_89 (dk_at dksX1_init_8 20 rfl rfl)
theorem dX1_init_211 : decode cX1_init 211 = .ok (.iconst 1, 1) := dk_4 (dk_at dksX1_init_8 21 rfl rfl)
theorem dX1_init_212 : decode cX1_init 212 = .ok (.bipush 111, 2) := dk_16 111 (dk_at dksX1_init_8 22 rfl rfl)
theorem dX1_init_214 : decode cX1_init 214 = .ok (.castore, 1) := dk_85 (dk_at dksX1_init_9 0 rfl rfl)
theorem dX1_init_215 : decode cX1_init 215 = .ok (.dup, 1) := dk_89 (dk_at dksX1_init_9 1 rfl rfl)
theorem dX1_init_216 : decode cX1_init 216 = .ok (.iconst 2, 1) := dk_5 (dk_at dksX1_init_9 2 rfl rfl)
theorem dX1_init_217 : decode cX1_init 217 = .ok (.bipush 108, 2) := dk_16 108 (dk_at dksX1_init_9 3 rfl rfl)
theorem dX1_init_219 : decode cX1_init 219 = .ok (.castore, 1) := dk_85 (dk_at dksX1_init_9 5 rfl rfl)
theorem dX1_init_220 : decode cX1_init 220 = .ok (.dup, 1) := dk_89 (dk_at dksX1_init_9 6 rfl rfl)
theorem dX1_init_221 : decode cX1_init 221 = .ok (.iconst 3, 1) := dk_6 (dk_at dksX1_init_9 7 rfl rfl)
theorem dX1_init_222 : decode cX1_init 222 = .ok (.bipush 100, 2) := dk_16 100 (dk_at dksX1_init_9 8 rfl rfl)
theorem dX1_init_224 : decode cX1_init 224 = .ok (.castore, 1) := dk_85 (dk_at dksX1_init_9 10 rfl rfl)
theorem dX1_init_225 : decode cX1_init 225 = .ok (.putfield 24, 3) := dk_181 0 24 (dk_at dksX1_init_9 11 rfl rfl)
theorem dX1_init_228 : decode cX1_init 228 = .ok (.return_, 1) := dk_177 (dk_at dksX1_init_9 14 rfl rfl)
abbrev cX1_read : ByteArray := prog_11_method_14_code
def yX1_read : MethodName := ⟨RX1, "read", "()LFortyDays$Port;"⟩
def dkwX1_read_3 : List UInt8 := [42, 89, 180, 0, 27, 4, 96, 181, 0, 27, 42, 43, 182, 0, 128, 167, 255, 197, 43, 176]
abbrev dktX1_read_3 : List UInt8 := dkwX1_read_3 ++ []
def dkwX1_read_2 : List UInt8 := [160, 0, 12, 43, 180, 0, 109, 16, 12, 160, 0, 15, 187, 0, 42, 89, 42, 180, 0, 27, 183, 0, 44, 191]
abbrev dktX1_read_2 : List UInt8 := dkwX1_read_2 ++ dktX1_read_3
def dkwX1_read_1 : List UInt8 := [43, 182, 0, 128, 42, 180, 0, 27, 42, 180, 0, 3, 180, 0, 31, 162, 0, 51, 42, 182, 0, 38, 16, 59]
abbrev dktX1_read_1 : List UInt8 := dkwX1_read_1 ++ dktX1_read_2
def dkwX1_read_0 : List UInt8 := [42, 3, 181, 0, 27, 187, 0, 89, 89, 42, 180, 0, 3, 180, 0, 124, 182, 0, 100, 183, 0, 127, 76, 42]
abbrev dktX1_read_0 : List UInt8 := dkwX1_read_0 ++ dktX1_read_1
theorem dksX1_read_0 : cX1_read.data.toList.drop 0 = dktX1_read_0 := by decide +kernel
theorem dksX1_read_1 : cX1_read.data.toList.drop 24 = dktX1_read_1 := dk_seg dksX1_read_0 24 rfl rfl
theorem dksX1_read_2 : cX1_read.data.toList.drop 48 = dktX1_read_2 := dk_seg dksX1_read_1 24 rfl rfl
theorem dksX1_read_3 : cX1_read.data.toList.drop 72 = dktX1_read_3 := dk_seg dksX1_read_2 24 rfl rfl
theorem dX1_read_0 : decode cX1_read 0 = .ok (.aload_n 0, 1) := dk_42 (dk_at dksX1_read_0 0 rfl rfl)
theorem dX1_read_1 : decode cX1_read 1 = .ok (.iconst 0, 1) := dk_3 (dk_at dksX1_read_0 1 rfl rfl)
theorem dX1_read_2 : decode cX1_read 2 = .ok (.putfield 27, 3) := dk_181 0 27 (dk_at dksX1_read_0 2 rfl rfl)
theorem dX1_read_5 : decode cX1_read 5 = .ok (.new 89, 3) := dk_187 0 89 (dk_at dksX1_read_0 5 rfl rfl)
theorem dX1_read_8 : decode cX1_read 8 = .ok (.dup, 1) := dk_89 (dk_at dksX1_read_0 8 rfl rfl)
theorem dX1_read_9 : decode cX1_read 9 = .ok (.aload_n 0, 1) := dk_42 (dk_at dksX1_read_0 9 rfl rfl)
theorem dX1_read_10 : decode cX1_read 10 = .ok (.getfield 3, 3) := dk_180 0 3 (dk_at dksX1_read_0 10 rfl rfl)
theorem dX1_read_13 : decode cX1_read 13 = .ok (.getfield 124, 3) := dk_180 0 124 (dk_at dksX1_read_0 13 rfl rfl)
theorem dX1_read_16 : decode cX1_read 16 = .ok (.invokevirtual 100, 3) := dk_182 0 100 (dk_at dksX1_read_0 16 rfl rfl)
theorem dX1_read_19 : decode cX1_read 19 = .ok (.invokespecial 127, 3) := dk_183 0 127 (dk_at dksX1_read_0 19 rfl rfl)
theorem dX1_read_22 : decode cX1_read 22 = .ok (.astore_n 1, 1) := dk_76 (dk_at dksX1_read_0 22 rfl rfl)
theorem dX1_read_23 : decode cX1_read 23 = .ok (.aload_n 0, 1) := dk_42 (dk_at dksX1_read_0 23 rfl rfl)
theorem dX1_read_24 : decode cX1_read 24 = .ok (.aload_n 1, 1) := dk_43 (dk_at dksX1_read_1 0 rfl rfl)
theorem dX1_read_25 : decode cX1_read 25 = .ok (.invokevirtual 128, 3) := dk_182 0 128 (dk_at dksX1_read_1 1 rfl rfl)
theorem dX1_read_28 : decode cX1_read 28 = .ok (.aload_n 0, 1) := dk_42 (dk_at dksX1_read_1 4 rfl rfl)
theorem dX1_read_29 : decode cX1_read 29 = .ok (.getfield 27, 3) := dk_180 0 27 (dk_at dksX1_read_1 5 rfl rfl)
theorem dX1_read_32 : decode cX1_read 32 = .ok (.aload_n 0, 1) := dk_42 (dk_at dksX1_read_1 8 rfl rfl)
theorem dX1_read_33 : decode cX1_read 33 = .ok (.getfield 3, 3) := dk_180 0 3 (dk_at dksX1_read_1 9 rfl rfl)
theorem dX1_read_36 : decode cX1_read 36 = .ok (.getfield 31, 3) := dk_180 0 31 (dk_at dksX1_read_1 12 rfl rfl)
theorem dX1_read_39 : decode cX1_read 39 = .ok (.if_icmp .ge 51, 3) := dk_162 0 51 (dk_at dksX1_read_1 15 rfl rfl)
theorem dX1_read_42 : decode cX1_read 42 = .ok (.aload_n 0, 1) := dk_42 (dk_at dksX1_read_1 18 rfl rfl)
theorem dX1_read_43 : decode cX1_read 43 = .ok (.invokevirtual 38, 3) := dk_182 0 38 (dk_at dksX1_read_1 19 rfl rfl)
theorem dX1_read_46 : decode cX1_read 46 = .ok (.bipush 59, 2) := dk_16 59 (dk_at dksX1_read_1 22 rfl rfl)
theorem dX1_read_48 : decode cX1_read 48 = .ok (.if_icmp .ne 12, 3) := dk_160 0 12 (dk_at dksX1_read_2 0 rfl rfl)
theorem dX1_read_51 : decode cX1_read 51 = .ok (.aload_n 1, 1) := dk_43 (dk_at dksX1_read_2 3 rfl rfl)
theorem dX1_read_52 : decode cX1_read 52 = .ok (.getfield 109, 3) := dk_180 0 109 (dk_at dksX1_read_2 4 rfl rfl)
theorem dX1_read_55 : decode cX1_read 55 = .ok (.bipush 12, 2) := dk_16 12 (dk_at dksX1_read_2 7 rfl rfl)
theorem dX1_read_57 : decode cX1_read 57 = .ok (.if_icmp .ne 15, 3) := dk_160 0 15 (dk_at dksX1_read_2 9 rfl rfl)
theorem dX1_read_60 : decode cX1_read 60 = .ok (.new 42, 3) := dk_187 0 42 (dk_at dksX1_read_2 12 rfl rfl)
theorem dX1_read_63 : decode cX1_read 63 = .ok (.dup, 1) := dk_89 (dk_at dksX1_read_2 15 rfl rfl)
theorem dX1_read_64 : decode cX1_read 64 = .ok (.aload_n 0, 1) := dk_42 (dk_at dksX1_read_2 16 rfl rfl)
theorem dX1_read_65 : decode cX1_read 65 = .ok (.getfield 27, 3) := dk_180 0 27 (dk_at dksX1_read_2 17 rfl rfl)
theorem dX1_read_68 : decode cX1_read 68 = .ok (.invokespecial 44, 3) := dk_183 0 44 (dk_at dksX1_read_2 20 rfl rfl)
theorem dX1_read_71 : decode cX1_read 71 = .ok (.athrow, 1) := dk_191 (dk_at dksX1_read_2 23 rfl rfl)
theorem dX1_read_72 : decode cX1_read 72 = .ok (.aload_n 0, 1) := dk_42 (dk_at dksX1_read_3 0 rfl rfl)
theorem dX1_read_73 : decode cX1_read 73 = .ok (.dup, 1) := dk_89 (dk_at dksX1_read_3 1 rfl rfl)
theorem dX1_read_74 : decode cX1_read 74 = .ok (.getfield 27, 3) := dk_180 0 27 (dk_at dksX1_read_3 2 rfl rfl)
theorem dX1_read_77 : decode cX1_read 77 = .ok (.iconst 1, 1) := dk_4 (dk_at dksX1_read_3 5 rfl rfl)
theorem dX1_read_78 : decode cX1_read 78 = .ok (.iadd, 1) := dk_96 (dk_at dksX1_read_3 6 rfl rfl)
theorem dX1_read_79 : decode cX1_read 79 = .ok (.putfield 27, 3) := dk_181 0 27 (dk_at dksX1_read_3 7 rfl rfl)
theorem dX1_read_82 : decode cX1_read 82 = .ok (.aload_n 0, 1) := dk_42 (dk_at dksX1_read_3 10 rfl rfl)
theorem dX1_read_83 : decode cX1_read 83 = .ok (.aload_n 1, 1) := dk_43 (dk_at dksX1_read_3 11 rfl rfl)
theorem dX1_read_84 : decode cX1_read 84 = .ok (.invokevirtual 128, 3) := dk_182 0 128 (dk_at dksX1_read_3 12 rfl rfl)
theorem dX1_read_87 : decode cX1_read 87 = .ok (.goto (-59), 3) := dk_167 255 197 (dk_at dksX1_read_3 15 rfl rfl)
theorem dX1_read_90 : decode cX1_read 90 = .ok (.aload_n 1, 1) := dk_43 (dk_at dksX1_read_3 18 rfl rfl)
theorem dX1_read_91 : decode cX1_read 91 = .ok (.areturn, 1) := dk_176 (dk_at dksX1_read_3 19 rfl rfl)
abbrev cX1_clause : ByteArray := prog_11_method_13_code
def yX1_clause : MethodName := ⟨RX1, "clause", "(LFortyDays$Port;)V"⟩
def dkwX1_clause_5 : List UInt8 := [28, 50, 182, 0, 84, 43, 180, 0, 121, 28, 42, 182, 0, 70, 79, 177]
abbrev dktX1_clause_5 : List UInt8 := dkwX1_clause_5 ++ []
def dkwX1_clause_4 : List UInt8 := [167, 255, 234, 28, 156, 0, 15, 187, 0, 42, 89, 42, 180, 0, 27, 183, 0, 44, 191, 42, 42, 180, 0, 17]
abbrev dktX1_clause_4 : List UInt8 := dkwX1_clause_4 ++ dktX1_clause_5
def dkwX1_clause_3 : List UInt8 := [8, 61, 28, 155, 0, 24, 42, 180, 0, 17, 28, 50, 3, 52, 42, 182, 0, 38, 159, 0, 9, 132, 2, 255]
abbrev dktX1_clause_3 : List UInt8 := dkwX1_clause_3 ++ dktX1_clause_4
def dkwX1_clause_2 : List UInt8 := [182, 0, 112, 16, 97, 160, 0, 13, 42, 5, 182, 0, 112, 16, 114, 159, 0, 9, 42, 43, 182, 0, 119, 177]
abbrev dktX1_clause_2 : List UInt8 := dkwX1_clause_2 ++ dktX1_clause_3
def dkwX1_clause_1 : List UInt8 := [16, 111, 160, 0, 9, 42, 43, 182, 0, 116, 177, 42, 182, 0, 38, 16, 104, 160, 0, 29, 42, 4]
abbrev dktX1_clause_1 : List UInt8 := dkwX1_clause_1 ++ dktX1_clause_2
def dkwX1_clause_0 : List UInt8 := [43, 89, 180, 0, 109, 4, 96, 181, 0, 109, 42, 182, 0, 38, 16, 104, 160, 0, 19, 42, 4, 182, 0, 112]
abbrev dktX1_clause_0 : List UInt8 := dkwX1_clause_0 ++ dktX1_clause_1
theorem dksX1_clause_0 : cX1_clause.data.toList.drop 0 = dktX1_clause_0 := by decide +kernel
theorem dksX1_clause_1 : cX1_clause.data.toList.drop 24 = dktX1_clause_1 := dk_seg dksX1_clause_0 24 rfl rfl
theorem dksX1_clause_2 : cX1_clause.data.toList.drop 46 = dktX1_clause_2 := dk_seg dksX1_clause_1 22 rfl rfl
theorem dksX1_clause_3 : cX1_clause.data.toList.drop 70 = dktX1_clause_3 := dk_seg dksX1_clause_2 24 rfl rfl
theorem dksX1_clause_4 : cX1_clause.data.toList.drop 94 = dktX1_clause_4 := dk_seg dksX1_clause_3 24 rfl rfl
theorem dksX1_clause_5 : cX1_clause.data.toList.drop 118 = dktX1_clause_5 := dk_seg dksX1_clause_4 24 rfl rfl
theorem dX1_clause_0 : decode cX1_clause 0 = .ok (.aload_n 1, 1) := dk_43 (dk_at dksX1_clause_0 0 rfl rfl)
theorem dX1_clause_1 : decode cX1_clause 1 = .ok (.dup, 1) := dk_89 (dk_at dksX1_clause_0 1 rfl rfl)
theorem dX1_clause_2 : decode cX1_clause 2 = .ok (.getfield 109, 3) := dk_180 0 109 (dk_at dksX1_clause_0 2 rfl rfl)
theorem dX1_clause_5 : decode cX1_clause 5 = .ok (.iconst 1, 1) := dk_4 (dk_at dksX1_clause_0 5 rfl rfl)
theorem dX1_clause_6 : decode cX1_clause 6 = .ok (.iadd, 1) := dk_96 (dk_at dksX1_clause_0 6 rfl rfl)
theorem dX1_clause_7 : decode cX1_clause 7 = .ok (.putfield 109, 3) := dk_181 0 109 (dk_at dksX1_clause_0 7 rfl rfl)
theorem dX1_clause_10 : decode cX1_clause 10 = .ok (.aload_n 0, 1) := dk_42 (dk_at dksX1_clause_0 10 rfl rfl)
theorem dX1_clause_11 : decode cX1_clause 11 = .ok (.invokevirtual 38, 3) := dk_182 0 38 (dk_at dksX1_clause_0 11 rfl rfl)
theorem dX1_clause_14 : decode cX1_clause 14 = .ok (.bipush 104, 2) := dk_16 104 (dk_at dksX1_clause_0 14 rfl rfl)
theorem dX1_clause_16 : decode cX1_clause 16 = .ok (.if_icmp .ne 19, 3) := dk_160 0 19 (dk_at dksX1_clause_0 16 rfl rfl)
theorem dX1_clause_19 : decode cX1_clause 19 = .ok (.aload_n 0, 1) := dk_42 (dk_at dksX1_clause_0 19 rfl rfl)
theorem dX1_clause_20 : decode cX1_clause 20 = .ok (.iconst 1, 1) := dk_4 (dk_at dksX1_clause_0 20 rfl rfl)
theorem dX1_clause_21 : decode cX1_clause 21 = .ok (.invokevirtual 112, 3) := dk_182 0 112 (dk_at dksX1_clause_0 21 rfl rfl)
theorem dX1_clause_24 : decode cX1_clause 24 = .ok (.bipush 111, 2) := dk_16 111 (dk_at dksX1_clause_1 0 rfl rfl)
theorem dX1_clause_26 : decode cX1_clause 26 = .ok (.if_icmp .ne 9, 3) := dk_160 0 9 (dk_at dksX1_clause_1 2 rfl rfl)
theorem dX1_clause_29 : decode cX1_clause 29 = .ok (.aload_n 0, 1) := dk_42 (dk_at dksX1_clause_1 5 rfl rfl)
theorem dX1_clause_30 : decode cX1_clause 30 = .ok (.aload_n 1, 1) := dk_43 (dk_at dksX1_clause_1 6 rfl rfl)
theorem dX1_clause_31 : decode cX1_clause 31 = .ok (.invokevirtual 116, 3) := dk_182 0 116 (dk_at dksX1_clause_1 7 rfl rfl)
theorem dX1_clause_34 : decode cX1_clause 34 = .ok (.return_, 1) := dk_177 (dk_at dksX1_clause_1 10 rfl rfl)
theorem dX1_clause_35 : decode cX1_clause 35 = .ok (.aload_n 0, 1) := dk_42 (dk_at dksX1_clause_1 11 rfl rfl)
theorem dX1_clause_36 : decode cX1_clause 36 = .ok (.invokevirtual 38, 3) := dk_182 0 38 (dk_at dksX1_clause_1 12 rfl rfl)
theorem dX1_clause_39 : decode cX1_clause 39 = .ok (.bipush 104, 2) := dk_16 104 (dk_at dksX1_clause_1 15 rfl rfl)
theorem dX1_clause_41 : decode cX1_clause 41 = .ok (.if_icmp .ne 29, 3) := dk_160 0 29 (dk_at dksX1_clause_1 17 rfl rfl)
theorem dX1_clause_44 : decode cX1_clause 44 = .ok (.aload_n 0, 1) := dk_42 (dk_at dksX1_clause_1 20 rfl rfl)
theorem dX1_clause_45 : decode cX1_clause 45 = .ok (.iconst 1, 1) := dk_4 (dk_at dksX1_clause_1 21 rfl rfl)
theorem dX1_clause_46 : decode cX1_clause 46 = .ok (.invokevirtual 112, 3) := dk_182 0 112 (dk_at dksX1_clause_2 0 rfl rfl)
theorem dX1_clause_49 : decode cX1_clause 49 = .ok (.bipush 97, 2) := dk_16 97 (dk_at dksX1_clause_2 3 rfl rfl)
theorem dX1_clause_51 : decode cX1_clause 51 = .ok (.if_icmp .ne 13, 3) := dk_160 0 13 (dk_at dksX1_clause_2 5 rfl rfl)
theorem dX1_clause_54 : decode cX1_clause 54 = .ok (.aload_n 0, 1) := dk_42 (dk_at dksX1_clause_2 8 rfl rfl)
theorem dX1_clause_55 : decode cX1_clause 55 = .ok (.iconst 2, 1) := dk_5 (dk_at dksX1_clause_2 9 rfl rfl)
theorem dX1_clause_56 : decode cX1_clause 56 = .ok (.invokevirtual 112, 3) := dk_182 0 112 (dk_at dksX1_clause_2 10 rfl rfl)
theorem dX1_clause_59 : decode cX1_clause 59 = .ok (.bipush 114, 2) := dk_16 114 (dk_at dksX1_clause_2 13 rfl rfl)
theorem dX1_clause_61 : decode cX1_clause 61 = .ok (.if_icmp .eq 9, 3) := dk_159 0 9 (dk_at dksX1_clause_2 15 rfl rfl)
theorem dX1_clause_64 : decode cX1_clause 64 = .ok (.aload_n 0, 1) := dk_42 (dk_at dksX1_clause_2 18 rfl rfl)
theorem dX1_clause_65 : decode cX1_clause 65 = .ok (.aload_n 1, 1) := dk_43 (dk_at dksX1_clause_2 19 rfl rfl)
theorem dX1_clause_66 : decode cX1_clause 66 = .ok (.invokevirtual 119, 3) := dk_182 0 119 (dk_at dksX1_clause_2 20 rfl rfl)
theorem dX1_clause_69 : decode cX1_clause 69 = .ok (.return_, 1) := dk_177 (dk_at dksX1_clause_2 23 rfl rfl)
theorem dX1_clause_70 : decode cX1_clause 70 = .ok (.iconst 5, 1) := dk_8 (dk_at dksX1_clause_3 0 rfl rfl)
theorem dX1_clause_71 : decode cX1_clause 71 = .ok (.istore_n 2, 1) := dk_61 (dk_at dksX1_clause_3 1 rfl rfl)
theorem dX1_clause_72 : decode cX1_clause 72 = .ok (.iload_n 2, 1) := dk_28 (dk_at dksX1_clause_3 2 rfl rfl)
theorem dX1_clause_73 : decode cX1_clause 73 = .ok (.ifCond .lt 24, 3) := dk_155 0 24 (dk_at dksX1_clause_3 3 rfl rfl)
theorem dX1_clause_76 : decode cX1_clause 76 = .ok (.aload_n 0, 1) := dk_42 (dk_at dksX1_clause_3 6 rfl rfl)
theorem dX1_clause_77 : decode cX1_clause 77 = .ok (.getfield 17, 3) := dk_180 0 17 (dk_at dksX1_clause_3 7 rfl rfl)
theorem dX1_clause_80 : decode cX1_clause 80 = .ok (.iload_n 2, 1) := dk_28 (dk_at dksX1_clause_3 10 rfl rfl)
theorem dX1_clause_81 : decode cX1_clause 81 = .ok (.aaload, 1) := dk_50 (dk_at dksX1_clause_3 11 rfl rfl)
theorem dX1_clause_82 : decode cX1_clause 82 = .ok (.iconst 0, 1) := dk_3 (dk_at dksX1_clause_3 12 rfl rfl)
theorem dX1_clause_83 : decode cX1_clause 83 = .ok (.caload, 1) := dk_52 (dk_at dksX1_clause_3 13 rfl rfl)
theorem dX1_clause_84 : decode cX1_clause 84 = .ok (.aload_n 0, 1) := dk_42 (dk_at dksX1_clause_3 14 rfl rfl)
theorem dX1_clause_85 : decode cX1_clause 85 = .ok (.invokevirtual 38, 3) := dk_182 0 38 (dk_at dksX1_clause_3 15 rfl rfl)
theorem dX1_clause_88 : decode cX1_clause 88 = .ok (.if_icmp .eq 9, 3) := dk_159 0 9 (dk_at dksX1_clause_3 18 rfl rfl)
theorem dX1_clause_91 : decode cX1_clause 91 = .ok (.iinc 2 (-1), 3) := dk_132 2 255 (dk_at dksX1_clause_3 21 rfl rfl)
theorem dX1_clause_94 : decode cX1_clause 94 = .ok (.goto (-22), 3) := dk_167 255 234 (dk_at dksX1_clause_4 0 rfl rfl)
theorem dX1_clause_97 : decode cX1_clause 97 = .ok (.iload_n 2, 1) := dk_28 (dk_at dksX1_clause_4 3 rfl rfl)
theorem dX1_clause_98 : decode cX1_clause 98 = .ok (.ifCond .ge 15, 3) := dk_156 0 15 (dk_at dksX1_clause_4 4 rfl rfl)
theorem dX1_clause_101 : decode cX1_clause 101 = .ok (.new 42, 3) := dk_187 0 42 (dk_at dksX1_clause_4 7 rfl rfl)
theorem dX1_clause_104 : decode cX1_clause 104 = .ok (.dup, 1) := dk_89 (dk_at dksX1_clause_4 10 rfl rfl)
theorem dX1_clause_105 : decode cX1_clause 105 = .ok (.aload_n 0, 1) := dk_42 (dk_at dksX1_clause_4 11 rfl rfl)
theorem dX1_clause_106 : decode cX1_clause 106 = .ok (.getfield 27, 3) := dk_180 0 27 (dk_at dksX1_clause_4 12 rfl rfl)
theorem dX1_clause_109 : decode cX1_clause 109 = .ok (.invokespecial 44, 3) := dk_183 0 44 (dk_at dksX1_clause_4 15 rfl rfl)
theorem dX1_clause_112 : decode cX1_clause 112 = .ok (.athrow, 1) := dk_191 (dk_at dksX1_clause_4 18 rfl rfl)
theorem dX1_clause_113 : decode cX1_clause 113 = .ok (.aload_n 0, 1) := dk_42 (dk_at dksX1_clause_4 19 rfl rfl)
theorem dX1_clause_114 : decode cX1_clause 114 = .ok (.aload_n 0, 1) := dk_42 (dk_at dksX1_clause_4 20 rfl rfl)
theorem dX1_clause_115 : decode cX1_clause 115 = .ok (.getfield 17, 3) := dk_180 0 17 (dk_at dksX1_clause_4 21 rfl rfl)
theorem dX1_clause_118 : decode cX1_clause 118 = .ok (.iload_n 2, 1) := dk_28 (dk_at dksX1_clause_5 0 rfl rfl)
theorem dX1_clause_119 : decode cX1_clause 119 = .ok (.aaload, 1) := dk_50 (dk_at dksX1_clause_5 1 rfl rfl)
theorem dX1_clause_120 : decode cX1_clause 120 = .ok (.invokevirtual 84, 3) := dk_182 0 84 (dk_at dksX1_clause_5 2 rfl rfl)
theorem dX1_clause_123 : decode cX1_clause 123 = .ok (.aload_n 1, 1) := dk_43 (dk_at dksX1_clause_5 5 rfl rfl)
theorem dX1_clause_124 : decode cX1_clause 124 = .ok (.getfield 121, 3) := dk_180 0 121 (dk_at dksX1_clause_5 6 rfl rfl)
theorem dX1_clause_127 : decode cX1_clause 127 = .ok (.iload_n 2, 1) := dk_28 (dk_at dksX1_clause_5 9 rfl rfl)
theorem dX1_clause_128 : decode cX1_clause 128 = .ok (.aload_n 0, 1) := dk_42 (dk_at dksX1_clause_5 10 rfl rfl)
theorem dX1_clause_129 : decode cX1_clause 129 = .ok (.invokevirtual 70, 3) := dk_182 0 70 (dk_at dksX1_clause_5 11 rfl rfl)
theorem dX1_clause_132 : decode cX1_clause 132 = .ok (.iastore, 1) := dk_79 (dk_at dksX1_clause_5 14 rfl rfl)
theorem dX1_clause_133 : decode cX1_clause 133 = .ok (.return_, 1) := dk_177 (dk_at dksX1_clause_5 15 rfl rfl)
abbrev cX1_next : ByteArray := prog_11_method_2_code
def yX1_next : MethodName := ⟨RX1, "next", "()I"⟩
def dkwX1_next_1 : List UInt8 := [180, 0, 27, 51, 167, 0, 4, 2, 172]
abbrev dktX1_next_1 : List UInt8 := dkwX1_next_1 ++ []
def dkwX1_next_0 : List UInt8 := [42, 180, 0, 27, 42, 180, 0, 3, 180, 0, 31, 162, 0, 18, 42, 180, 0, 3, 180, 0, 34, 42]
abbrev dktX1_next_0 : List UInt8 := dkwX1_next_0 ++ dktX1_next_1
theorem dksX1_next_0 : cX1_next.data.toList.drop 0 = dktX1_next_0 := by decide +kernel
theorem dksX1_next_1 : cX1_next.data.toList.drop 22 = dktX1_next_1 := dk_seg dksX1_next_0 22 rfl rfl
theorem dX1_next_0 : decode cX1_next 0 = .ok (.aload_n 0, 1) := dk_42 (dk_at dksX1_next_0 0 rfl rfl)
theorem dX1_next_1 : decode cX1_next 1 = .ok (.getfield 27, 3) := dk_180 0 27 (dk_at dksX1_next_0 1 rfl rfl)
theorem dX1_next_4 : decode cX1_next 4 = .ok (.aload_n 0, 1) := dk_42 (dk_at dksX1_next_0 4 rfl rfl)
theorem dX1_next_5 : decode cX1_next 5 = .ok (.getfield 3, 3) := dk_180 0 3 (dk_at dksX1_next_0 5 rfl rfl)
theorem dX1_next_8 : decode cX1_next 8 = .ok (.getfield 31, 3) := dk_180 0 31 (dk_at dksX1_next_0 8 rfl rfl)
theorem dX1_next_11 : decode cX1_next 11 = .ok (.if_icmp .ge 18, 3) := dk_162 0 18 (dk_at dksX1_next_0 11 rfl rfl)
theorem dX1_next_14 : decode cX1_next 14 = .ok (.aload_n 0, 1) := dk_42 (dk_at dksX1_next_0 14 rfl rfl)
theorem dX1_next_15 : decode cX1_next 15 = .ok (.getfield 3, 3) := dk_180 0 3 (dk_at dksX1_next_0 15 rfl rfl)
theorem dX1_next_18 : decode cX1_next 18 = .ok (.getfield 34, 3) := dk_180 0 34 (dk_at dksX1_next_0 18 rfl rfl)
theorem dX1_next_21 : decode cX1_next 21 = .ok (.aload_n 0, 1) := dk_42 (dk_at dksX1_next_0 21 rfl rfl)
theorem dX1_next_22 : decode cX1_next 22 = .ok (.getfield 27, 3) := dk_180 0 27 (dk_at dksX1_next_1 0 rfl rfl)
theorem dX1_next_25 : decode cX1_next 25 = .ok (.baload, 1) := dk_51 (dk_at dksX1_next_1 3 rfl rfl)
theorem dX1_next_26 : decode cX1_next 26 = .ok (.goto 4, 3) := dk_167 0 4 (dk_at dksX1_next_1 4 rfl rfl)
theorem dX1_next_29 : decode cX1_next 29 = .ok (.iconst (-1), 1) := dk_2 (dk_at dksX1_next_1 7 rfl rfl)
theorem dX1_next_30 : decode cX1_next 30 = .ok (.ireturn, 1) := dk_172 (dk_at dksX1_next_1 8 rfl rfl)
abbrev cX1_ahead : ByteArray := prog_11_method_3_code
def yX1_ahead : MethodName := ⟨RX1, "ahead", "(I)I"⟩
def dkwX1_ahead_1 : List UInt8 := [180, 0, 27, 27, 96, 51, 167, 0, 4, 2, 172]
abbrev dktX1_ahead_1 : List UInt8 := dkwX1_ahead_1 ++ []
def dkwX1_ahead_0 : List UInt8 := [42, 180, 0, 27, 27, 96, 42, 180, 0, 3, 180, 0, 31, 162, 0, 20, 42, 180, 0, 3, 180, 0, 34, 42]
abbrev dktX1_ahead_0 : List UInt8 := dkwX1_ahead_0 ++ dktX1_ahead_1
theorem dksX1_ahead_0 : cX1_ahead.data.toList.drop 0 = dktX1_ahead_0 := by decide +kernel
theorem dksX1_ahead_1 : cX1_ahead.data.toList.drop 24 = dktX1_ahead_1 := dk_seg dksX1_ahead_0 24 rfl rfl
theorem dX1_ahead_0 : decode cX1_ahead 0 = .ok (.aload_n 0, 1) := dk_42 (dk_at dksX1_ahead_0 0 rfl rfl)
theorem dX1_ahead_1 : decode cX1_ahead 1 = .ok (.getfield 27, 3) := dk_180 0 27 (dk_at dksX1_ahead_0 1 rfl rfl)
theorem dX1_ahead_4 : decode cX1_ahead 4 = .ok (.iload_n 1, 1) := dk_27 (dk_at dksX1_ahead_0 4 rfl rfl)
theorem dX1_ahead_5 : decode cX1_ahead 5 = .ok (.iadd, 1) := dk_96 (dk_at dksX1_ahead_0 5 rfl rfl)
theorem dX1_ahead_6 : decode cX1_ahead 6 = .ok (.aload_n 0, 1) := dk_42 (dk_at dksX1_ahead_0 6 rfl rfl)
theorem dX1_ahead_7 : decode cX1_ahead 7 = .ok (.getfield 3, 3) := dk_180 0 3 (dk_at dksX1_ahead_0 7 rfl rfl)
theorem dX1_ahead_10 : decode cX1_ahead 10 = .ok (.getfield 31, 3) := dk_180 0 31 (dk_at dksX1_ahead_0 10 rfl rfl)
theorem dX1_ahead_13 : decode cX1_ahead 13 = .ok (.if_icmp .ge 20, 3) := dk_162 0 20 (dk_at dksX1_ahead_0 13 rfl rfl)
theorem dX1_ahead_16 : decode cX1_ahead 16 = .ok (.aload_n 0, 1) := dk_42 (dk_at dksX1_ahead_0 16 rfl rfl)
theorem dX1_ahead_17 : decode cX1_ahead 17 = .ok (.getfield 3, 3) := dk_180 0 3 (dk_at dksX1_ahead_0 17 rfl rfl)
theorem dX1_ahead_20 : decode cX1_ahead 20 = .ok (.getfield 34, 3) := dk_180 0 34 (dk_at dksX1_ahead_0 20 rfl rfl)
theorem dX1_ahead_23 : decode cX1_ahead 23 = .ok (.aload_n 0, 1) := dk_42 (dk_at dksX1_ahead_0 23 rfl rfl)
theorem dX1_ahead_24 : decode cX1_ahead 24 = .ok (.getfield 27, 3) := dk_180 0 27 (dk_at dksX1_ahead_1 0 rfl rfl)
theorem dX1_ahead_27 : decode cX1_ahead 27 = .ok (.iload_n 1, 1) := dk_27 (dk_at dksX1_ahead_1 3 rfl rfl)
theorem dX1_ahead_28 : decode cX1_ahead 28 = .ok (.iadd, 1) := dk_96 (dk_at dksX1_ahead_1 4 rfl rfl)
theorem dX1_ahead_29 : decode cX1_ahead 29 = .ok (.baload, 1) := dk_51 (dk_at dksX1_ahead_1 5 rfl rfl)
theorem dX1_ahead_30 : decode cX1_ahead 30 = .ok (.goto 4, 3) := dk_167 0 4 (dk_at dksX1_ahead_1 6 rfl rfl)
theorem dX1_ahead_33 : decode cX1_ahead 33 = .ok (.iconst (-1), 1) := dk_2 (dk_at dksX1_ahead_1 9 rfl rfl)
theorem dX1_ahead_34 : decode cX1_ahead 34 = .ok (.ireturn, 1) := dk_172 (dk_at dksX1_ahead_1 10 rfl rfl)
abbrev cX1_hold : ByteArray := prog_11_method_12_code
def yX1_hold : MethodName := ⟨RX1, "hold", "(LFortyDays$Port;)V"⟩
def dkwX1_hold_1 : List UInt8 := [42, 16, 32, 182, 0, 47, 42, 3, 181, 0, 50, 43, 180, 0, 96, 42, 182, 0, 65, 182, 0, 105, 87, 177]
abbrev dktX1_hold_1 : List UInt8 := dkwX1_hold_1 ++ []
def dkwX1_hold_0 : List UInt8 := [42, 42, 180, 0, 24, 182, 0, 84, 43, 180, 0, 93, 43, 180, 0, 96, 182, 0, 100, 42, 182, 0, 70, 79]
abbrev dktX1_hold_0 : List UInt8 := dkwX1_hold_0 ++ dktX1_hold_1
theorem dksX1_hold_0 : cX1_hold.data.toList.drop 0 = dktX1_hold_0 := by decide +kernel
theorem dksX1_hold_1 : cX1_hold.data.toList.drop 24 = dktX1_hold_1 := dk_seg dksX1_hold_0 24 rfl rfl
theorem dX1_hold_0 : decode cX1_hold 0 = .ok (.aload_n 0, 1) := dk_42 (dk_at dksX1_hold_0 0 rfl rfl)
theorem dX1_hold_1 : decode cX1_hold 1 = .ok (.aload_n 0, 1) := dk_42 (dk_at dksX1_hold_0 1 rfl rfl)
theorem dX1_hold_2 : decode cX1_hold 2 = .ok (.getfield 24, 3) := dk_180 0 24 (dk_at dksX1_hold_0 2 rfl rfl)
theorem dX1_hold_5 : decode cX1_hold 5 = .ok (.invokevirtual 84, 3) := dk_182 0 84 (dk_at dksX1_hold_0 5 rfl rfl)
theorem dX1_hold_8 : decode cX1_hold 8 = .ok (.aload_n 1, 1) := dk_43 (dk_at dksX1_hold_0 8 rfl rfl)
theorem dX1_hold_9 : decode cX1_hold 9 = .ok (.getfield 93, 3) := dk_180 0 93 (dk_at dksX1_hold_0 9 rfl rfl)
theorem dX1_hold_12 : decode cX1_hold 12 = .ok (.aload_n 1, 1) := dk_43 (dk_at dksX1_hold_0 12 rfl rfl)
theorem dX1_hold_13 : decode cX1_hold 13 = .ok (.getfield 96, 3) := dk_180 0 96 (dk_at dksX1_hold_0 13 rfl rfl)
theorem dX1_hold_16 : decode cX1_hold 16 = .ok (.invokevirtual 100, 3) := dk_182 0 100 (dk_at dksX1_hold_0 16 rfl rfl)
theorem dX1_hold_19 : decode cX1_hold 19 = .ok (.aload_n 0, 1) := dk_42 (dk_at dksX1_hold_0 19 rfl rfl)
theorem dX1_hold_20 : decode cX1_hold 20 = .ok (.invokevirtual 70, 3) := dk_182 0 70 (dk_at dksX1_hold_0 20 rfl rfl)
theorem dX1_hold_23 : decode cX1_hold 23 = .ok (.iastore, 1) := dk_79 (dk_at dksX1_hold_0 23 rfl rfl)
theorem dX1_hold_24 : decode cX1_hold 24 = .ok (.aload_n 0, 1) := dk_42 (dk_at dksX1_hold_1 0 rfl rfl)
theorem dX1_hold_25 : decode cX1_hold 25 = .ok (.bipush 32, 2) := dk_16 32 (dk_at dksX1_hold_1 1 rfl rfl)
theorem dX1_hold_27 : decode cX1_hold 27 = .ok (.invokevirtual 47, 3) := dk_182 0 47 (dk_at dksX1_hold_1 3 rfl rfl)
theorem dX1_hold_30 : decode cX1_hold 30 = .ok (.aload_n 0, 1) := dk_42 (dk_at dksX1_hold_1 6 rfl rfl)
theorem dX1_hold_31 : decode cX1_hold 31 = .ok (.iconst 0, 1) := dk_3 (dk_at dksX1_hold_1 7 rfl rfl)
theorem dX1_hold_32 : decode cX1_hold 32 = .ok (.putfield 50, 3) := dk_181 0 50 (dk_at dksX1_hold_1 8 rfl rfl)
theorem dX1_hold_35 : decode cX1_hold 35 = .ok (.aload_n 1, 1) := dk_43 (dk_at dksX1_hold_1 11 rfl rfl)
theorem dX1_hold_36 : decode cX1_hold 36 = .ok (.getfield 96, 3) := dk_180 0 96 (dk_at dksX1_hold_1 12 rfl rfl)
theorem dX1_hold_39 : decode cX1_hold 39 = .ok (.aload_n 0, 1) := dk_42 (dk_at dksX1_hold_1 15 rfl rfl)
theorem dX1_hold_40 : decode cX1_hold 40 = .ok (.invokevirtual 65, 3) := dk_182 0 65 (dk_at dksX1_hold_1 16 rfl rfl)
theorem dX1_hold_43 : decode cX1_hold 43 = .ok (.invokevirtual 105, 3) := dk_182 0 105 (dk_at dksX1_hold_1 19 rfl rfl)
theorem dX1_hold_46 : decode cX1_hold 46 = .ok (.pop, 1) := dk_87 (dk_at dksX1_hold_1 22 rfl rfl)
theorem dX1_hold_47 : decode cX1_hold 47 = .ok (.return_, 1) := dk_177 (dk_at dksX1_hold_1 23 rfl rfl)
abbrev cX1_word : ByteArray := prog_11_method_5_code
def yX1_word : MethodName := ⟨RX1, "word", "([C)V"⟩
def dkwX1_word_1 : List UInt8 := [182, 0, 47, 132, 4, 1, 167, 255, 235, 42, 16, 32, 182, 0, 47, 177]
abbrev dktX1_word_1 : List UInt8 := dkwX1_word_1 ++ []
def dkwX1_word_0 : List UInt8 := [43, 77, 44, 190, 62, 3, 54, 4, 21, 4, 29, 162, 0, 21, 44, 21, 4, 52, 54, 5, 42, 21, 5]
abbrev dktX1_word_0 : List UInt8 := dkwX1_word_0 ++ dktX1_word_1
theorem dksX1_word_0 : cX1_word.data.toList.drop 0 = dktX1_word_0 := by decide +kernel
theorem dksX1_word_1 : cX1_word.data.toList.drop 23 = dktX1_word_1 := dk_seg dksX1_word_0 23 rfl rfl
theorem dX1_word_0 : decode cX1_word 0 = .ok (.aload_n 1, 1) := dk_43 (dk_at dksX1_word_0 0 rfl rfl)
theorem dX1_word_1 : decode cX1_word 1 = .ok (.astore_n 2, 1) := dk_77 (dk_at dksX1_word_0 1 rfl rfl)
theorem dX1_word_2 : decode cX1_word 2 = .ok (.aload_n 2, 1) := dk_44 (dk_at dksX1_word_0 2 rfl rfl)
theorem dX1_word_3 : decode cX1_word 3 = .ok (.arraylength, 1) := dk_190 (dk_at dksX1_word_0 3 rfl rfl)
theorem dX1_word_4 : decode cX1_word 4 = .ok (.istore_n 3, 1) := dk_62 (dk_at dksX1_word_0 4 rfl rfl)
theorem dX1_word_5 : decode cX1_word 5 = .ok (.iconst 0, 1) := dk_3 (dk_at dksX1_word_0 5 rfl rfl)
theorem dX1_word_6 : decode cX1_word 6 = .ok (.istore 4, 2) := dk_54 4 (dk_at dksX1_word_0 6 rfl rfl)
theorem dX1_word_8 : decode cX1_word 8 = .ok (.iload 4, 2) := dk_21 4 (dk_at dksX1_word_0 8 rfl rfl)
theorem dX1_word_10 : decode cX1_word 10 = .ok (.iload_n 3, 1) := dk_29 (dk_at dksX1_word_0 10 rfl rfl)
theorem dX1_word_11 : decode cX1_word 11 = .ok (.if_icmp .ge 21, 3) := dk_162 0 21 (dk_at dksX1_word_0 11 rfl rfl)
theorem dX1_word_14 : decode cX1_word 14 = .ok (.aload_n 2, 1) := dk_44 (dk_at dksX1_word_0 14 rfl rfl)
theorem dX1_word_15 : decode cX1_word 15 = .ok (.iload 4, 2) := dk_21 4 (dk_at dksX1_word_0 15 rfl rfl)
theorem dX1_word_17 : decode cX1_word 17 = .ok (.caload, 1) := dk_52 (dk_at dksX1_word_0 17 rfl rfl)
theorem dX1_word_18 : decode cX1_word 18 = .ok (.istore 5, 2) := dk_54 5 (dk_at dksX1_word_0 18 rfl rfl)
theorem dX1_word_20 : decode cX1_word 20 = .ok (.aload_n 0, 1) := dk_42 (dk_at dksX1_word_0 20 rfl rfl)
theorem dX1_word_21 : decode cX1_word 21 = .ok (.iload 5, 2) := dk_21 5 (dk_at dksX1_word_0 21 rfl rfl)
theorem dX1_word_23 : decode cX1_word 23 = .ok (.invokevirtual 47, 3) := dk_182 0 47 (dk_at dksX1_word_1 0 rfl rfl)
theorem dX1_word_26 : decode cX1_word 26 = .ok (.iinc 4 1, 3) := dk_132 4 1 (dk_at dksX1_word_1 3 rfl rfl)
theorem dX1_word_29 : decode cX1_word 29 = .ok (.goto (-21), 3) := dk_167 255 235 (dk_at dksX1_word_1 6 rfl rfl)
theorem dX1_word_32 : decode cX1_word 32 = .ok (.aload_n 0, 1) := dk_42 (dk_at dksX1_word_1 9 rfl rfl)
theorem dX1_word_33 : decode cX1_word 33 = .ok (.bipush 32, 2) := dk_16 32 (dk_at dksX1_word_1 10 rfl rfl)
theorem dX1_word_35 : decode cX1_word 35 = .ok (.invokevirtual 47, 3) := dk_182 0 47 (dk_at dksX1_word_1 12 rfl rfl)
theorem dX1_word_38 : decode cX1_word 38 = .ok (.return_, 1) := dk_177 (dk_at dksX1_word_1 15 rfl rfl)
abbrev cX1_sign : ByteArray := prog_11_method_4_code
def yX1_sign : MethodName := ⟨RX1, "sign", "(I)V"⟩
def dkwX1_sign_1 : List UInt8 := [180, 0, 27, 4, 96, 181, 0, 27, 177]
abbrev dktX1_sign_1 : List UInt8 := dkwX1_sign_1 ++ []
def dkwX1_sign_0 : List UInt8 := [42, 182, 0, 38, 27, 159, 0, 15, 187, 0, 42, 89, 42, 180, 0, 27, 183, 0, 44, 191, 42, 89]
abbrev dktX1_sign_0 : List UInt8 := dkwX1_sign_0 ++ dktX1_sign_1
theorem dksX1_sign_0 : cX1_sign.data.toList.drop 0 = dktX1_sign_0 := by decide +kernel
theorem dksX1_sign_1 : cX1_sign.data.toList.drop 22 = dktX1_sign_1 := dk_seg dksX1_sign_0 22 rfl rfl
theorem dX1_sign_0 : decode cX1_sign 0 = .ok (.aload_n 0, 1) := dk_42 (dk_at dksX1_sign_0 0 rfl rfl)
theorem dX1_sign_1 : decode cX1_sign 1 = .ok (.invokevirtual 38, 3) := dk_182 0 38 (dk_at dksX1_sign_0 1 rfl rfl)
theorem dX1_sign_4 : decode cX1_sign 4 = .ok (.iload_n 1, 1) := dk_27 (dk_at dksX1_sign_0 4 rfl rfl)
theorem dX1_sign_5 : decode cX1_sign 5 = .ok (.if_icmp .eq 15, 3) := dk_159 0 15 (dk_at dksX1_sign_0 5 rfl rfl)
theorem dX1_sign_8 : decode cX1_sign 8 = .ok (.new 42, 3) := dk_187 0 42 (dk_at dksX1_sign_0 8 rfl rfl)
theorem dX1_sign_11 : decode cX1_sign 11 = .ok (.dup, 1) := dk_89 (dk_at dksX1_sign_0 11 rfl rfl)
theorem dX1_sign_12 : decode cX1_sign 12 = .ok (.aload_n 0, 1) := dk_42 (dk_at dksX1_sign_0 12 rfl rfl)
theorem dX1_sign_13 : decode cX1_sign 13 = .ok (.getfield 27, 3) := dk_180 0 27 (dk_at dksX1_sign_0 13 rfl rfl)
theorem dX1_sign_16 : decode cX1_sign 16 = .ok (.invokespecial 44, 3) := dk_183 0 44 (dk_at dksX1_sign_0 16 rfl rfl)
theorem dX1_sign_19 : decode cX1_sign 19 = .ok (.athrow, 1) := dk_191 (dk_at dksX1_sign_0 19 rfl rfl)
theorem dX1_sign_20 : decode cX1_sign 20 = .ok (.aload_n 0, 1) := dk_42 (dk_at dksX1_sign_0 20 rfl rfl)
theorem dX1_sign_21 : decode cX1_sign 21 = .ok (.dup, 1) := dk_89 (dk_at dksX1_sign_0 21 rfl rfl)
theorem dX1_sign_22 : decode cX1_sign 22 = .ok (.getfield 27, 3) := dk_180 0 27 (dk_at dksX1_sign_1 0 rfl rfl)
theorem dX1_sign_25 : decode cX1_sign 25 = .ok (.iconst 1, 1) := dk_4 (dk_at dksX1_sign_1 3 rfl rfl)
theorem dX1_sign_26 : decode cX1_sign 26 = .ok (.iadd, 1) := dk_96 (dk_at dksX1_sign_1 4 rfl rfl)
theorem dX1_sign_27 : decode cX1_sign 27 = .ok (.putfield 27, 3) := dk_181 0 27 (dk_at dksX1_sign_1 5 rfl rfl)
theorem dX1_sign_30 : decode cX1_sign 30 = .ok (.return_, 1) := dk_177 (dk_at dksX1_sign_1 8 rfl rfl)
abbrev cX1_number : ByteArray := prog_11_method_6_code
def yX1_number : MethodName := ⟨RX1, "number", "()I"⟩
def dkwX1_number_5 : List UInt8 := [167, 255, 198, 27, 172]
abbrev dktX1_number_5 : List UInt8 := dkwX1_number_5 ++ []
def dkwX1_number_4 : List UInt8 := [180, 0, 34, 42, 89, 180, 0, 27, 90, 4, 96, 181, 0, 27, 51, 96, 16, 48, 100, 60, 132, 2, 1]
abbrev dktX1_number_4 : List UInt8 := dkwX1_number_4 ++ dktX1_number_5
def dkwX1_number_3 : List UInt8 := [16, 48, 161, 0, 46, 42, 182, 0, 38, 16, 57, 163, 0, 37, 16, 10, 27, 104, 42, 180, 0, 3]
abbrev dktX1_number_3 : List UInt8 := dkwX1_number_3 ++ dktX1_number_4
def dkwX1_number_2 : List UInt8 := [181, 0, 27, 51, 16, 48, 100, 60, 4, 61, 28, 6, 162, 0, 59, 27, 158, 0, 55, 42, 182, 0, 38]
abbrev dktX1_number_2 : List UInt8 := dkwX1_number_2 ++ dktX1_number_3
def dkwX1_number_1 : List UInt8 := [180, 0, 27, 183, 0, 44, 191, 42, 180, 0, 3, 180, 0, 34, 42, 89, 180, 0, 27, 90, 4, 96]
abbrev dktX1_number_1 : List UInt8 := dkwX1_number_1 ++ dktX1_number_2
def dkwX1_number_0 : List UInt8 := [42, 182, 0, 38, 16, 48, 161, 0, 12, 42, 182, 0, 38, 16, 57, 164, 0, 15, 187, 0, 42, 89, 42]
abbrev dktX1_number_0 : List UInt8 := dkwX1_number_0 ++ dktX1_number_1
theorem dksX1_number_0 : cX1_number.data.toList.drop 0 = dktX1_number_0 := by decide +kernel
theorem dksX1_number_1 : cX1_number.data.toList.drop 23 = dktX1_number_1 := dk_seg dksX1_number_0 23 rfl rfl
theorem dksX1_number_2 : cX1_number.data.toList.drop 45 = dktX1_number_2 := dk_seg dksX1_number_1 22 rfl rfl
theorem dksX1_number_3 : cX1_number.data.toList.drop 68 = dktX1_number_3 := dk_seg dksX1_number_2 23 rfl rfl
theorem dksX1_number_4 : cX1_number.data.toList.drop 90 = dktX1_number_4 := dk_seg dksX1_number_3 22 rfl rfl
theorem dksX1_number_5 : cX1_number.data.toList.drop 113 = dktX1_number_5 := dk_seg dksX1_number_4 23 rfl rfl
theorem dX1_number_0 : decode cX1_number 0 = .ok (.aload_n 0, 1) := dk_42 (dk_at dksX1_number_0 0 rfl rfl)
theorem dX1_number_1 : decode cX1_number 1 = .ok (.invokevirtual 38, 3) := dk_182 0 38 (dk_at dksX1_number_0 1 rfl rfl)
theorem dX1_number_4 : decode cX1_number 4 = .ok (.bipush 48, 2) := dk_16 48 (dk_at dksX1_number_0 4 rfl rfl)
theorem dX1_number_6 : decode cX1_number 6 = .ok (.if_icmp .lt 12, 3) := dk_161 0 12 (dk_at dksX1_number_0 6 rfl rfl)
theorem dX1_number_9 : decode cX1_number 9 = .ok (.aload_n 0, 1) := dk_42 (dk_at dksX1_number_0 9 rfl rfl)
theorem dX1_number_10 : decode cX1_number 10 = .ok (.invokevirtual 38, 3) := dk_182 0 38 (dk_at dksX1_number_0 10 rfl rfl)
theorem dX1_number_13 : decode cX1_number 13 = .ok (.bipush 57, 2) := dk_16 57 (dk_at dksX1_number_0 13 rfl rfl)
theorem dX1_number_15 : decode cX1_number 15 = .ok (.if_icmp .le 15, 3) := dk_164 0 15 (dk_at dksX1_number_0 15 rfl rfl)
theorem dX1_number_18 : decode cX1_number 18 = .ok (.new 42, 3) := dk_187 0 42 (dk_at dksX1_number_0 18 rfl rfl)
theorem dX1_number_21 : decode cX1_number 21 = .ok (.dup, 1) := dk_89 (dk_at dksX1_number_0 21 rfl rfl)
theorem dX1_number_22 : decode cX1_number 22 = .ok (.aload_n 0, 1) := dk_42 (dk_at dksX1_number_0 22 rfl rfl)
theorem dX1_number_23 : decode cX1_number 23 = .ok (.getfield 27, 3) := dk_180 0 27 (dk_at dksX1_number_1 0 rfl rfl)
theorem dX1_number_26 : decode cX1_number 26 = .ok (.invokespecial 44, 3) := dk_183 0 44 (dk_at dksX1_number_1 3 rfl rfl)
theorem dX1_number_29 : decode cX1_number 29 = .ok (.athrow, 1) := dk_191 (dk_at dksX1_number_1 6 rfl rfl)
theorem dX1_number_30 : decode cX1_number 30 = .ok (.aload_n 0, 1) := dk_42 (dk_at dksX1_number_1 7 rfl rfl)
theorem dX1_number_31 : decode cX1_number 31 = .ok (.getfield 3, 3) := dk_180 0 3 (dk_at dksX1_number_1 8 rfl rfl)
theorem dX1_number_34 : decode cX1_number 34 = .ok (.getfield 34, 3) := dk_180 0 34 (dk_at dksX1_number_1 11 rfl rfl)
theorem dX1_number_37 : decode cX1_number 37 = .ok (.aload_n 0, 1) := dk_42 (dk_at dksX1_number_1 14 rfl rfl)
theorem dX1_number_38 : decode cX1_number 38 = .ok (.dup, 1) := dk_89 (dk_at dksX1_number_1 15 rfl rfl)
theorem dX1_number_39 : decode cX1_number 39 = .ok (.getfield 27, 3) := dk_180 0 27 (dk_at dksX1_number_1 16 rfl rfl)
theorem dX1_number_42 : decode cX1_number 42 = .ok (.dup_x1, 1) := dk_90 (dk_at dksX1_number_1 19 rfl rfl)
theorem dX1_number_43 : decode cX1_number 43 = .ok (.iconst 1, 1) := dk_4 (dk_at dksX1_number_1 20 rfl rfl)
theorem dX1_number_44 : decode cX1_number 44 = .ok (.iadd, 1) := dk_96 (dk_at dksX1_number_1 21 rfl rfl)
theorem dX1_number_45 : decode cX1_number 45 = .ok (.putfield 27, 3) := dk_181 0 27 (dk_at dksX1_number_2 0 rfl rfl)
theorem dX1_number_48 : decode cX1_number 48 = .ok (.baload, 1) := dk_51 (dk_at dksX1_number_2 3 rfl rfl)
theorem dX1_number_49 : decode cX1_number 49 = .ok (.bipush 48, 2) := dk_16 48 (dk_at dksX1_number_2 4 rfl rfl)
theorem dX1_number_51 : decode cX1_number 51 = .ok (.isub, 1) := dk_100 (dk_at dksX1_number_2 6 rfl rfl)
theorem dX1_number_52 : decode cX1_number 52 = .ok (.istore_n 1, 1) := dk_60 (dk_at dksX1_number_2 7 rfl rfl)
theorem dX1_number_53 : decode cX1_number 53 = .ok (.iconst 1, 1) := dk_4 (dk_at dksX1_number_2 8 rfl rfl)
theorem dX1_number_54 : decode cX1_number 54 = .ok (.istore_n 2, 1) := dk_61 (dk_at dksX1_number_2 9 rfl rfl)
theorem dX1_number_55 : decode cX1_number 55 = .ok (.iload_n 2, 1) := dk_28 (dk_at dksX1_number_2 10 rfl rfl)
theorem dX1_number_56 : decode cX1_number 56 = .ok (.iconst 3, 1) := dk_6 (dk_at dksX1_number_2 11 rfl rfl)
theorem dX1_number_57 : decode cX1_number 57 = .ok (.if_icmp .ge 59, 3) := dk_162 0 59 (dk_at dksX1_number_2 12 rfl rfl)
theorem dX1_number_60 : decode cX1_number 60 = .ok (.iload_n 1, 1) := dk_27 (dk_at dksX1_number_2 15 rfl rfl)
theorem dX1_number_61 : decode cX1_number 61 = .ok (.ifCond .le 55, 3) := dk_158 0 55 (dk_at dksX1_number_2 16 rfl rfl)
theorem dX1_number_64 : decode cX1_number 64 = .ok (.aload_n 0, 1) := dk_42 (dk_at dksX1_number_2 19 rfl rfl)
theorem dX1_number_65 : decode cX1_number 65 = .ok (.invokevirtual 38, 3) := dk_182 0 38 (dk_at dksX1_number_2 20 rfl rfl)
theorem dX1_number_68 : decode cX1_number 68 = .ok (.bipush 48, 2) := dk_16 48 (dk_at dksX1_number_3 0 rfl rfl)
theorem dX1_number_70 : decode cX1_number 70 = .ok (.if_icmp .lt 46, 3) := dk_161 0 46 (dk_at dksX1_number_3 2 rfl rfl)
theorem dX1_number_73 : decode cX1_number 73 = .ok (.aload_n 0, 1) := dk_42 (dk_at dksX1_number_3 5 rfl rfl)
theorem dX1_number_74 : decode cX1_number 74 = .ok (.invokevirtual 38, 3) := dk_182 0 38 (dk_at dksX1_number_3 6 rfl rfl)
theorem dX1_number_77 : decode cX1_number 77 = .ok (.bipush 57, 2) := dk_16 57 (dk_at dksX1_number_3 9 rfl rfl)
theorem dX1_number_79 : decode cX1_number 79 = .ok (.if_icmp .gt 37, 3) := dk_163 0 37 (dk_at dksX1_number_3 11 rfl rfl)
theorem dX1_number_82 : decode cX1_number 82 = .ok (.bipush 10, 2) := dk_16 10 (dk_at dksX1_number_3 14 rfl rfl)
theorem dX1_number_84 : decode cX1_number 84 = .ok (.iload_n 1, 1) := dk_27 (dk_at dksX1_number_3 16 rfl rfl)
theorem dX1_number_85 : decode cX1_number 85 = .ok (.imul, 1) := dk_104 (dk_at dksX1_number_3 17 rfl rfl)
theorem dX1_number_86 : decode cX1_number 86 = .ok (.aload_n 0, 1) := dk_42 (dk_at dksX1_number_3 18 rfl rfl)
theorem dX1_number_87 : decode cX1_number 87 = .ok (.getfield 3, 3) := dk_180 0 3 (dk_at dksX1_number_3 19 rfl rfl)
theorem dX1_number_90 : decode cX1_number 90 = .ok (.getfield 34, 3) := dk_180 0 34 (dk_at dksX1_number_4 0 rfl rfl)
theorem dX1_number_93 : decode cX1_number 93 = .ok (.aload_n 0, 1) := dk_42 (dk_at dksX1_number_4 3 rfl rfl)
theorem dX1_number_94 : decode cX1_number 94 = .ok (.dup, 1) := dk_89 (dk_at dksX1_number_4 4 rfl rfl)
theorem dX1_number_95 : decode cX1_number 95 = .ok (.getfield 27, 3) := dk_180 0 27 (dk_at dksX1_number_4 5 rfl rfl)
theorem dX1_number_98 : decode cX1_number 98 = .ok (.dup_x1, 1) := dk_90 (dk_at dksX1_number_4 8 rfl rfl)
theorem dX1_number_99 : decode cX1_number 99 = .ok (.iconst 1, 1) := dk_4 (dk_at dksX1_number_4 9 rfl rfl)
theorem dX1_number_100 : decode cX1_number 100 = .ok (.iadd, 1) := dk_96 (dk_at dksX1_number_4 10 rfl rfl)
theorem dX1_number_101 : decode cX1_number 101 = .ok (.putfield 27, 3) := dk_181 0 27 (dk_at dksX1_number_4 11 rfl rfl)
theorem dX1_number_104 : decode cX1_number 104 = .ok (.baload, 1) := dk_51 (dk_at dksX1_number_4 14 rfl rfl)
theorem dX1_number_105 : decode cX1_number 105 = .ok (.iadd, 1) := dk_96 (dk_at dksX1_number_4 15 rfl rfl)
theorem dX1_number_106 : decode cX1_number 106 = .ok (.bipush 48, 2) := dk_16 48 (dk_at dksX1_number_4 16 rfl rfl)
theorem dX1_number_108 : decode cX1_number 108 = .ok (.isub, 1) := dk_100 (dk_at dksX1_number_4 18 rfl rfl)
theorem dX1_number_109 : decode cX1_number 109 = .ok (.istore_n 1, 1) := dk_60 (dk_at dksX1_number_4 19 rfl rfl)
theorem dX1_number_110 : decode cX1_number 110 = .ok (.iinc 2 1, 3) := dk_132 2 1 (dk_at dksX1_number_4 20 rfl rfl)
theorem dX1_number_113 : decode cX1_number 113 = .ok (.goto (-58), 3) := dk_167 255 198 (dk_at dksX1_number_5 0 rfl rfl)
theorem dX1_number_116 : decode cX1_number 116 = .ok (.iload_n 1, 1) := dk_27 (dk_at dksX1_number_5 3 rfl rfl)
theorem dX1_number_117 : decode cX1_number 117 = .ok (.ireturn, 1) := dk_172 (dk_at dksX1_number_5 4 rfl rfl)
abbrev cX1_some : ByteArray := prog_11_method_10_code
def yX1_some : MethodName := ⟨RX1, "some", "()LFortyDays$Test;"⟩
def dkwX1_some_1 : List UInt8 := [187, 0, 76, 89, 43, 42, 182, 0, 81, 3, 183, 0, 78, 76, 167, 255, 223, 43, 176]
abbrev dktX1_some_1 : List UInt8 := dkwX1_some_1 ++ []
def dkwX1_some_0 : List UInt8 := [42, 182, 0, 81, 76, 42, 182, 0, 38, 16, 124, 160, 0, 30, 42, 89, 180, 0, 27, 4, 96, 181, 0, 27]
abbrev dktX1_some_0 : List UInt8 := dkwX1_some_0 ++ dktX1_some_1
theorem dksX1_some_0 : cX1_some.data.toList.drop 0 = dktX1_some_0 := by decide +kernel
theorem dksX1_some_1 : cX1_some.data.toList.drop 24 = dktX1_some_1 := dk_seg dksX1_some_0 24 rfl rfl
theorem dX1_some_0 : decode cX1_some 0 = .ok (.aload_n 0, 1) := dk_42 (dk_at dksX1_some_0 0 rfl rfl)
theorem dX1_some_1 : decode cX1_some 1 = .ok (.invokevirtual 81, 3) := dk_182 0 81 (dk_at dksX1_some_0 1 rfl rfl)
theorem dX1_some_4 : decode cX1_some 4 = .ok (.astore_n 1, 1) := dk_76 (dk_at dksX1_some_0 4 rfl rfl)
theorem dX1_some_5 : decode cX1_some 5 = .ok (.aload_n 0, 1) := dk_42 (dk_at dksX1_some_0 5 rfl rfl)
theorem dX1_some_6 : decode cX1_some 6 = .ok (.invokevirtual 38, 3) := dk_182 0 38 (dk_at dksX1_some_0 6 rfl rfl)
theorem dX1_some_9 : decode cX1_some 9 = .ok (.bipush 124, 2) := dk_16 124 (dk_at dksX1_some_0 9 rfl rfl)
theorem dX1_some_11 : decode cX1_some 11 = .ok (.if_icmp .ne 30, 3) := dk_160 0 30 (dk_at dksX1_some_0 11 rfl rfl)
theorem dX1_some_14 : decode cX1_some 14 = .ok (.aload_n 0, 1) := dk_42 (dk_at dksX1_some_0 14 rfl rfl)
theorem dX1_some_15 : decode cX1_some 15 = .ok (.dup, 1) := dk_89 (dk_at dksX1_some_0 15 rfl rfl)
theorem dX1_some_16 : decode cX1_some 16 = .ok (.getfield 27, 3) := dk_180 0 27 (dk_at dksX1_some_0 16 rfl rfl)
theorem dX1_some_19 : decode cX1_some 19 = .ok (.iconst 1, 1) := dk_4 (dk_at dksX1_some_0 19 rfl rfl)
theorem dX1_some_20 : decode cX1_some 20 = .ok (.iadd, 1) := dk_96 (dk_at dksX1_some_0 20 rfl rfl)
theorem dX1_some_21 : decode cX1_some 21 = .ok (.putfield 27, 3) := dk_181 0 27 (dk_at dksX1_some_0 21 rfl rfl)
theorem dX1_some_24 : decode cX1_some 24 = .ok (.new 76, 3) := dk_187 0 76 (dk_at dksX1_some_1 0 rfl rfl)
theorem dX1_some_27 : decode cX1_some 27 = .ok (.dup, 1) := dk_89 (dk_at dksX1_some_1 3 rfl rfl)
theorem dX1_some_28 : decode cX1_some 28 = .ok (.aload_n 1, 1) := dk_43 (dk_at dksX1_some_1 4 rfl rfl)
theorem dX1_some_29 : decode cX1_some 29 = .ok (.aload_n 0, 1) := dk_42 (dk_at dksX1_some_1 5 rfl rfl)
theorem dX1_some_30 : decode cX1_some 30 = .ok (.invokevirtual 81, 3) := dk_182 0 81 (dk_at dksX1_some_1 6 rfl rfl)
theorem dX1_some_33 : decode cX1_some 33 = .ok (.iconst 0, 1) := dk_3 (dk_at dksX1_some_1 9 rfl rfl)
theorem dX1_some_34 : decode cX1_some 34 = .ok (.invokespecial 78, 3) := dk_183 0 78 (dk_at dksX1_some_1 10 rfl rfl)
theorem dX1_some_37 : decode cX1_some 37 = .ok (.astore_n 1, 1) := dk_76 (dk_at dksX1_some_1 13 rfl rfl)
theorem dX1_some_38 : decode cX1_some 38 = .ok (.goto (-33), 3) := dk_167 255 223 (dk_at dksX1_some_1 14 rfl rfl)
theorem dX1_some_41 : decode cX1_some 41 = .ok (.aload_n 1, 1) := dk_43 (dk_at dksX1_some_1 17 rfl rfl)
theorem dX1_some_42 : decode cX1_some 42 = .ok (.areturn, 1) := dk_176 (dk_at dksX1_some_1 18 rfl rfl)
abbrev cX1_both : ByteArray := prog_11_method_9_code
def yX1_both : MethodName := ⟨RX1, "both", "()LFortyDays$Test;"⟩
def dkwX1_both_1 : List UInt8 := [187, 0, 76, 89, 43, 42, 182, 0, 56, 4, 183, 0, 78, 76, 167, 255, 223, 43, 176]
abbrev dktX1_both_1 : List UInt8 := dkwX1_both_1 ++ []
def dkwX1_both_0 : List UInt8 := [42, 182, 0, 56, 76, 42, 182, 0, 38, 16, 38, 160, 0, 30, 42, 89, 180, 0, 27, 4, 96, 181, 0, 27]
abbrev dktX1_both_0 : List UInt8 := dkwX1_both_0 ++ dktX1_both_1
theorem dksX1_both_0 : cX1_both.data.toList.drop 0 = dktX1_both_0 := by decide +kernel
theorem dksX1_both_1 : cX1_both.data.toList.drop 24 = dktX1_both_1 := dk_seg dksX1_both_0 24 rfl rfl
theorem dX1_both_0 : decode cX1_both 0 = .ok (.aload_n 0, 1) := dk_42 (dk_at dksX1_both_0 0 rfl rfl)
theorem dX1_both_1 : decode cX1_both 1 = .ok (.invokevirtual 56, 3) := dk_182 0 56 (dk_at dksX1_both_0 1 rfl rfl)
theorem dX1_both_4 : decode cX1_both 4 = .ok (.astore_n 1, 1) := dk_76 (dk_at dksX1_both_0 4 rfl rfl)
theorem dX1_both_5 : decode cX1_both 5 = .ok (.aload_n 0, 1) := dk_42 (dk_at dksX1_both_0 5 rfl rfl)
theorem dX1_both_6 : decode cX1_both 6 = .ok (.invokevirtual 38, 3) := dk_182 0 38 (dk_at dksX1_both_0 6 rfl rfl)
theorem dX1_both_9 : decode cX1_both 9 = .ok (.bipush 38, 2) := dk_16 38 (dk_at dksX1_both_0 9 rfl rfl)
theorem dX1_both_11 : decode cX1_both 11 = .ok (.if_icmp .ne 30, 3) := dk_160 0 30 (dk_at dksX1_both_0 11 rfl rfl)
theorem dX1_both_14 : decode cX1_both 14 = .ok (.aload_n 0, 1) := dk_42 (dk_at dksX1_both_0 14 rfl rfl)
theorem dX1_both_15 : decode cX1_both 15 = .ok (.dup, 1) := dk_89 (dk_at dksX1_both_0 15 rfl rfl)
theorem dX1_both_16 : decode cX1_both 16 = .ok (.getfield 27, 3) := dk_180 0 27 (dk_at dksX1_both_0 16 rfl rfl)
theorem dX1_both_19 : decode cX1_both 19 = .ok (.iconst 1, 1) := dk_4 (dk_at dksX1_both_0 19 rfl rfl)
theorem dX1_both_20 : decode cX1_both 20 = .ok (.iadd, 1) := dk_96 (dk_at dksX1_both_0 20 rfl rfl)
theorem dX1_both_21 : decode cX1_both 21 = .ok (.putfield 27, 3) := dk_181 0 27 (dk_at dksX1_both_0 21 rfl rfl)
theorem dX1_both_24 : decode cX1_both 24 = .ok (.new 76, 3) := dk_187 0 76 (dk_at dksX1_both_1 0 rfl rfl)
theorem dX1_both_27 : decode cX1_both 27 = .ok (.dup, 1) := dk_89 (dk_at dksX1_both_1 3 rfl rfl)
theorem dX1_both_28 : decode cX1_both 28 = .ok (.aload_n 1, 1) := dk_43 (dk_at dksX1_both_1 4 rfl rfl)
theorem dX1_both_29 : decode cX1_both 29 = .ok (.aload_n 0, 1) := dk_42 (dk_at dksX1_both_1 5 rfl rfl)
theorem dX1_both_30 : decode cX1_both 30 = .ok (.invokevirtual 56, 3) := dk_182 0 56 (dk_at dksX1_both_1 6 rfl rfl)
theorem dX1_both_33 : decode cX1_both 33 = .ok (.iconst 1, 1) := dk_4 (dk_at dksX1_both_1 9 rfl rfl)
theorem dX1_both_34 : decode cX1_both 34 = .ok (.invokespecial 78, 3) := dk_183 0 78 (dk_at dksX1_both_1 10 rfl rfl)
theorem dX1_both_37 : decode cX1_both 37 = .ok (.astore_n 1, 1) := dk_76 (dk_at dksX1_both_1 13 rfl rfl)
theorem dX1_both_38 : decode cX1_both 38 = .ok (.goto (-33), 3) := dk_167 255 223 (dk_at dksX1_both_1 14 rfl rfl)
theorem dX1_both_41 : decode cX1_both 41 = .ok (.aload_n 1, 1) := dk_43 (dk_at dksX1_both_1 17 rfl rfl)
theorem dX1_both_42 : decode cX1_both 42 = .ok (.areturn, 1) := dk_176 (dk_at dksX1_both_1 18 rfl rfl)
abbrev cX1_fact : ByteArray := prog_11_method_8_code
def yX1_fact : MethodName := ⟨RX1, "fact", "()LFortyDays$Test;"⟩
def dkwX1_fact_7 : List UInt8 := [21, 4, 42, 182, 0, 70, 183, 0, 73, 176, 187, 0, 42, 89, 42, 180, 0, 27, 183, 0, 44, 191]
abbrev dktX1_fact_7 : List UInt8 := dkwX1_fact_7 ++ []
def dkwX1_fact_6 : List UInt8 := [89, 42, 180, 0, 27, 183, 0, 44, 191, 42, 89, 180, 0, 27, 4, 96, 181, 0, 27, 187, 0, 68, 89, 27]
abbrev dktX1_fact_6 : List UInt8 := dkwX1_fact_6 ++ dktX1_fact_7
def dkwX1_fact_5 : List UInt8 := [21, 4, 16, 60, 159, 0, 29, 21, 4, 16, 61, 159, 0, 22, 21, 4, 16, 62, 159, 0, 15, 187, 0, 42]
abbrev dktX1_fact_5 : List UInt8 := dkwX1_fact_5 ++ dktX1_fact_6
def dkwX1_fact_4 : List UInt8 := [4, 100, 181, 0, 50, 45, 176, 42, 89, 180, 0, 27, 4, 96, 181, 0, 27, 42, 182, 0, 38, 54, 4]
abbrev dktX1_fact_4 : List UInt8 := dkwX1_fact_4 ++ dktX1_fact_5
def dkwX1_fact_3 : List UInt8 := [183, 0, 62, 176, 42, 182, 0, 53, 42, 182, 0, 65, 78, 42, 16, 41, 182, 0, 47, 42, 89, 180, 0, 50]
abbrev dktX1_fact_3 : List UInt8 := dkwX1_fact_3 ++ dktX1_fact_4
def dkwX1_fact_2 : List UInt8 := [42, 182, 0, 53, 42, 182, 0, 56, 77, 42, 89, 180, 0, 50, 4, 100, 181, 0, 50, 187, 0, 60, 89, 44]
abbrev dktX1_fact_2 : List UInt8 := dkwX1_fact_2 ++ dktX1_fact_3
def dkwX1_fact_1 : List UInt8 := [171, 0, 0, 0, 0, 179, 0, 0, 0, 5, 0, 0, 0, 33, 0, 0, 0, 50, 0, 0, 0, 40, 0, 0, 0, 78, 0, 0, 0, 100, 0, 0, 0, 105, 0, 0, 0, 104, 0, 0, 0, 105, 0, 0, 0, 112, 0, 0, 0, 105]
abbrev dktX1_fact_1 : List UInt8 := dkwX1_fact_1 ++ dktX1_fact_2
def dkwX1_fact_0 : List UInt8 := [42, 182, 0, 38, 60, 27]
abbrev dktX1_fact_0 : List UInt8 := dkwX1_fact_0 ++ dktX1_fact_1
theorem dksX1_fact_0 : cX1_fact.data.toList.drop 0 = dktX1_fact_0 := by decide +kernel
theorem dksX1_fact_1 : cX1_fact.data.toList.drop 6 = dktX1_fact_1 := dk_seg dksX1_fact_0 6 rfl rfl
theorem dksX1_fact_2 : cX1_fact.data.toList.drop 56 = dktX1_fact_2 := dk_seg dksX1_fact_1 50 rfl rfl
theorem dksX1_fact_3 : cX1_fact.data.toList.drop 80 = dktX1_fact_3 := dk_seg dksX1_fact_2 24 rfl rfl
theorem dksX1_fact_4 : cX1_fact.data.toList.drop 104 = dktX1_fact_4 := dk_seg dksX1_fact_3 24 rfl rfl
theorem dksX1_fact_5 : cX1_fact.data.toList.drop 127 = dktX1_fact_5 := dk_seg dksX1_fact_4 23 rfl rfl
theorem dksX1_fact_6 : cX1_fact.data.toList.drop 151 = dktX1_fact_6 := dk_seg dksX1_fact_5 24 rfl rfl
theorem dksX1_fact_7 : cX1_fact.data.toList.drop 175 = dktX1_fact_7 := dk_seg dksX1_fact_6 24 rfl rfl
theorem dX1_fact_0 : decode cX1_fact 0 = .ok (.aload_n 0, 1) := dk_42 (dk_at dksX1_fact_0 0 rfl rfl)
theorem dX1_fact_1 : decode cX1_fact 1 = .ok (.invokevirtual 38, 3) := dk_182 0 38 (dk_at dksX1_fact_0 1 rfl rfl)
theorem dX1_fact_4 : decode cX1_fact 4 = .ok (.istore_n 1, 1) := dk_60 (dk_at dksX1_fact_0 4 rfl rfl)
theorem dX1_fact_5 : decode cX1_fact 5 = .ok (.iload_n 1, 1) := dk_27 (dk_at dksX1_fact_0 5 rfl rfl)
theorem dX1_fact_6 : decode cX1_fact 6 = .ok (.lookupswitch 179 #[(33, 50), (40, 78), (100, 105), (104, 105), (112, 105)], 50) := by decide +kernel
theorem dX1_fact_56 : decode cX1_fact 56 = .ok (.aload_n 0, 1) := dk_42 (dk_at dksX1_fact_2 0 rfl rfl)
theorem dX1_fact_57 : decode cX1_fact 57 = .ok (.invokevirtual 53, 3) := dk_182 0 53 (dk_at dksX1_fact_2 1 rfl rfl)
theorem dX1_fact_60 : decode cX1_fact 60 = .ok (.aload_n 0, 1) := dk_42 (dk_at dksX1_fact_2 4 rfl rfl)
theorem dX1_fact_61 : decode cX1_fact 61 = .ok (.invokevirtual 56, 3) := dk_182 0 56 (dk_at dksX1_fact_2 5 rfl rfl)
theorem dX1_fact_64 : decode cX1_fact 64 = .ok (.astore_n 2, 1) := dk_77 (dk_at dksX1_fact_2 8 rfl rfl)
theorem dX1_fact_65 : decode cX1_fact 65 = .ok (.aload_n 0, 1) := dk_42 (dk_at dksX1_fact_2 9 rfl rfl)
theorem dX1_fact_66 : decode cX1_fact 66 = .ok (.dup, 1) := dk_89 (dk_at dksX1_fact_2 10 rfl rfl)
theorem dX1_fact_67 : decode cX1_fact 67 = .ok (.getfield 50, 3) := dk_180 0 50 (dk_at dksX1_fact_2 11 rfl rfl)
theorem dX1_fact_70 : decode cX1_fact 70 = .ok (.iconst 1, 1) := dk_4 (dk_at dksX1_fact_2 14 rfl rfl)
theorem dX1_fact_71 : decode cX1_fact 71 = .ok (.isub, 1) := dk_100 (dk_at dksX1_fact_2 15 rfl rfl)
theorem dX1_fact_72 : decode cX1_fact 72 = .ok (.putfield 50, 3) := dk_181 0 50 (dk_at dksX1_fact_2 16 rfl rfl)
theorem dX1_fact_75 : decode cX1_fact 75 = .ok (.new 60, 3) := dk_187 0 60 (dk_at dksX1_fact_2 19 rfl rfl)
theorem dX1_fact_78 : decode cX1_fact 78 = .ok (.dup, 1) := dk_89 (dk_at dksX1_fact_2 22 rfl rfl)
theorem dX1_fact_79 : decode cX1_fact 79 = .ok (.aload_n 2, 1) := dk_44 (dk_at dksX1_fact_2 23 rfl rfl)
theorem dX1_fact_80 : decode cX1_fact 80 = .ok (.invokespecial 62, 3) := dk_183 0 62 (dk_at dksX1_fact_3 0 rfl rfl)
theorem dX1_fact_83 : decode cX1_fact 83 = .ok (.areturn, 1) := dk_176 (dk_at dksX1_fact_3 3 rfl rfl)
theorem dX1_fact_84 : decode cX1_fact 84 = .ok (.aload_n 0, 1) := dk_42 (dk_at dksX1_fact_3 4 rfl rfl)
theorem dX1_fact_85 : decode cX1_fact 85 = .ok (.invokevirtual 53, 3) := dk_182 0 53 (dk_at dksX1_fact_3 5 rfl rfl)
theorem dX1_fact_88 : decode cX1_fact 88 = .ok (.aload_n 0, 1) := dk_42 (dk_at dksX1_fact_3 8 rfl rfl)
theorem dX1_fact_89 : decode cX1_fact 89 = .ok (.invokevirtual 65, 3) := dk_182 0 65 (dk_at dksX1_fact_3 9 rfl rfl)
theorem dX1_fact_92 : decode cX1_fact 92 = .ok (.astore_n 3, 1) := dk_78 (dk_at dksX1_fact_3 12 rfl rfl)
theorem dX1_fact_93 : decode cX1_fact 93 = .ok (.aload_n 0, 1) := dk_42 (dk_at dksX1_fact_3 13 rfl rfl)
theorem dX1_fact_94 : decode cX1_fact 94 = .ok (.bipush 41, 2) := dk_16 41 (dk_at dksX1_fact_3 14 rfl rfl)
theorem dX1_fact_96 : decode cX1_fact 96 = .ok (.invokevirtual 47, 3) := dk_182 0 47 (dk_at dksX1_fact_3 16 rfl rfl)
theorem dX1_fact_99 : decode cX1_fact 99 = .ok (.aload_n 0, 1) := dk_42 (dk_at dksX1_fact_3 19 rfl rfl)
theorem dX1_fact_100 : decode cX1_fact 100 = .ok (.dup, 1) := dk_89 (dk_at dksX1_fact_3 20 rfl rfl)
theorem dX1_fact_101 : decode cX1_fact 101 = .ok (.getfield 50, 3) := dk_180 0 50 (dk_at dksX1_fact_3 21 rfl rfl)
theorem dX1_fact_104 : decode cX1_fact 104 = .ok (.iconst 1, 1) := dk_4 (dk_at dksX1_fact_4 0 rfl rfl)
theorem dX1_fact_105 : decode cX1_fact 105 = .ok (.isub, 1) := dk_100 (dk_at dksX1_fact_4 1 rfl rfl)
theorem dX1_fact_106 : decode cX1_fact 106 = .ok (.putfield 50, 3) := dk_181 0 50 (dk_at dksX1_fact_4 2 rfl rfl)
theorem dX1_fact_109 : decode cX1_fact 109 = .ok (.aload_n 3, 1) := dk_45 (dk_at dksX1_fact_4 5 rfl rfl)
theorem dX1_fact_110 : decode cX1_fact 110 = .ok (.areturn, 1) := dk_176 (dk_at dksX1_fact_4 6 rfl rfl)
theorem dX1_fact_111 : decode cX1_fact 111 = .ok (.aload_n 0, 1) := dk_42 (dk_at dksX1_fact_4 7 rfl rfl)
theorem dX1_fact_112 : decode cX1_fact 112 = .ok (.dup, 1) := dk_89 (dk_at dksX1_fact_4 8 rfl rfl)
theorem dX1_fact_113 : decode cX1_fact 113 = .ok (.getfield 27, 3) := dk_180 0 27 (dk_at dksX1_fact_4 9 rfl rfl)
theorem dX1_fact_116 : decode cX1_fact 116 = .ok (.iconst 1, 1) := dk_4 (dk_at dksX1_fact_4 12 rfl rfl)
theorem dX1_fact_117 : decode cX1_fact 117 = .ok (.iadd, 1) := dk_96 (dk_at dksX1_fact_4 13 rfl rfl)
theorem dX1_fact_118 : decode cX1_fact 118 = .ok (.putfield 27, 3) := dk_181 0 27 (dk_at dksX1_fact_4 14 rfl rfl)
theorem dX1_fact_121 : decode cX1_fact 121 = .ok (.aload_n 0, 1) := dk_42 (dk_at dksX1_fact_4 17 rfl rfl)
theorem dX1_fact_122 : decode cX1_fact 122 = .ok (.invokevirtual 38, 3) := dk_182 0 38 (dk_at dksX1_fact_4 18 rfl rfl)
theorem dX1_fact_125 : decode cX1_fact 125 = .ok (.istore 4, 2) := dk_54 4 (dk_at dksX1_fact_4 21 rfl rfl)
theorem dX1_fact_127 : decode cX1_fact 127 = .ok (.iload 4, 2) := dk_21 4 (dk_at dksX1_fact_5 0 rfl rfl)
theorem dX1_fact_129 : decode cX1_fact 129 = .ok (.bipush 60, 2) := dk_16 60 (dk_at dksX1_fact_5 2 rfl rfl)
theorem dX1_fact_131 : decode cX1_fact 131 = .ok (.if_icmp .eq 29, 3) := dk_159 0 29 (dk_at dksX1_fact_5 4 rfl rfl)
theorem dX1_fact_134 : decode cX1_fact 134 = .ok (.iload 4, 2) := dk_21 4 (dk_at dksX1_fact_5 7 rfl rfl)
theorem dX1_fact_136 : decode cX1_fact 136 = .ok (.bipush 61, 2) := dk_16 61 (dk_at dksX1_fact_5 9 rfl rfl)
theorem dX1_fact_138 : decode cX1_fact 138 = .ok (.if_icmp .eq 22, 3) := dk_159 0 22 (dk_at dksX1_fact_5 11 rfl rfl)
theorem dX1_fact_141 : decode cX1_fact 141 = .ok (.iload 4, 2) := dk_21 4 (dk_at dksX1_fact_5 14 rfl rfl)
theorem dX1_fact_143 : decode cX1_fact 143 = .ok (.bipush 62, 2) := dk_16 62 (dk_at dksX1_fact_5 16 rfl rfl)
theorem dX1_fact_145 : decode cX1_fact 145 = .ok (.if_icmp .eq 15, 3) := dk_159 0 15 (dk_at dksX1_fact_5 18 rfl rfl)
theorem dX1_fact_148 : decode cX1_fact 148 = .ok (.new 42, 3) := dk_187 0 42 (dk_at dksX1_fact_5 21 rfl rfl)
theorem dX1_fact_151 : decode cX1_fact 151 = .ok (.dup, 1) := dk_89 (dk_at dksX1_fact_6 0 rfl rfl)
theorem dX1_fact_152 : decode cX1_fact 152 = .ok (.aload_n 0, 1) := dk_42 (dk_at dksX1_fact_6 1 rfl rfl)
theorem dX1_fact_153 : decode cX1_fact 153 = .ok (.getfield 27, 3) := dk_180 0 27 (dk_at dksX1_fact_6 2 rfl rfl)
theorem dX1_fact_156 : decode cX1_fact 156 = .ok (.invokespecial 44, 3) := dk_183 0 44 (dk_at dksX1_fact_6 5 rfl rfl)
theorem dX1_fact_159 : decode cX1_fact 159 = .ok (.athrow, 1) := dk_191 (dk_at dksX1_fact_6 8 rfl rfl)
theorem dX1_fact_160 : decode cX1_fact 160 = .ok (.aload_n 0, 1) := dk_42 (dk_at dksX1_fact_6 9 rfl rfl)
theorem dX1_fact_161 : decode cX1_fact 161 = .ok (.dup, 1) := dk_89 (dk_at dksX1_fact_6 10 rfl rfl)
theorem dX1_fact_162 : decode cX1_fact 162 = .ok (.getfield 27, 3) := dk_180 0 27 (dk_at dksX1_fact_6 11 rfl rfl)
theorem dX1_fact_165 : decode cX1_fact 165 = .ok (.iconst 1, 1) := dk_4 (dk_at dksX1_fact_6 14 rfl rfl)
theorem dX1_fact_166 : decode cX1_fact 166 = .ok (.iadd, 1) := dk_96 (dk_at dksX1_fact_6 15 rfl rfl)
theorem dX1_fact_167 : decode cX1_fact 167 = .ok (.putfield 27, 3) := dk_181 0 27 (dk_at dksX1_fact_6 16 rfl rfl)
theorem dX1_fact_170 : decode cX1_fact 170 = .ok (.new 68, 3) := dk_187 0 68 (dk_at dksX1_fact_6 19 rfl rfl)
theorem dX1_fact_173 : decode cX1_fact 173 = .ok (.dup, 1) := dk_89 (dk_at dksX1_fact_6 22 rfl rfl)
theorem dX1_fact_174 : decode cX1_fact 174 = .ok (.iload_n 1, 1) := dk_27 (dk_at dksX1_fact_6 23 rfl rfl)
theorem dX1_fact_175 : decode cX1_fact 175 = .ok (.iload 4, 2) := dk_21 4 (dk_at dksX1_fact_7 0 rfl rfl)
theorem dX1_fact_177 : decode cX1_fact 177 = .ok (.aload_n 0, 1) := dk_42 (dk_at dksX1_fact_7 2 rfl rfl)
theorem dX1_fact_178 : decode cX1_fact 178 = .ok (.invokevirtual 70, 3) := dk_182 0 70 (dk_at dksX1_fact_7 3 rfl rfl)
theorem dX1_fact_181 : decode cX1_fact 181 = .ok (.invokespecial 73, 3) := dk_183 0 73 (dk_at dksX1_fact_7 6 rfl rfl)
theorem dX1_fact_184 : decode cX1_fact 184 = .ok (.areturn, 1) := dk_176 (dk_at dksX1_fact_7 9 rfl rfl)
theorem dX1_fact_185 : decode cX1_fact 185 = .ok (.new 42, 3) := dk_187 0 42 (dk_at dksX1_fact_7 10 rfl rfl)
theorem dX1_fact_188 : decode cX1_fact 188 = .ok (.dup, 1) := dk_89 (dk_at dksX1_fact_7 13 rfl rfl)
theorem dX1_fact_189 : decode cX1_fact 189 = .ok (.aload_n 0, 1) := dk_42 (dk_at dksX1_fact_7 14 rfl rfl)
theorem dX1_fact_190 : decode cX1_fact 190 = .ok (.getfield 27, 3) := dk_180 0 27 (dk_at dksX1_fact_7 15 rfl rfl)
theorem dX1_fact_193 : decode cX1_fact 193 = .ok (.invokespecial 44, 3) := dk_183 0 44 (dk_at dksX1_fact_7 18 rfl rfl)
theorem dX1_fact_196 : decode cX1_fact 196 = .ok (.athrow, 1) := dk_191 (dk_at dksX1_fact_7 21 rfl rfl)
abbrev cX1_opens : ByteArray := prog_11_method_7_code
def yX1_opens : MethodName := ⟨RX1, "opens", "()V"⟩
def dkwX1_opens_1 : List UInt8 := [180, 0, 50, 4, 96, 181, 0, 50, 42, 89, 180, 0, 27, 4, 96, 181, 0, 27, 177]
abbrev dktX1_opens_1 : List UInt8 := dkwX1_opens_1 ++ []
def dkwX1_opens_0 : List UInt8 := [42, 180, 0, 50, 8, 160, 0, 15, 187, 0, 42, 89, 42, 180, 0, 27, 183, 0, 44, 191, 42, 89]
abbrev dktX1_opens_0 : List UInt8 := dkwX1_opens_0 ++ dktX1_opens_1
theorem dksX1_opens_0 : cX1_opens.data.toList.drop 0 = dktX1_opens_0 := by decide +kernel
theorem dksX1_opens_1 : cX1_opens.data.toList.drop 22 = dktX1_opens_1 := dk_seg dksX1_opens_0 22 rfl rfl
theorem dX1_opens_0 : decode cX1_opens 0 = .ok (.aload_n 0, 1) := dk_42 (dk_at dksX1_opens_0 0 rfl rfl)
theorem dX1_opens_1 : decode cX1_opens 1 = .ok (.getfield 50, 3) := dk_180 0 50 (dk_at dksX1_opens_0 1 rfl rfl)
theorem dX1_opens_4 : decode cX1_opens 4 = .ok (.iconst 5, 1) := dk_8 (dk_at dksX1_opens_0 4 rfl rfl)
theorem dX1_opens_5 : decode cX1_opens 5 = .ok (.if_icmp .ne 15, 3) := dk_160 0 15 (dk_at dksX1_opens_0 5 rfl rfl)
theorem dX1_opens_8 : decode cX1_opens 8 = .ok (.new 42, 3) := dk_187 0 42 (dk_at dksX1_opens_0 8 rfl rfl)
theorem dX1_opens_11 : decode cX1_opens 11 = .ok (.dup, 1) := dk_89 (dk_at dksX1_opens_0 11 rfl rfl)
theorem dX1_opens_12 : decode cX1_opens 12 = .ok (.aload_n 0, 1) := dk_42 (dk_at dksX1_opens_0 12 rfl rfl)
theorem dX1_opens_13 : decode cX1_opens 13 = .ok (.getfield 27, 3) := dk_180 0 27 (dk_at dksX1_opens_0 13 rfl rfl)
theorem dX1_opens_16 : decode cX1_opens 16 = .ok (.invokespecial 44, 3) := dk_183 0 44 (dk_at dksX1_opens_0 16 rfl rfl)
theorem dX1_opens_19 : decode cX1_opens 19 = .ok (.athrow, 1) := dk_191 (dk_at dksX1_opens_0 19 rfl rfl)
theorem dX1_opens_20 : decode cX1_opens 20 = .ok (.aload_n 0, 1) := dk_42 (dk_at dksX1_opens_0 20 rfl rfl)
theorem dX1_opens_21 : decode cX1_opens 21 = .ok (.dup, 1) := dk_89 (dk_at dksX1_opens_0 21 rfl rfl)
theorem dX1_opens_22 : decode cX1_opens 22 = .ok (.getfield 50, 3) := dk_180 0 50 (dk_at dksX1_opens_1 0 rfl rfl)
theorem dX1_opens_25 : decode cX1_opens 25 = .ok (.iconst 1, 1) := dk_4 (dk_at dksX1_opens_1 3 rfl rfl)
theorem dX1_opens_26 : decode cX1_opens 26 = .ok (.iadd, 1) := dk_96 (dk_at dksX1_opens_1 4 rfl rfl)
theorem dX1_opens_27 : decode cX1_opens 27 = .ok (.putfield 50, 3) := dk_181 0 50 (dk_at dksX1_opens_1 5 rfl rfl)
theorem dX1_opens_30 : decode cX1_opens 30 = .ok (.aload_n 0, 1) := dk_42 (dk_at dksX1_opens_1 8 rfl rfl)
theorem dX1_opens_31 : decode cX1_opens 31 = .ok (.dup, 1) := dk_89 (dk_at dksX1_opens_1 9 rfl rfl)
theorem dX1_opens_32 : decode cX1_opens 32 = .ok (.getfield 27, 3) := dk_180 0 27 (dk_at dksX1_opens_1 10 rfl rfl)
theorem dX1_opens_35 : decode cX1_opens 35 = .ok (.iconst 1, 1) := dk_4 (dk_at dksX1_opens_1 13 rfl rfl)
theorem dX1_opens_36 : decode cX1_opens 36 = .ok (.iadd, 1) := dk_96 (dk_at dksX1_opens_1 14 rfl rfl)
theorem dX1_opens_37 : decode cX1_opens 37 = .ok (.putfield 27, 3) := dk_181 0 27 (dk_at dksX1_opens_1 15 rfl rfl)
theorem dX1_opens_40 : decode cX1_opens 40 = .ok (.return_, 1) := dk_177 (dk_at dksX1_opens_1 18 rfl rfl)
abbrev cX1_have : ByteArray := prog_11_method_11_code
def yX1_have : MethodName := ⟨RX1, "have", "(LFortyDays$Port;)V"⟩
def dkwX1_have_3 : List UInt8 := [28, 42, 182, 0, 70, 79, 177]
abbrev dktX1_have_3 : List UInt8 := dkwX1_have_3 ++ []
def dkwX1_have_2 : List UInt8 := [180, 0, 27, 90, 4, 96, 181, 0, 27, 51, 16, 48, 100, 61, 42, 16, 32, 182, 0, 47, 43, 180, 0, 88]
abbrev dktX1_have_2 : List UInt8 := dkwX1_have_2 ++ dktX1_have_3
def dkwX1_have_1 : List UInt8 := [164, 0, 15, 187, 0, 42, 89, 42, 180, 0, 27, 183, 0, 44, 191, 42, 180, 0, 3, 180, 0, 34, 42, 89]
abbrev dktX1_have_1 : List UInt8 := dkwX1_have_1 ++ dktX1_have_2
def dkwX1_have_0 : List UInt8 := [42, 42, 180, 0, 21, 182, 0, 84, 42, 182, 0, 38, 16, 48, 161, 0, 12, 42, 182, 0, 38, 16, 51]
abbrev dktX1_have_0 : List UInt8 := dkwX1_have_0 ++ dktX1_have_1
theorem dksX1_have_0 : cX1_have.data.toList.drop 0 = dktX1_have_0 := by decide +kernel
theorem dksX1_have_1 : cX1_have.data.toList.drop 23 = dktX1_have_1 := dk_seg dksX1_have_0 23 rfl rfl
theorem dksX1_have_2 : cX1_have.data.toList.drop 47 = dktX1_have_2 := dk_seg dksX1_have_1 24 rfl rfl
theorem dksX1_have_3 : cX1_have.data.toList.drop 71 = dktX1_have_3 := dk_seg dksX1_have_2 24 rfl rfl
theorem dX1_have_0 : decode cX1_have 0 = .ok (.aload_n 0, 1) := dk_42 (dk_at dksX1_have_0 0 rfl rfl)
theorem dX1_have_1 : decode cX1_have 1 = .ok (.aload_n 0, 1) := dk_42 (dk_at dksX1_have_0 1 rfl rfl)
theorem dX1_have_2 : decode cX1_have 2 = .ok (.getfield 21, 3) := dk_180 0 21 (dk_at dksX1_have_0 2 rfl rfl)
theorem dX1_have_5 : decode cX1_have 5 = .ok (.invokevirtual 84, 3) := dk_182 0 84 (dk_at dksX1_have_0 5 rfl rfl)
theorem dX1_have_8 : decode cX1_have 8 = .ok (.aload_n 0, 1) := dk_42 (dk_at dksX1_have_0 8 rfl rfl)
theorem dX1_have_9 : decode cX1_have 9 = .ok (.invokevirtual 38, 3) := dk_182 0 38 (dk_at dksX1_have_0 9 rfl rfl)
theorem dX1_have_12 : decode cX1_have 12 = .ok (.bipush 48, 2) := dk_16 48 (dk_at dksX1_have_0 12 rfl rfl)
theorem dX1_have_14 : decode cX1_have 14 = .ok (.if_icmp .lt 12, 3) := dk_161 0 12 (dk_at dksX1_have_0 14 rfl rfl)
theorem dX1_have_17 : decode cX1_have 17 = .ok (.aload_n 0, 1) := dk_42 (dk_at dksX1_have_0 17 rfl rfl)
theorem dX1_have_18 : decode cX1_have 18 = .ok (.invokevirtual 38, 3) := dk_182 0 38 (dk_at dksX1_have_0 18 rfl rfl)
theorem dX1_have_21 : decode cX1_have 21 = .ok (.bipush 51, 2) := dk_16 51 (dk_at dksX1_have_0 21 rfl rfl)
theorem dX1_have_23 : decode cX1_have 23 = .ok (.if_icmp .le 15, 3) := dk_164 0 15 (dk_at dksX1_have_1 0 rfl rfl)
theorem dX1_have_26 : decode cX1_have 26 = .ok (.new 42, 3) := dk_187 0 42 (dk_at dksX1_have_1 3 rfl rfl)
theorem dX1_have_29 : decode cX1_have 29 = .ok (.dup, 1) := dk_89 (dk_at dksX1_have_1 6 rfl rfl)
theorem dX1_have_30 : decode cX1_have 30 = .ok (.aload_n 0, 1) := dk_42 (dk_at dksX1_have_1 7 rfl rfl)
theorem dX1_have_31 : decode cX1_have 31 = .ok (.getfield 27, 3) := dk_180 0 27 (dk_at dksX1_have_1 8 rfl rfl)
theorem dX1_have_34 : decode cX1_have 34 = .ok (.invokespecial 44, 3) := dk_183 0 44 (dk_at dksX1_have_1 11 rfl rfl)
theorem dX1_have_37 : decode cX1_have 37 = .ok (.athrow, 1) := dk_191 (dk_at dksX1_have_1 14 rfl rfl)
theorem dX1_have_38 : decode cX1_have 38 = .ok (.aload_n 0, 1) := dk_42 (dk_at dksX1_have_1 15 rfl rfl)
theorem dX1_have_39 : decode cX1_have 39 = .ok (.getfield 3, 3) := dk_180 0 3 (dk_at dksX1_have_1 16 rfl rfl)
theorem dX1_have_42 : decode cX1_have 42 = .ok (.getfield 34, 3) := dk_180 0 34 (dk_at dksX1_have_1 19 rfl rfl)
theorem dX1_have_45 : decode cX1_have 45 = .ok (.aload_n 0, 1) := dk_42 (dk_at dksX1_have_1 22 rfl rfl)
theorem dX1_have_46 : decode cX1_have 46 = .ok (.dup, 1) := dk_89 (dk_at dksX1_have_1 23 rfl rfl)
theorem dX1_have_47 : decode cX1_have 47 = .ok (.getfield 27, 3) := dk_180 0 27 (dk_at dksX1_have_2 0 rfl rfl)
theorem dX1_have_50 : decode cX1_have 50 = .ok (.dup_x1, 1) := dk_90 (dk_at dksX1_have_2 3 rfl rfl)
theorem dX1_have_51 : decode cX1_have 51 = .ok (.iconst 1, 1) := dk_4 (dk_at dksX1_have_2 4 rfl rfl)
theorem dX1_have_52 : decode cX1_have 52 = .ok (.iadd, 1) := dk_96 (dk_at dksX1_have_2 5 rfl rfl)
theorem dX1_have_53 : decode cX1_have 53 = .ok (.putfield 27, 3) := dk_181 0 27 (dk_at dksX1_have_2 6 rfl rfl)
theorem dX1_have_56 : decode cX1_have 56 = .ok (.baload, 1) := dk_51 (dk_at dksX1_have_2 9 rfl rfl)
theorem dX1_have_57 : decode cX1_have 57 = .ok (.bipush 48, 2) := dk_16 48 (dk_at dksX1_have_2 10 rfl rfl)
theorem dX1_have_59 : decode cX1_have 59 = .ok (.isub, 1) := dk_100 (dk_at dksX1_have_2 12 rfl rfl)
theorem dX1_have_60 : decode cX1_have 60 = .ok (.istore_n 2, 1) := dk_61 (dk_at dksX1_have_2 13 rfl rfl)
theorem dX1_have_61 : decode cX1_have 61 = .ok (.aload_n 0, 1) := dk_42 (dk_at dksX1_have_2 14 rfl rfl)
theorem dX1_have_62 : decode cX1_have 62 = .ok (.bipush 32, 2) := dk_16 32 (dk_at dksX1_have_2 15 rfl rfl)
theorem dX1_have_64 : decode cX1_have 64 = .ok (.invokevirtual 47, 3) := dk_182 0 47 (dk_at dksX1_have_2 17 rfl rfl)
theorem dX1_have_67 : decode cX1_have 67 = .ok (.aload_n 1, 1) := dk_43 (dk_at dksX1_have_2 20 rfl rfl)
theorem dX1_have_68 : decode cX1_have 68 = .ok (.getfield 88, 3) := dk_180 0 88 (dk_at dksX1_have_2 21 rfl rfl)
theorem dX1_have_71 : decode cX1_have 71 = .ok (.iload_n 2, 1) := dk_28 (dk_at dksX1_have_3 0 rfl rfl)
theorem dX1_have_72 : decode cX1_have 72 = .ok (.aload_n 0, 1) := dk_42 (dk_at dksX1_have_3 1 rfl rfl)
theorem dX1_have_73 : decode cX1_have 73 = .ok (.invokevirtual 70, 3) := dk_182 0 70 (dk_at dksX1_have_3 2 rfl rfl)
theorem dX1_have_76 : decode cX1_have 76 = .ok (.iastore, 1) := dk_79 (dk_at dksX1_have_3 5 rfl rfl)
theorem dX1_have_77 : decode cX1_have 77 = .ok (.return_, 1) := dk_177 (dk_at dksX1_have_3 6 rfl rfl)
theorem q92 : (Jvm.Cond.initialized "FortyDays$Reader") ∈ lw_all := lw_g (lw_at lw_m1 5 rfl) rfl
theorem q157 : (Jvm.Cond.instantiable "FortyDays$Reader" (6 : Nat)) ∈ lw_all := lw_g (lw_at lw_m1 70 rfl) rfl
theorem q159 : (Jvm.Cond.instanceMethod ({ cls := "FortyDays$Reader", name := "<init>", desc := "(LFortyDays;)V" } : Jvm.MethodName)) ∈ lw_all := lw_g (lw_at lw_m1 72 rfl) rfl
theorem q160 : (Jvm.Cond.code ({ cls := "FortyDays$Reader", name := "<init>", desc := "(LFortyDays;)V" } : Jvm.MethodName) prog_11_method_1_code (2 : Nat) (Option.none : Option Jvm.ClassFile.FieldType)) ∈ lw_all := lw_g (lw_at lw_m1 73 rfl) rfl
theorem q161 : (Jvm.Cond.methodLink "FortyDays$Reader" (9 : Nat) ({ cls := "java/lang/Object", name := "<init>", desc := "()V" } : Jvm.MethodName)) ∈ lw_all := lw_g (lw_at lw_m1 74 rfl) rfl
theorem q162 : (Jvm.Cond.classLink "FortyDays$Reader" (15 : Nat) "[C") ∈ lw_all := lw_g (lw_at lw_m1 75 rfl) rfl
theorem q164 : (Jvm.Cond.fieldLink "FortyDays$Reader" (17 : Nat) "FortyDays$Reader" "words" "[[C") ∈ lw_all := lw_g (lw_at lw_m1 77 rfl) rfl
theorem q165 : (Jvm.Cond.fieldLink "FortyDays$Reader" (21 : Nat) "FortyDays$Reader" "have" "[C") ∈ lw_all := lw_g (lw_at lw_m1 78 rfl) rfl
theorem q166 : (Jvm.Cond.fieldLink "FortyDays$Reader" (24 : Nat) "FortyDays$Reader" "hold" "[C") ∈ lw_all := lw_g (lw_at lw_m1 79 rfl) rfl
theorem q167 : (Jvm.Cond.fieldLink "FortyDays$Reader" (27 : Nat) "FortyDays$Reader" "at" "I") ∈ lw_all := lw_g (lw_at lw_m1 80 rfl) rfl
theorem q168 : (Jvm.Cond.fieldLink "FortyDays$Reader" (50 : Nat) "FortyDays$Reader" "open" "I") ∈ lw_all := lw_g (lw_at lw_m1 81 rfl) rfl
theorem q169 : (Jvm.Cond.fieldLink "FortyDays$Reader" (3 : Nat) "FortyDays$Reader" "this$0" "LFortyDays;") ∈ lw_all := lw_g (lw_at lw_m1 82 rfl) rfl
theorem q170 : (Jvm.Cond.laysFinal "FortyDays$Reader" "FortyDays$Reader" "words" "[[C") ∈ lw_all := lw_g (lw_at lw_m1 83 rfl) rfl
theorem q171 : (Jvm.Cond.soleField "FortyDays$Reader" "words") ∈ lw_all := lw_g (lw_at lw_m1 84 rfl) rfl
theorem q172 : (Jvm.Cond.laysFinal "FortyDays$Reader" "FortyDays$Reader" "have" "[C") ∈ lw_all := lw_g (lw_at lw_m1 85 rfl) rfl
theorem q173 : (Jvm.Cond.soleField "FortyDays$Reader" "have") ∈ lw_all := lw_g (lw_at lw_m1 86 rfl) rfl
theorem q174 : (Jvm.Cond.laysFinal "FortyDays$Reader" "FortyDays$Reader" "hold" "[C") ∈ lw_all := lw_g (lw_at lw_m1 87 rfl) rfl
theorem q175 : (Jvm.Cond.soleField "FortyDays$Reader" "hold") ∈ lw_all := lw_g (lw_at lw_m1 88 rfl) rfl
theorem q176 : (Jvm.Cond.lays "FortyDays$Reader" "FortyDays$Reader" "at" "I") ∈ lw_all := lw_g (lw_at lw_m1 89 rfl) rfl
theorem q177 : (Jvm.Cond.soleField "FortyDays$Reader" "at") ∈ lw_all := lw_g (lw_at lw_m1 90 rfl) rfl
theorem q178 : (Jvm.Cond.lays "FortyDays$Reader" "FortyDays$Reader" "open" "I") ∈ lw_all := lw_g (lw_at lw_m1 91 rfl) rfl
theorem q179 : (Jvm.Cond.soleField "FortyDays$Reader" "open") ∈ lw_all := lw_g (lw_at lw_m1 92 rfl) rfl
theorem q180 : (Jvm.Cond.laysFinal "FortyDays$Reader" "FortyDays$Reader" "this$0" "LFortyDays;") ∈ lw_all := lw_g (lw_at lw_m1 93 rfl) rfl
theorem q181 : (Jvm.Cond.soleField "FortyDays$Reader" "this$0") ∈ lw_all := lw_g (lw_at lw_m1 94 rfl) rfl
theorem q182 : (Jvm.Cond.superclass "FortyDays$Reader" "java/lang/Object") ∈ lw_all := lw_g (lw_at lw_m1 95 rfl) rfl
theorem q247 : (Jvm.Cond.fieldLinkNest "FortyDays$Reader" (34 : Nat) "FortyDays" "tape" "[B" "FortyDays") ∈ lw_tbl := lw_at lw_m1 160 rfl
theorem q250 : (Jvm.Cond.fieldLinkNest "FortyDays$Reader" (31 : Nat) "FortyDays" "taped" "I" "FortyDays") ∈ lw_tbl := lw_at lw_m1 163 rfl
theorem q254 : (Jvm.Cond.fieldLinkNest "FortyDays$Reader" (124 : Nat) "FortyDays" "ports" "Ljava/util/ArrayList;" "FortyDays") ∈ lw_tbl := lw_at lw_m1 167 rfl
theorem q332 : (Jvm.Cond.instanceMethod ({ cls := "FortyDays$Reader", name := "read", desc := "()LFortyDays$Port;" } : Jvm.MethodName)) ∈ lw_all := lw_g (lw_at lw_m2 5 rfl) rfl
theorem q333 : (Jvm.Cond.selects "FortyDays$Reader" ({ cls := "FortyDays$Reader", name := "read", desc := "()LFortyDays$Port;" } : Jvm.MethodName) ({ cls := "FortyDays$Reader", name := "read", desc := "()LFortyDays$Port;" } : Jvm.MethodName)) ∈ lw_all := lw_g (lw_at lw_m2 6 rfl) rfl
theorem q334 : (Jvm.Cond.code ({ cls := "FortyDays$Reader", name := "read", desc := "()LFortyDays$Port;" } : Jvm.MethodName) prog_11_method_14_code (2 : Nat) (Option.some (Jvm.ClassFile.FieldType.object "FortyDays$Port"))) ∈ lw_all := lw_g (lw_at lw_m2 7 rfl) rfl
theorem q335 : (Jvm.Cond.classLink "FortyDays$Reader" (89 : Nat) "FortyDays$Port") ∈ lw_all := lw_g (lw_at lw_m2 8 rfl) rfl
theorem q337 : (Jvm.Cond.methodLink "FortyDays$Reader" (100 : Nat) ({ cls := "java/util/ArrayList", name := "size", desc := "()I" } : Jvm.MethodName)) ∈ lw_all := lw_g (lw_at lw_m2 10 rfl) rfl
theorem q338 : (Jvm.Cond.methodLink "FortyDays$Reader" (127 : Nat) ({ cls := "FortyDays$Port", name := "<init>", desc := "(I)V" } : Jvm.MethodName)) ∈ lw_all := lw_g (lw_at lw_m2 11 rfl) rfl
theorem q346 : (Jvm.Cond.fieldLinkNest "FortyDays$Reader" (109 : Nat) "FortyDays$Port" "clauses" "I" "FortyDays") ∈ lw_tbl := lw_at lw_m2 19 rfl
theorem q350 : (Jvm.Cond.fieldLinkNest "FortyDays$Reader" (88 : Nat) "FortyDays$Port" "have" "[I" "FortyDays") ∈ lw_tbl := lw_at lw_m2 23 rfl
theorem q354 : (Jvm.Cond.fieldLinkNest "FortyDays$Reader" (121 : Nat) "FortyDays$Port" "last" "[I" "FortyDays") ∈ lw_tbl := lw_at lw_m2 27 rfl
theorem q356 : (Jvm.Cond.fieldLinkNest "FortyDays$Reader" (93 : Nat) "FortyDays$Port" "numbers" "[I" "FortyDays") ∈ lw_tbl := lw_at lw_m2 29 rfl
theorem q358 : (Jvm.Cond.fieldLinkNest "FortyDays$Reader" (96 : Nat) "FortyDays$Port" "holds" "Ljava/util/ArrayList;" "FortyDays") ∈ lw_tbl := lw_at lw_m2 31 rfl
theorem q376 : (Jvm.Cond.methodLink "FortyDays$Reader" (128 : Nat) ({ cls := "FortyDays$Reader", name := "clause", desc := "(LFortyDays$Port;)V" } : Jvm.MethodName)) ∈ lw_all := lw_g (lw_at lw_m2 49 rfl) rfl
theorem q377 : (Jvm.Cond.privateMethod ({ cls := "FortyDays$Reader", name := "clause", desc := "(LFortyDays$Port;)V" } : Jvm.MethodName)) ∈ lw_tbl := lw_at lw_m2 50 rfl
theorem q378 : (Jvm.Cond.instanceMethod ({ cls := "FortyDays$Reader", name := "clause", desc := "(LFortyDays$Port;)V" } : Jvm.MethodName)) ∈ lw_all := lw_g (lw_at lw_m2 51 rfl) rfl
theorem q379 : (Jvm.Cond.code ({ cls := "FortyDays$Reader", name := "clause", desc := "(LFortyDays$Port;)V" } : Jvm.MethodName) prog_11_method_13_code (3 : Nat) (Option.none : Option Jvm.ClassFile.FieldType)) ∈ lw_all := lw_g (lw_at lw_m2 52 rfl) rfl
theorem q380 : (Jvm.Cond.methodLink "FortyDays$Reader" (38 : Nat) ({ cls := "FortyDays$Reader", name := "next", desc := "()I" } : Jvm.MethodName)) ∈ lw_all := lw_g (lw_at lw_m2 53 rfl) rfl
theorem q381 : (Jvm.Cond.privateMethod ({ cls := "FortyDays$Reader", name := "next", desc := "()I" } : Jvm.MethodName)) ∈ lw_tbl := lw_at lw_m2 54 rfl
theorem q382 : (Jvm.Cond.instanceMethod ({ cls := "FortyDays$Reader", name := "next", desc := "()I" } : Jvm.MethodName)) ∈ lw_all := lw_g (lw_at lw_m2 55 rfl) rfl
theorem q383 : (Jvm.Cond.code ({ cls := "FortyDays$Reader", name := "next", desc := "()I" } : Jvm.MethodName) prog_11_method_2_code (1 : Nat) (Option.some Jvm.ClassFile.FieldType.int)) ∈ lw_all := lw_g (lw_at lw_m2 56 rfl) rfl
theorem q384 : (Jvm.Cond.methodLink "FortyDays$Reader" (112 : Nat) ({ cls := "FortyDays$Reader", name := "ahead", desc := "(I)I" } : Jvm.MethodName)) ∈ lw_all := lw_g (lw_at lw_m2 57 rfl) rfl
theorem q385 : (Jvm.Cond.privateMethod ({ cls := "FortyDays$Reader", name := "ahead", desc := "(I)I" } : Jvm.MethodName)) ∈ lw_tbl := lw_at lw_m2 58 rfl
theorem q386 : (Jvm.Cond.instanceMethod ({ cls := "FortyDays$Reader", name := "ahead", desc := "(I)I" } : Jvm.MethodName)) ∈ lw_all := lw_g (lw_at lw_m2 59 rfl) rfl
theorem q387 : (Jvm.Cond.code ({ cls := "FortyDays$Reader", name := "ahead", desc := "(I)I" } : Jvm.MethodName) prog_11_method_3_code (2 : Nat) (Option.some Jvm.ClassFile.FieldType.int)) ∈ lw_all := lw_g (lw_at lw_m2 60 rfl) rfl
theorem q388 : (Jvm.Cond.methodLink "FortyDays$Reader" (116 : Nat) ({ cls := "FortyDays$Reader", name := "hold", desc := "(LFortyDays$Port;)V" } : Jvm.MethodName)) ∈ lw_all := lw_g (lw_at lw_m2 61 rfl) rfl
theorem q389 : (Jvm.Cond.privateMethod ({ cls := "FortyDays$Reader", name := "hold", desc := "(LFortyDays$Port;)V" } : Jvm.MethodName)) ∈ lw_tbl := lw_at lw_m2 62 rfl
theorem q390 : (Jvm.Cond.instanceMethod ({ cls := "FortyDays$Reader", name := "hold", desc := "(LFortyDays$Port;)V" } : Jvm.MethodName)) ∈ lw_all := lw_g (lw_at lw_m2 63 rfl) rfl
theorem q391 : (Jvm.Cond.code ({ cls := "FortyDays$Reader", name := "hold", desc := "(LFortyDays$Port;)V" } : Jvm.MethodName) prog_11_method_12_code (2 : Nat) (Option.none : Option Jvm.ClassFile.FieldType)) ∈ lw_all := lw_g (lw_at lw_m2 64 rfl) rfl
theorem q392 : (Jvm.Cond.methodLink "FortyDays$Reader" (84 : Nat) ({ cls := "FortyDays$Reader", name := "word", desc := "([C)V" } : Jvm.MethodName)) ∈ lw_all := lw_g (lw_at lw_m2 65 rfl) rfl
theorem q393 : (Jvm.Cond.privateMethod ({ cls := "FortyDays$Reader", name := "word", desc := "([C)V" } : Jvm.MethodName)) ∈ lw_tbl := lw_at lw_m2 66 rfl
theorem q394 : (Jvm.Cond.instanceMethod ({ cls := "FortyDays$Reader", name := "word", desc := "([C)V" } : Jvm.MethodName)) ∈ lw_all := lw_g (lw_at lw_m2 67 rfl) rfl
theorem q395 : (Jvm.Cond.code ({ cls := "FortyDays$Reader", name := "word", desc := "([C)V" } : Jvm.MethodName) prog_11_method_5_code (6 : Nat) (Option.none : Option Jvm.ClassFile.FieldType)) ∈ lw_all := lw_g (lw_at lw_m2 68 rfl) rfl
theorem q396 : (Jvm.Cond.methodLink "FortyDays$Reader" (47 : Nat) ({ cls := "FortyDays$Reader", name := "sign", desc := "(I)V" } : Jvm.MethodName)) ∈ lw_all := lw_g (lw_at lw_m2 69 rfl) rfl
theorem q397 : (Jvm.Cond.privateMethod ({ cls := "FortyDays$Reader", name := "sign", desc := "(I)V" } : Jvm.MethodName)) ∈ lw_tbl := lw_at lw_m2 70 rfl
theorem q398 : (Jvm.Cond.instanceMethod ({ cls := "FortyDays$Reader", name := "sign", desc := "(I)V" } : Jvm.MethodName)) ∈ lw_all := lw_g (lw_at lw_m2 71 rfl) rfl
theorem q399 : (Jvm.Cond.code ({ cls := "FortyDays$Reader", name := "sign", desc := "(I)V" } : Jvm.MethodName) prog_11_method_4_code (2 : Nat) (Option.none : Option Jvm.ClassFile.FieldType)) ∈ lw_all := lw_g (lw_at lw_m2 72 rfl) rfl
theorem q400 : (Jvm.Cond.classLink "FortyDays$Reader" (42 : Nat) "FortyDays$Wrong") ∈ lw_all := lw_g (lw_at lw_m2 73 rfl) rfl
theorem q437 : (Jvm.Cond.methodLink "FortyDays$Reader" (44 : Nat) ({ cls := "FortyDays$Wrong", name := "<init>", desc := "(I)V" } : Jvm.MethodName)) ∈ lw_all := lw_g (lw_at lw_m2 110 rfl) rfl
theorem q463 : (Jvm.Cond.methodLink "FortyDays$Reader" (70 : Nat) ({ cls := "FortyDays$Reader", name := "number", desc := "()I" } : Jvm.MethodName)) ∈ lw_all := lw_g (lw_at lw_m2 136 rfl) rfl
theorem q464 : (Jvm.Cond.privateMethod ({ cls := "FortyDays$Reader", name := "number", desc := "()I" } : Jvm.MethodName)) ∈ lw_tbl := lw_at lw_m2 137 rfl
theorem q465 : (Jvm.Cond.instanceMethod ({ cls := "FortyDays$Reader", name := "number", desc := "()I" } : Jvm.MethodName)) ∈ lw_all := lw_g (lw_at lw_m2 138 rfl) rfl
theorem q466 : (Jvm.Cond.code ({ cls := "FortyDays$Reader", name := "number", desc := "()I" } : Jvm.MethodName) prog_11_method_6_code (3 : Nat) (Option.some Jvm.ClassFile.FieldType.int)) ∈ lw_all := lw_g (lw_at lw_m2 139 rfl) rfl
theorem q467 : (Jvm.Cond.methodLink "FortyDays$Reader" (65 : Nat) ({ cls := "FortyDays$Reader", name := "some", desc := "()LFortyDays$Test;" } : Jvm.MethodName)) ∈ lw_all := lw_g (lw_at lw_m2 140 rfl) rfl
theorem q468 : (Jvm.Cond.privateMethod ({ cls := "FortyDays$Reader", name := "some", desc := "()LFortyDays$Test;" } : Jvm.MethodName)) ∈ lw_tbl := lw_at lw_m2 141 rfl
theorem q469 : (Jvm.Cond.instanceMethod ({ cls := "FortyDays$Reader", name := "some", desc := "()LFortyDays$Test;" } : Jvm.MethodName)) ∈ lw_all := lw_g (lw_at lw_m2 142 rfl) rfl
theorem q470 : (Jvm.Cond.code ({ cls := "FortyDays$Reader", name := "some", desc := "()LFortyDays$Test;" } : Jvm.MethodName) prog_11_method_10_code (2 : Nat) (Option.some (Jvm.ClassFile.FieldType.object "FortyDays$Test"))) ∈ lw_all := lw_g (lw_at lw_m2 143 rfl) rfl
theorem q471 : (Jvm.Cond.methodLink "FortyDays$Reader" (81 : Nat) ({ cls := "FortyDays$Reader", name := "both", desc := "()LFortyDays$Test;" } : Jvm.MethodName)) ∈ lw_all := lw_g (lw_at lw_m2 144 rfl) rfl
theorem q472 : (Jvm.Cond.privateMethod ({ cls := "FortyDays$Reader", name := "both", desc := "()LFortyDays$Test;" } : Jvm.MethodName)) ∈ lw_tbl := lw_at lw_m2 145 rfl
theorem q473 : (Jvm.Cond.instanceMethod ({ cls := "FortyDays$Reader", name := "both", desc := "()LFortyDays$Test;" } : Jvm.MethodName)) ∈ lw_all := lw_g (lw_at lw_m2 146 rfl) rfl
theorem q474 : (Jvm.Cond.code ({ cls := "FortyDays$Reader", name := "both", desc := "()LFortyDays$Test;" } : Jvm.MethodName) prog_11_method_9_code (2 : Nat) (Option.some (Jvm.ClassFile.FieldType.object "FortyDays$Test"))) ∈ lw_all := lw_g (lw_at lw_m2 147 rfl) rfl
theorem q475 : (Jvm.Cond.methodLink "FortyDays$Reader" (56 : Nat) ({ cls := "FortyDays$Reader", name := "fact", desc := "()LFortyDays$Test;" } : Jvm.MethodName)) ∈ lw_all := lw_g (lw_at lw_m2 148 rfl) rfl
theorem q476 : (Jvm.Cond.privateMethod ({ cls := "FortyDays$Reader", name := "fact", desc := "()LFortyDays$Test;" } : Jvm.MethodName)) ∈ lw_tbl := lw_at lw_m2 149 rfl
theorem q477 : (Jvm.Cond.instanceMethod ({ cls := "FortyDays$Reader", name := "fact", desc := "()LFortyDays$Test;" } : Jvm.MethodName)) ∈ lw_all := lw_g (lw_at lw_m2 150 rfl) rfl
theorem q478 : (Jvm.Cond.code ({ cls := "FortyDays$Reader", name := "fact", desc := "()LFortyDays$Test;" } : Jvm.MethodName) prog_11_method_8_code (5 : Nat) (Option.some (Jvm.ClassFile.FieldType.object "FortyDays$Test"))) ∈ lw_all := lw_g (lw_at lw_m2 151 rfl) rfl
theorem q479 : (Jvm.Cond.methodLink "FortyDays$Reader" (53 : Nat) ({ cls := "FortyDays$Reader", name := "opens", desc := "()V" } : Jvm.MethodName)) ∈ lw_all := lw_g (lw_at lw_m2 152 rfl) rfl
theorem q480 : (Jvm.Cond.privateMethod ({ cls := "FortyDays$Reader", name := "opens", desc := "()V" } : Jvm.MethodName)) ∈ lw_tbl := lw_at lw_m2 153 rfl
theorem q481 : (Jvm.Cond.instanceMethod ({ cls := "FortyDays$Reader", name := "opens", desc := "()V" } : Jvm.MethodName)) ∈ lw_all := lw_g (lw_at lw_m2 154 rfl) rfl
theorem q482 : (Jvm.Cond.code ({ cls := "FortyDays$Reader", name := "opens", desc := "()V" } : Jvm.MethodName) prog_11_method_7_code (1 : Nat) (Option.none : Option Jvm.ClassFile.FieldType)) ∈ lw_all := lw_g (lw_at lw_m2 155 rfl) rfl
theorem q483 : (Jvm.Cond.classLink "FortyDays$Reader" (60 : Nat) "FortyDays$Not") ∈ lw_all := lw_g (lw_at lw_m2 156 rfl) rfl
theorem q485 : (Jvm.Cond.methodLink "FortyDays$Reader" (62 : Nat) ({ cls := "FortyDays$Not", name := "<init>", desc := "(LFortyDays$Test;)V" } : Jvm.MethodName)) ∈ lw_all := lw_g (lw_at lw_m2 158 rfl) rfl
theorem q493 : (Jvm.Cond.classLink "FortyDays$Reader" (68 : Nat) "FortyDays$Fact") ∈ lw_all := lw_g (lw_at lw_m2 166 rfl) rfl
theorem q495 : (Jvm.Cond.methodLink "FortyDays$Reader" (73 : Nat) ({ cls := "FortyDays$Fact", name := "<init>", desc := "(III)V" } : Jvm.MethodName)) ∈ lw_all := lw_g (lw_at lw_m2 168 rfl) rfl
theorem q509 : (Jvm.Cond.classLink "FortyDays$Reader" (76 : Nat) "FortyDays$Two") ∈ lw_all := lw_g (lw_at lw_m2 182 rfl) rfl
theorem q511 : (Jvm.Cond.methodLink "FortyDays$Reader" (78 : Nat) ({ cls := "FortyDays$Two", name := "<init>", desc := "(LFortyDays$Test;LFortyDays$Test;Z)V" } : Jvm.MethodName)) ∈ lw_all := lw_g (lw_at lw_m2 184 rfl) rfl
theorem q525 : (Jvm.Cond.methodLink "FortyDays$Reader" (105 : Nat) ({ cls := "java/util/ArrayList", name := "add", desc := "(Ljava/lang/Object;)Z" } : Jvm.MethodName)) ∈ lw_all := lw_g (lw_at lw_m2 198 rfl) rfl
theorem q567 : (Jvm.Cond.selects "FortyDays$Reader" ({ cls := "java/lang/Object", name := "getClass", desc := "()Ljava/lang/Class;" } : Jvm.MethodName) ({ cls := "java/lang/Object", name := "getClass", desc := "()Ljava/lang/Class;" } : Jvm.MethodName)) ∈ lw_all := lw_g (lw_at lw_m3 0 rfl) rfl
theorem q592 : (Jvm.Cond.methodLink "FortyDays$Reader" (119 : Nat) ({ cls := "FortyDays$Reader", name := "have", desc := "(LFortyDays$Port;)V" } : Jvm.MethodName)) ∈ lw_all := lw_g (lw_at lw_m3 25 rfl) rfl
theorem q593 : (Jvm.Cond.privateMethod ({ cls := "FortyDays$Reader", name := "have", desc := "(LFortyDays$Port;)V" } : Jvm.MethodName)) ∈ lw_tbl := lw_at lw_m3 26 rfl
theorem q594 : (Jvm.Cond.instanceMethod ({ cls := "FortyDays$Reader", name := "have", desc := "(LFortyDays$Port;)V" } : Jvm.MethodName)) ∈ lw_all := lw_g (lw_at lw_m3 27 rfl) rfl
theorem q595 : (Jvm.Cond.code ({ cls := "FortyDays$Reader", name := "have", desc := "(LFortyDays$Port;)V" } : Jvm.MethodName) prog_11_method_11_code (3 : Nat) (Option.none : Option Jvm.ClassFile.FieldType)) ∈ lw_all := lw_g (lw_at lw_m3 28 rfl) rfl
theorem q1767 : (Jvm.Cond.castable "FortyDays$Reader" "java/lang/Object") ∈ lw_tbl := lw_at lw_m8 0 rfl
theorem in_X1 : ∀ w ∈ wsX10, w ∈ lw_all := lw_in wsX10 [170, 172, 174, 176, 178, 180] (by decide +kernel) (by decide +kernel)

/-! FortyDays$Ship -/
set_option maxRecDepth 100000
def RX10 : String := "FortyDays$Ship"
def TX10 : u_T := fun k => match k with
  | 0 => ("FortyDays$Ship", "place", "I", true)
  | 1 => ("FortyDays$Ship", "hands", "I", true)
  | _ => ("FortyDays$Ship", "thought", "LFortyDays$Thought;", true)
def tyX10 : Nat → FieldType := fun k => match k with
  | 0 => .int
  | 1 => .int
  | _ => .object "FortyDays$Thought"
abbrev wsX100 : List Cond := u_ws RX10 TX10 3
theorem nmX10 : ∀ a, a < 3 → ∀ b, b < 3 → a ≠ b → (TX10 a).2.1 ≠ (TX10 b).2.1 := by decide +kernel
theorem tyX10_ok : ∀ k, k < 3 → parseFieldDescriptor (TX10 k).2.2.1 = some (tyX10 k) := by decide +kernel
abbrev cX10_init : ByteArray := prog_13_method_1_code
def yX10_init : MethodName := ⟨RX10, "<init>", "(LFortyDays$Port;II)V"⟩
def dkwX10_init_1 : List UInt8 := [181, 0, 20, 42, 180, 0, 10, 43, 29, 28, 43, 180, 0, 23, 28, 46, 182, 0, 29, 177]
abbrev dktX10_init_1 : List UInt8 := dkwX10_init_1 ++ []
def dkwX10_init_0 : List UInt8 := [42, 183, 0, 1, 42, 187, 0, 7, 89, 183, 0, 9, 181, 0, 10, 42, 28, 181, 0, 16, 42, 29]
abbrev dktX10_init_0 : List UInt8 := dkwX10_init_0 ++ dktX10_init_1
theorem dksX10_init_0 : cX10_init.data.toList.drop 0 = dktX10_init_0 := by decide +kernel
theorem dksX10_init_1 : cX10_init.data.toList.drop 22 = dktX10_init_1 := dk_seg dksX10_init_0 22 rfl rfl
theorem dX10_init_0 : decode cX10_init 0 = .ok (.aload_n 0, 1) := dk_42 (dk_at dksX10_init_0 0 rfl rfl)
theorem dX10_init_1 : decode cX10_init 1 = .ok (.invokespecial 1, 3) := dk_183 0 1 (dk_at dksX10_init_0 1 rfl rfl)
theorem dX10_init_4 : decode cX10_init 4 = .ok (.aload_n 0, 1) := dk_42 (dk_at dksX10_init_0 4 rfl rfl)
theorem dX10_init_5 : decode cX10_init 5 = .ok (.new 7, 3) := dk_187 0 7 (dk_at dksX10_init_0 5 rfl rfl)
theorem dX10_init_8 : decode cX10_init 8 = .ok (.dup, 1) := dk_89 (dk_at dksX10_init_0 8 rfl rfl)
theorem dX10_init_9 : decode cX10_init 9 = .ok (.invokespecial 9, 3) := dk_183 0 9 (dk_at dksX10_init_0 9 rfl rfl)
theorem dX10_init_12 : decode cX10_init 12 = .ok (.putfield 10, 3) := dk_181 0 10 (dk_at dksX10_init_0 12 rfl rfl)
theorem dX10_init_15 : decode cX10_init 15 = .ok (.aload_n 0, 1) := dk_42 (dk_at dksX10_init_0 15 rfl rfl)
theorem dX10_init_16 : decode cX10_init 16 = .ok (.iload_n 2, 1) := dk_28 (dk_at dksX10_init_0 16 rfl rfl)
theorem dX10_init_17 : decode cX10_init 17 = .ok (.putfield 16, 3) := dk_181 0 16 (dk_at dksX10_init_0 17 rfl rfl)
theorem dX10_init_20 : decode cX10_init 20 = .ok (.aload_n 0, 1) := dk_42 (dk_at dksX10_init_0 20 rfl rfl)
theorem dX10_init_21 : decode cX10_init 21 = .ok (.iload_n 3, 1) := dk_29 (dk_at dksX10_init_0 21 rfl rfl)
theorem dX10_init_22 : decode cX10_init 22 = .ok (.putfield 20, 3) := dk_181 0 20 (dk_at dksX10_init_1 0 rfl rfl)
theorem dX10_init_25 : decode cX10_init 25 = .ok (.aload_n 0, 1) := dk_42 (dk_at dksX10_init_1 3 rfl rfl)
theorem dX10_init_26 : decode cX10_init 26 = .ok (.getfield 10, 3) := dk_180 0 10 (dk_at dksX10_init_1 4 rfl rfl)
theorem dX10_init_29 : decode cX10_init 29 = .ok (.aload_n 1, 1) := dk_43 (dk_at dksX10_init_1 7 rfl rfl)
theorem dX10_init_30 : decode cX10_init 30 = .ok (.iload_n 3, 1) := dk_29 (dk_at dksX10_init_1 8 rfl rfl)
theorem dX10_init_31 : decode cX10_init 31 = .ok (.iload_n 2, 1) := dk_28 (dk_at dksX10_init_1 9 rfl rfl)
theorem dX10_init_32 : decode cX10_init 32 = .ok (.aload_n 1, 1) := dk_43 (dk_at dksX10_init_1 10 rfl rfl)
theorem dX10_init_33 : decode cX10_init 33 = .ok (.getfield 23, 3) := dk_180 0 23 (dk_at dksX10_init_1 11 rfl rfl)
theorem dX10_init_36 : decode cX10_init 36 = .ok (.iload_n 2, 1) := dk_28 (dk_at dksX10_init_1 14 rfl rfl)
theorem dX10_init_37 : decode cX10_init 37 = .ok (.iaload, 1) := dk_46 (dk_at dksX10_init_1 15 rfl rfl)
theorem dX10_init_38 : decode cX10_init 38 = .ok (.invokevirtual 29, 3) := dk_182 0 29 (dk_at dksX10_init_1 16 rfl rfl)
theorem dX10_init_41 : decode cX10_init 41 = .ok (.return_, 1) := dk_177 (dk_at dksX10_init_1 19 rfl rfl)
abbrev cX10_sayAnew : ByteArray := prog_13_method_2_code
def yX10_sayAnew : MethodName := ⟨RX10, "sayAnew", "(II)V"⟩
def dkwX10_sayAnew_1 : List UInt8 := [180, 0, 23, 27, 46, 16, 10, 28, 104, 100, 184, 0, 37, 182, 0, 29, 177]
abbrev dktX10_sayAnew_1 : List UInt8 := dkwX10_sayAnew_1 ++ []
def dkwX10_sayAnew_0 : List UInt8 := [42, 180, 0, 10, 42, 180, 0, 10, 180, 0, 33, 42, 180, 0, 20, 27, 3, 42, 180, 0, 10, 180, 0, 33]
abbrev dktX10_sayAnew_0 : List UInt8 := dkwX10_sayAnew_0 ++ dktX10_sayAnew_1
theorem dksX10_sayAnew_0 : cX10_sayAnew.data.toList.drop 0 = dktX10_sayAnew_0 := by decide +kernel
theorem dksX10_sayAnew_1 : cX10_sayAnew.data.toList.drop 24 = dktX10_sayAnew_1 := dk_seg dksX10_sayAnew_0 24 rfl rfl
theorem dX10_sayAnew_0 : decode cX10_sayAnew 0 = .ok (.aload_n 0, 1) := dk_42 (dk_at dksX10_sayAnew_0 0 rfl rfl)
theorem dX10_sayAnew_1 : decode cX10_sayAnew 1 = .ok (.getfield 10, 3) := dk_180 0 10 (dk_at dksX10_sayAnew_0 1 rfl rfl)
theorem dX10_sayAnew_4 : decode cX10_sayAnew 4 = .ok (.aload_n 0, 1) := dk_42 (dk_at dksX10_sayAnew_0 4 rfl rfl)
theorem dX10_sayAnew_5 : decode cX10_sayAnew 5 = .ok (.getfield 10, 3) := dk_180 0 10 (dk_at dksX10_sayAnew_0 5 rfl rfl)
theorem dX10_sayAnew_8 : decode cX10_sayAnew 8 = .ok (.getfield 33, 3) := dk_180 0 33 (dk_at dksX10_sayAnew_0 8 rfl rfl)
theorem dX10_sayAnew_11 : decode cX10_sayAnew 11 = .ok (.aload_n 0, 1) := dk_42 (dk_at dksX10_sayAnew_0 11 rfl rfl)
theorem dX10_sayAnew_12 : decode cX10_sayAnew 12 = .ok (.getfield 20, 3) := dk_180 0 20 (dk_at dksX10_sayAnew_0 12 rfl rfl)
theorem dX10_sayAnew_15 : decode cX10_sayAnew 15 = .ok (.iload_n 1, 1) := dk_27 (dk_at dksX10_sayAnew_0 15 rfl rfl)
theorem dX10_sayAnew_16 : decode cX10_sayAnew 16 = .ok (.iconst 0, 1) := dk_3 (dk_at dksX10_sayAnew_0 16 rfl rfl)
theorem dX10_sayAnew_17 : decode cX10_sayAnew 17 = .ok (.aload_n 0, 1) := dk_42 (dk_at dksX10_sayAnew_0 17 rfl rfl)
theorem dX10_sayAnew_18 : decode cX10_sayAnew 18 = .ok (.getfield 10, 3) := dk_180 0 10 (dk_at dksX10_sayAnew_0 18 rfl rfl)
theorem dX10_sayAnew_21 : decode cX10_sayAnew 21 = .ok (.getfield 33, 3) := dk_180 0 33 (dk_at dksX10_sayAnew_0 21 rfl rfl)
theorem dX10_sayAnew_24 : decode cX10_sayAnew 24 = .ok (.getfield 23, 3) := dk_180 0 23 (dk_at dksX10_sayAnew_1 0 rfl rfl)
theorem dX10_sayAnew_27 : decode cX10_sayAnew 27 = .ok (.iload_n 1, 1) := dk_27 (dk_at dksX10_sayAnew_1 3 rfl rfl)
theorem dX10_sayAnew_28 : decode cX10_sayAnew 28 = .ok (.iaload, 1) := dk_46 (dk_at dksX10_sayAnew_1 4 rfl rfl)
theorem dX10_sayAnew_29 : decode cX10_sayAnew 29 = .ok (.bipush 10, 2) := dk_16 10 (dk_at dksX10_sayAnew_1 5 rfl rfl)
theorem dX10_sayAnew_31 : decode cX10_sayAnew 31 = .ok (.iload_n 2, 1) := dk_28 (dk_at dksX10_sayAnew_1 7 rfl rfl)
theorem dX10_sayAnew_32 : decode cX10_sayAnew 32 = .ok (.imul, 1) := dk_104 (dk_at dksX10_sayAnew_1 8 rfl rfl)
theorem dX10_sayAnew_33 : decode cX10_sayAnew 33 = .ok (.isub, 1) := dk_100 (dk_at dksX10_sayAnew_1 9 rfl rfl)
theorem dX10_sayAnew_34 : decode cX10_sayAnew 34 = .ok (.invokestatic 37, 3) := dk_184 0 37 (dk_at dksX10_sayAnew_1 10 rfl rfl)
theorem dX10_sayAnew_37 : decode cX10_sayAnew 37 = .ok (.invokevirtual 29, 3) := dk_182 0 29 (dk_at dksX10_sayAnew_1 13 rfl rfl)
theorem dX10_sayAnew_40 : decode cX10_sayAnew 40 = .ok (.return_, 1) := dk_177 (dk_at dksX10_sayAnew_1 16 rfl rfl)
theorem q112 : (Jvm.Cond.initialized "FortyDays$Ship") ∈ lw_all := lw_g (lw_at lw_m1 25 rfl) rfl
theorem q194 : (Jvm.Cond.fieldLinkNest "FortyDays$Ship" (33 : Nat) "FortyDays$Thought" "port" "LFortyDays$Port;" "FortyDays") ∈ lw_tbl := lw_at lw_m1 107 rfl
theorem q348 : (Jvm.Cond.fieldLinkNest "FortyDays$Ship" (23 : Nat) "FortyDays$Port" "have" "[I" "FortyDays") ∈ lw_tbl := lw_at lw_m2 21 rfl
theorem q569 : (Jvm.Cond.selects "FortyDays$Ship" ({ cls := "java/lang/Object", name := "getClass", desc := "()Ljava/lang/Class;" } : Jvm.MethodName) ({ cls := "java/lang/Object", name := "getClass", desc := "()Ljava/lang/Class;" } : Jvm.MethodName)) ∈ lw_all := lw_g (lw_at lw_m3 2 rfl) rfl
theorem q665 : (Jvm.Cond.instantiable "FortyDays$Ship" (3 : Nat)) ∈ lw_all := lw_g (lw_at lw_m3 98 rfl) rfl
theorem q667 : (Jvm.Cond.instanceMethod ({ cls := "FortyDays$Ship", name := "<init>", desc := "(LFortyDays$Port;II)V" } : Jvm.MethodName)) ∈ lw_all := lw_g (lw_at lw_m3 100 rfl) rfl
theorem q668 : (Jvm.Cond.code ({ cls := "FortyDays$Ship", name := "<init>", desc := "(LFortyDays$Port;II)V" } : Jvm.MethodName) prog_13_method_1_code (4 : Nat) (Option.none : Option Jvm.ClassFile.FieldType)) ∈ lw_all := lw_g (lw_at lw_m3 101 rfl) rfl
theorem q669 : (Jvm.Cond.methodLink "FortyDays$Ship" (1 : Nat) ({ cls := "java/lang/Object", name := "<init>", desc := "()V" } : Jvm.MethodName)) ∈ lw_all := lw_g (lw_at lw_m3 102 rfl) rfl
theorem q670 : (Jvm.Cond.classLink "FortyDays$Ship" (7 : Nat) "FortyDays$Thought") ∈ lw_all := lw_g (lw_at lw_m3 103 rfl) rfl
theorem q671 : (Jvm.Cond.methodLinkNest "FortyDays$Ship" (9 : Nat) ({ cls := "FortyDays$Thought", name := "<init>", desc := "()V" } : Jvm.MethodName) "FortyDays") ∈ lw_tbl := lw_at lw_m3 104 rfl
theorem q672 : (Jvm.Cond.methodLink "FortyDays$Ship" (29 : Nat) ({ cls := "FortyDays$Thought", name := "begin", desc := "(LFortyDays$Port;III)V" } : Jvm.MethodName)) ∈ lw_all := lw_g (lw_at lw_m3 105 rfl) rfl
theorem q685 : (Jvm.Cond.fieldLink "FortyDays$Ship" (16 : Nat) "FortyDays$Ship" "place" "I") ∈ lw_all := lw_g (lw_at lw_m3 118 rfl) rfl
theorem q687 : (Jvm.Cond.fieldLink "FortyDays$Ship" (20 : Nat) "FortyDays$Ship" "hands" "I") ∈ lw_all := lw_g (lw_at lw_m3 120 rfl) rfl
theorem q689 : (Jvm.Cond.fieldLink "FortyDays$Ship" (10 : Nat) "FortyDays$Ship" "thought" "LFortyDays$Thought;") ∈ lw_all := lw_g (lw_at lw_m3 122 rfl) rfl
theorem q692 : (Jvm.Cond.laysFinal "FortyDays$Ship" "FortyDays$Ship" "place" "I") ∈ lw_all := lw_g (lw_at lw_m3 125 rfl) rfl
theorem q693 : (Jvm.Cond.soleField "FortyDays$Ship" "place") ∈ lw_all := lw_g (lw_at lw_m3 126 rfl) rfl
theorem q694 : (Jvm.Cond.laysFinal "FortyDays$Ship" "FortyDays$Ship" "hands" "I") ∈ lw_all := lw_g (lw_at lw_m3 127 rfl) rfl
theorem q695 : (Jvm.Cond.soleField "FortyDays$Ship" "hands") ∈ lw_all := lw_g (lw_at lw_m3 128 rfl) rfl
theorem q696 : (Jvm.Cond.laysFinal "FortyDays$Ship" "FortyDays$Ship" "thought" "LFortyDays$Thought;") ∈ lw_all := lw_g (lw_at lw_m3 129 rfl) rfl
theorem q697 : (Jvm.Cond.soleField "FortyDays$Ship" "thought") ∈ lw_all := lw_g (lw_at lw_m3 130 rfl) rfl
theorem q698 : (Jvm.Cond.superclass "FortyDays$Ship" "java/lang/Object") ∈ lw_all := lw_g (lw_at lw_m3 131 rfl) rfl
theorem q708 : (Jvm.Cond.instanceMethod ({ cls := "FortyDays$Ship", name := "sayAnew", desc := "(II)V" } : Jvm.MethodName)) ∈ lw_all := lw_g (lw_at lw_m3 141 rfl) rfl
theorem q709 : (Jvm.Cond.selects "FortyDays$Ship" ({ cls := "FortyDays$Ship", name := "sayAnew", desc := "(II)V" } : Jvm.MethodName) ({ cls := "FortyDays$Ship", name := "sayAnew", desc := "(II)V" } : Jvm.MethodName)) ∈ lw_all := lw_g (lw_at lw_m3 142 rfl) rfl
theorem q710 : (Jvm.Cond.code ({ cls := "FortyDays$Ship", name := "sayAnew", desc := "(II)V" } : Jvm.MethodName) prog_13_method_2_code (3 : Nat) (Option.none : Option Jvm.ClassFile.FieldType)) ∈ lw_all := lw_g (lw_at lw_m3 143 rfl) rfl
theorem q711 : (Jvm.Cond.methodLink "FortyDays$Ship" (37 : Nat) ({ cls := "java/lang/Math", name := "max", desc := "(II)I" } : Jvm.MethodName)) ∈ lw_all := lw_g (lw_at lw_m3 144 rfl) rfl
theorem q1775 : (Jvm.Cond.castable "FortyDays$Ship" "java/lang/Object") ∈ lw_tbl := lw_at lw_m8 8 rfl
theorem in_X10 : ∀ w ∈ wsX100, w ∈ lw_all := lw_in wsX100 [692, 694, 696] (by decide +kernel) (by decide +kernel)

/-! FortyDays$Rule -/
set_option maxRecDepth 100000
def RX11 : String := "FortyDays$Rule"
def TX11 : u_T := fun k => match k with
  | 0 => ("FortyDays$Rule", "number", "I", true)
  | 1 => ("FortyDays$Rule", "v", "I", true)
  | _ => ("FortyDays$Rule", "this$0", "LFortyDays;", true)
def tyX11 : Nat → FieldType := fun k => match k with
  | 0 => .int
  | 1 => .int
  | _ => .object "FortyDays"
abbrev wsX110 : List Cond := u_ws RX11 TX11 3
theorem nmX11 : ∀ a, a < 3 → ∀ b, b < 3 → a ≠ b → (TX11 a).2.1 ≠ (TX11 b).2.1 := by decide +kernel
theorem tyX11_ok : ∀ k, k < 3 → parseFieldDescriptor (TX11 k).2.2.1 = some (tyX11 k) := by decide +kernel
abbrev cX11_init : ByteArray := prog_12_method_1_code
def yX11_init : MethodName := ⟨RX11, "<init>", "(LFortyDays;I)V"⟩
def dkwX11_init_1 : List UInt8 := [28, 181, 0, 29, 177]
abbrev dktX11_init_1 : List UInt8 := dkwX11_init_1 ++ []
def dkwX11_init_0 : List UInt8 := [42, 43, 181, 0, 1, 42, 183, 0, 7, 42, 42, 180, 0, 1, 180, 0, 13, 182, 0, 19, 181, 0, 25, 42]
abbrev dktX11_init_0 : List UInt8 := dkwX11_init_0 ++ dktX11_init_1
theorem dksX11_init_0 : cX11_init.data.toList.drop 0 = dktX11_init_0 := by decide +kernel
theorem dksX11_init_1 : cX11_init.data.toList.drop 24 = dktX11_init_1 := dk_seg dksX11_init_0 24 rfl rfl
theorem dX11_init_0 : decode cX11_init 0 = .ok (.aload_n 0, 1) := dk_42 (dk_at dksX11_init_0 0 rfl rfl)
theorem dX11_init_1 : decode cX11_init 1 = .ok (.aload_n 1, 1) := dk_43 (dk_at dksX11_init_0 1 rfl rfl)
theorem dX11_init_2 : decode cX11_init 2 = .ok (.putfield 1, 3) := dk_181 0 1 (dk_at dksX11_init_0 2 rfl rfl)
theorem dX11_init_5 : decode cX11_init 5 = .ok (.aload_n 0, 1) := dk_42 (dk_at dksX11_init_0 5 rfl rfl)
theorem dX11_init_6 : decode cX11_init 6 = .ok (.invokespecial 7, 3) := dk_183 0 7 (dk_at dksX11_init_0 6 rfl rfl)
theorem dX11_init_9 : decode cX11_init 9 = .ok (.aload_n 0, 1) := dk_42 (dk_at dksX11_init_0 9 rfl rfl)
theorem dX11_init_10 : decode cX11_init 10 = .ok (.aload_n 0, 1) := dk_42 (dk_at dksX11_init_0 10 rfl rfl)
theorem dX11_init_11 : decode cX11_init 11 = .ok (.getfield 1, 3) := dk_180 0 1 (dk_at dksX11_init_0 11 rfl rfl)
theorem dX11_init_14 : decode cX11_init 14 = .ok (.getfield 13, 3) := dk_180 0 13 (dk_at dksX11_init_0 14 rfl rfl)
theorem dX11_init_17 : decode cX11_init 17 = .ok (.invokevirtual 19, 3) := dk_182 0 19 (dk_at dksX11_init_0 17 rfl rfl)
theorem dX11_init_20 : decode cX11_init 20 = .ok (.putfield 25, 3) := dk_181 0 25 (dk_at dksX11_init_0 20 rfl rfl)
theorem dX11_init_23 : decode cX11_init 23 = .ok (.aload_n 0, 1) := dk_42 (dk_at dksX11_init_0 23 rfl rfl)
theorem dX11_init_24 : decode cX11_init 24 = .ok (.iload_n 2, 1) := dk_28 (dk_at dksX11_init_1 0 rfl rfl)
theorem dX11_init_25 : decode cX11_init 25 = .ok (.putfield 29, 3) := dk_181 0 29 (dk_at dksX11_init_1 1 rfl rfl)
theorem dX11_init_28 : decode cX11_init 28 = .ok (.return_, 1) := dk_177 (dk_at dksX11_init_1 4 rfl rfl)
abbrev cX11_letsIn : ByteArray := prog_12_method_4_code
def yX11_letsIn : MethodName := ⟨RX11, "letsIn", "(LFortyDays$Thought;I)Z"⟩
theorem dX11_letsIn_0 : decode cX11_letsIn 0 = .ok (.iconst 1, 1) := by decide +kernel
theorem dX11_letsIn_1 : decode cX11_letsIn 1 = .ok (.ireturn, 1) := by decide +kernel
abbrev cX11_letIn : ByteArray := prog_12_method_5_code
def yX11_letIn : MethodName := ⟨RX11, "letIn", "(I)J"⟩
def dkwX11_letIn_0 : List UInt8 := [42, 180, 0, 1, 180, 0, 32, 27, 47, 173]
abbrev dktX11_letIn_0 : List UInt8 := dkwX11_letIn_0 ++ []
theorem dksX11_letIn_0 : cX11_letIn.data.toList.drop 0 = dktX11_letIn_0 := by decide +kernel
theorem dX11_letIn_0 : decode cX11_letIn 0 = .ok (.aload_n 0, 1) := dk_42 (dk_at dksX11_letIn_0 0 rfl rfl)
theorem dX11_letIn_1 : decode cX11_letIn 1 = .ok (.getfield 1, 3) := dk_180 0 1 (dk_at dksX11_letIn_0 1 rfl rfl)
theorem dX11_letIn_4 : decode cX11_letIn 4 = .ok (.getfield 32, 3) := dk_180 0 32 (dk_at dksX11_letIn_0 4 rfl rfl)
theorem dX11_letIn_7 : decode cX11_letIn 7 = .ok (.iload_n 1, 1) := dk_27 (dk_at dksX11_letIn_0 7 rfl rfl)
theorem dX11_letIn_8 : decode cX11_letIn 8 = .ok (.laload, 1) := dk_47 (dk_at dksX11_letIn_0 8 rfl rfl)
theorem dX11_letIn_9 : decode cX11_letIn 9 = .ok (.lreturn, 1) := dk_173 (dk_at dksX11_letIn_0 9 rfl rfl)
abbrev cX11_holds : ByteArray := prog_12_method_6_code
def yX11_holds : MethodName := ⟨RX11, "holds", "(I)I"⟩
def dkwX11_holds_0 : List UInt8 := [42, 180, 0, 1, 4, 182, 0, 36, 27, 42, 180, 0, 25, 96, 172]
abbrev dktX11_holds_0 : List UInt8 := dkwX11_holds_0 ++ []
theorem dksX11_holds_0 : cX11_holds.data.toList.drop 0 = dktX11_holds_0 := by decide +kernel
theorem dX11_holds_0 : decode cX11_holds 0 = .ok (.aload_n 0, 1) := dk_42 (dk_at dksX11_holds_0 0 rfl rfl)
theorem dX11_holds_1 : decode cX11_holds 1 = .ok (.getfield 1, 3) := dk_180 0 1 (dk_at dksX11_holds_0 1 rfl rfl)
theorem dX11_holds_4 : decode cX11_holds 4 = .ok (.iconst 1, 1) := dk_4 (dk_at dksX11_holds_0 4 rfl rfl)
theorem dX11_holds_5 : decode cX11_holds 5 = .ok (.invokevirtual 36, 3) := dk_182 0 36 (dk_at dksX11_holds_0 5 rfl rfl)
theorem dX11_holds_8 : decode cX11_holds 8 = .ok (.iload_n 1, 1) := dk_27 (dk_at dksX11_holds_0 8 rfl rfl)
theorem dX11_holds_9 : decode cX11_holds 9 = .ok (.aload_n 0, 1) := dk_42 (dk_at dksX11_holds_0 9 rfl rfl)
theorem dX11_holds_10 : decode cX11_holds 10 = .ok (.getfield 25, 3) := dk_180 0 25 (dk_at dksX11_holds_0 10 rfl rfl)
theorem dX11_holds_13 : decode cX11_holds 13 = .ok (.iadd, 1) := dk_96 (dk_at dksX11_holds_0 13 rfl rfl)
theorem dX11_holds_14 : decode cX11_holds 14 = .ok (.ireturn, 1) := dk_172 (dk_at dksX11_holds_0 14 rfl rfl)
abbrev cX11_lets : ByteArray := prog_12_method_7_code
def yX11_lets : MethodName := ⟨RX11, "lets", "(I)I"⟩
def dkwX11_lets_0 : List UInt8 := [42, 180, 0, 1, 5, 182, 0, 36, 42, 27, 182, 0, 40, 42, 180, 0, 29, 100, 172]
abbrev dktX11_lets_0 : List UInt8 := dkwX11_lets_0 ++ []
theorem dksX11_lets_0 : cX11_lets.data.toList.drop 0 = dktX11_lets_0 := by decide +kernel
theorem dX11_lets_0 : decode cX11_lets 0 = .ok (.aload_n 0, 1) := dk_42 (dk_at dksX11_lets_0 0 rfl rfl)
theorem dX11_lets_1 : decode cX11_lets 1 = .ok (.getfield 1, 3) := dk_180 0 1 (dk_at dksX11_lets_0 1 rfl rfl)
theorem dX11_lets_4 : decode cX11_lets 4 = .ok (.iconst 2, 1) := dk_5 (dk_at dksX11_lets_0 4 rfl rfl)
theorem dX11_lets_5 : decode cX11_lets 5 = .ok (.invokevirtual 36, 3) := dk_182 0 36 (dk_at dksX11_lets_0 5 rfl rfl)
theorem dX11_lets_8 : decode cX11_lets 8 = .ok (.aload_n 0, 1) := dk_42 (dk_at dksX11_lets_0 8 rfl rfl)
theorem dX11_lets_9 : decode cX11_lets 9 = .ok (.iload_n 1, 1) := dk_27 (dk_at dksX11_lets_0 9 rfl rfl)
theorem dX11_lets_10 : decode cX11_lets 10 = .ok (.invokevirtual 40, 3) := dk_182 0 40 (dk_at dksX11_lets_0 10 rfl rfl)
theorem dX11_lets_13 : decode cX11_lets 13 = .ok (.aload_n 0, 1) := dk_42 (dk_at dksX11_lets_0 13 rfl rfl)
theorem dX11_lets_14 : decode cX11_lets 14 = .ok (.getfield 29, 3) := dk_180 0 29 (dk_at dksX11_lets_0 14 rfl rfl)
theorem dX11_lets_17 : decode cX11_lets 17 = .ok (.isub, 1) := dk_100 (dk_at dksX11_lets_0 17 rfl rfl)
theorem dX11_lets_18 : decode cX11_lets 18 = .ok (.ireturn, 1) := dk_172 (dk_at dksX11_lets_0 18 rfl rfl)
abbrev cX11_costs : ByteArray := prog_12_method_8_code
def yX11_costs : MethodName := ⟨RX11, "costs", "(I)I"⟩
def dkwX11_costs_0 : List UInt8 := [42, 180, 0, 1, 6, 182, 0, 36, 42, 27, 182, 0, 44, 5, 104, 172]
abbrev dktX11_costs_0 : List UInt8 := dkwX11_costs_0 ++ []
theorem dksX11_costs_0 : cX11_costs.data.toList.drop 0 = dktX11_costs_0 := by decide +kernel
theorem dX11_costs_0 : decode cX11_costs 0 = .ok (.aload_n 0, 1) := dk_42 (dk_at dksX11_costs_0 0 rfl rfl)
theorem dX11_costs_1 : decode cX11_costs 1 = .ok (.getfield 1, 3) := dk_180 0 1 (dk_at dksX11_costs_0 1 rfl rfl)
theorem dX11_costs_4 : decode cX11_costs 4 = .ok (.iconst 3, 1) := dk_6 (dk_at dksX11_costs_0 4 rfl rfl)
theorem dX11_costs_5 : decode cX11_costs 5 = .ok (.invokevirtual 36, 3) := dk_182 0 36 (dk_at dksX11_costs_0 5 rfl rfl)
theorem dX11_costs_8 : decode cX11_costs 8 = .ok (.aload_n 0, 1) := dk_42 (dk_at dksX11_costs_0 8 rfl rfl)
theorem dX11_costs_9 : decode cX11_costs 9 = .ok (.iload_n 1, 1) := dk_27 (dk_at dksX11_costs_0 9 rfl rfl)
theorem dX11_costs_10 : decode cX11_costs 10 = .ok (.invokevirtual 44, 3) := dk_182 0 44 (dk_at dksX11_costs_0 10 rfl rfl)
theorem dX11_costs_13 : decode cX11_costs 13 = .ok (.iconst 2, 1) := dk_5 (dk_at dksX11_costs_0 13 rfl rfl)
theorem dX11_costs_14 : decode cX11_costs 14 = .ok (.imul, 1) := dk_104 (dk_at dksX11_costs_0 14 rfl rfl)
theorem dX11_costs_15 : decode cX11_costs 15 = .ok (.ireturn, 1) := dk_172 (dk_at dksX11_costs_0 15 rfl rfl)
abbrev cX11_isUnder : ByteArray := prog_12_method_3_code
def yX11_isUnder : MethodName := ⟨RX11, "isUnder", "(I)Z"⟩
def dkwX11_isUnder_0 : List UInt8 := [27, 154, 0, 7, 4, 167, 0, 4, 3, 172]
abbrev dktX11_isUnder_0 : List UInt8 := dkwX11_isUnder_0 ++ []
theorem dksX11_isUnder_0 : cX11_isUnder.data.toList.drop 0 = dktX11_isUnder_0 := by decide +kernel
theorem dX11_isUnder_0 : decode cX11_isUnder 0 = .ok (.iload_n 1, 1) := dk_27 (dk_at dksX11_isUnder_0 0 rfl rfl)
theorem dX11_isUnder_1 : decode cX11_isUnder 1 = .ok (.ifCond .ne 7, 3) := dk_154 0 7 (dk_at dksX11_isUnder_0 1 rfl rfl)
theorem dX11_isUnder_4 : decode cX11_isUnder 4 = .ok (.iconst 1, 1) := dk_4 (dk_at dksX11_isUnder_0 4 rfl rfl)
theorem dX11_isUnder_5 : decode cX11_isUnder 5 = .ok (.goto 4, 3) := dk_167 0 4 (dk_at dksX11_isUnder_0 5 rfl rfl)
theorem dX11_isUnder_8 : decode cX11_isUnder 8 = .ok (.iconst 0, 1) := dk_3 (dk_at dksX11_isUnder_0 8 rfl rfl)
theorem dX11_isUnder_9 : decode cX11_isUnder 9 = .ok (.ireturn, 1) := dk_172 (dk_at dksX11_isUnder_0 9 rfl rfl)
theorem q113 : (Jvm.Cond.initialized "FortyDays$Rule") ∈ lw_all := lw_g (lw_at lw_m1 26 rfl) rfl
theorem q261 : (Jvm.Cond.fieldLinkNest "FortyDays$Rule" (32 : Nat) "FortyDays" "harms" "[J" "FortyDays") ∈ lw_tbl := lw_at lw_m1 174 rfl
theorem q269 : (Jvm.Cond.fieldLinkNest "FortyDays$Rule" (13 : Nat) "FortyDays" "rules" "Ljava/util/ArrayList;" "FortyDays") ∈ lw_tbl := lw_at lw_m1 182 rfl
theorem q568 : (Jvm.Cond.selects "FortyDays$Rule" ({ cls := "java/lang/Object", name := "getClass", desc := "()Ljava/lang/Class;" } : Jvm.MethodName) ({ cls := "java/lang/Object", name := "getClass", desc := "()Ljava/lang/Class;" } : Jvm.MethodName)) ∈ lw_all := lw_g (lw_at lw_m3 1 rfl) rfl
theorem q775 : (Jvm.Cond.instantiable "FortyDays$Rule" (3 : Nat)) ∈ lw_all := lw_g (lw_at lw_m3 208 rfl) rfl
theorem q777 : (Jvm.Cond.instanceMethod ({ cls := "FortyDays$Rule", name := "<init>", desc := "(LFortyDays;I)V" } : Jvm.MethodName)) ∈ lw_all := lw_g (lw_at lw_m3 210 rfl) rfl
theorem q778 : (Jvm.Cond.code ({ cls := "FortyDays$Rule", name := "<init>", desc := "(LFortyDays;I)V" } : Jvm.MethodName) prog_12_method_1_code (3 : Nat) (Option.none : Option Jvm.ClassFile.FieldType)) ∈ lw_all := lw_g (lw_at lw_m3 211 rfl) rfl
theorem q779 : (Jvm.Cond.methodLink "FortyDays$Rule" (7 : Nat) ({ cls := "java/lang/Object", name := "<init>", desc := "()V" } : Jvm.MethodName)) ∈ lw_all := lw_g (lw_at lw_m3 212 rfl) rfl
theorem q780 : (Jvm.Cond.methodLink "FortyDays$Rule" (19 : Nat) ({ cls := "java/util/ArrayList", name := "size", desc := "()I" } : Jvm.MethodName)) ∈ lw_all := lw_g (lw_at lw_m3 213 rfl) rfl
theorem q781 : (Jvm.Cond.fieldLink "FortyDays$Rule" (25 : Nat) "FortyDays$Rule" "number" "I") ∈ lw_all := lw_g (lw_at lw_m3 214 rfl) rfl
theorem q784 : (Jvm.Cond.fieldLink "FortyDays$Rule" (29 : Nat) "FortyDays$Rule" "v" "I") ∈ lw_all := lw_g (lw_at lw_m3 217 rfl) rfl
theorem q796 : (Jvm.Cond.fieldLink "FortyDays$Rule" (1 : Nat) "FortyDays$Rule" "this$0" "LFortyDays;") ∈ lw_all := lw_g (lw_at lw_m3 229 rfl) rfl
theorem q797 : (Jvm.Cond.laysFinal "FortyDays$Rule" "FortyDays$Rule" "number" "I") ∈ lw_all := lw_g (lw_at lw_m3 230 rfl) rfl
theorem q798 : (Jvm.Cond.soleField "FortyDays$Rule" "number") ∈ lw_all := lw_g (lw_at lw_m3 231 rfl) rfl
theorem q799 : (Jvm.Cond.laysFinal "FortyDays$Rule" "FortyDays$Rule" "v" "I") ∈ lw_all := lw_g (lw_at lw_m3 232 rfl) rfl
theorem q800 : (Jvm.Cond.soleField "FortyDays$Rule" "v") ∈ lw_all := lw_g (lw_at lw_m3 233 rfl) rfl
theorem q801 : (Jvm.Cond.laysFinal "FortyDays$Rule" "FortyDays$Rule" "this$0" "LFortyDays;") ∈ lw_all := lw_g (lw_at lw_m3 234 rfl) rfl
theorem q802 : (Jvm.Cond.soleField "FortyDays$Rule" "this$0") ∈ lw_all := lw_g (lw_at lw_m3 235 rfl) rfl
theorem q803 : (Jvm.Cond.superclass "FortyDays$Rule" "java/lang/Object") ∈ lw_all := lw_g (lw_at lw_m3 236 rfl) rfl
theorem q907 : (Jvm.Cond.instanceMethod ({ cls := "FortyDays$Rule", name := "letsIn", desc := "(LFortyDays$Thought;I)Z" } : Jvm.MethodName)) ∈ lw_all := lw_g (lw_at lw_m4 100 rfl) rfl
theorem q908 : (Jvm.Cond.selects "FortyDays$Rule" ({ cls := "FortyDays$Rule", name := "letsIn", desc := "(LFortyDays$Thought;I)Z" } : Jvm.MethodName) ({ cls := "FortyDays$Rule", name := "letsIn", desc := "(LFortyDays$Thought;I)Z" } : Jvm.MethodName)) ∈ lw_all := lw_g (lw_at lw_m4 101 rfl) rfl
theorem q909 : (Jvm.Cond.sameMethod "FortyDays$Rule" "FortyDays$Rule" "letsIn" "(LFortyDays$Thought;I)Z") ∈ lw_all := lw_g (lw_at lw_m4 102 rfl) rfl
theorem q956 : (Jvm.Cond.code ({ cls := "FortyDays$Rule", name := "letsIn", desc := "(LFortyDays$Thought;I)Z" } : Jvm.MethodName) prog_12_method_4_code (3 : Nat) (Option.some Jvm.ClassFile.FieldType.boolean)) ∈ lw_all := lw_g (lw_at lw_m4 149 rfl) rfl
theorem q972 : (Jvm.Cond.instanceMethod ({ cls := "FortyDays$Rule", name := "letIn", desc := "(I)J" } : Jvm.MethodName)) ∈ lw_all := lw_g (lw_at lw_m4 165 rfl) rfl
theorem q973 : (Jvm.Cond.selects "FortyDays$Rule" ({ cls := "FortyDays$Rule", name := "letIn", desc := "(I)J" } : Jvm.MethodName) ({ cls := "FortyDays$Rule", name := "letIn", desc := "(I)J" } : Jvm.MethodName)) ∈ lw_all := lw_g (lw_at lw_m4 166 rfl) rfl
theorem q974 : (Jvm.Cond.sameMethod "FortyDays$Rule" "FortyDays$Rule" "letIn" "(I)J") ∈ lw_all := lw_g (lw_at lw_m4 167 rfl) rfl
theorem q990 : (Jvm.Cond.declares ({ cls := "FortyDays$Rule", name := "letIn", desc := "(I)J" } : Jvm.MethodName)) ∈ lw_tbl := lw_at lw_m4 183 rfl
theorem q993 : (Jvm.Cond.code ({ cls := "FortyDays$Rule", name := "letIn", desc := "(I)J" } : Jvm.MethodName) prog_12_method_5_code (2 : Nat) (Option.some Jvm.ClassFile.FieldType.long)) ∈ lw_all := lw_g (lw_at lw_m4 186 rfl) rfl
theorem q1101 : (Jvm.Cond.instanceMethod ({ cls := "FortyDays$Rule", name := "holds", desc := "(I)I" } : Jvm.MethodName)) ∈ lw_all := lw_g (lw_at lw_m5 54 rfl) rfl
theorem q1102 : (Jvm.Cond.selects "FortyDays$Rule" ({ cls := "FortyDays$Rule", name := "holds", desc := "(I)I" } : Jvm.MethodName) ({ cls := "FortyDays$Rule", name := "holds", desc := "(I)I" } : Jvm.MethodName)) ∈ lw_all := lw_g (lw_at lw_m5 55 rfl) rfl
theorem q1103 : (Jvm.Cond.sameMethod "FortyDays$Rule" "FortyDays$Rule" "holds" "(I)I") ∈ lw_all := lw_g (lw_at lw_m5 56 rfl) rfl
theorem q1115 : (Jvm.Cond.declares ({ cls := "FortyDays$Rule", name := "holds", desc := "(I)I" } : Jvm.MethodName)) ∈ lw_tbl := lw_at lw_m5 68 rfl
theorem q1123 : (Jvm.Cond.code ({ cls := "FortyDays$Rule", name := "holds", desc := "(I)I" } : Jvm.MethodName) prog_12_method_6_code (2 : Nat) (Option.some Jvm.ClassFile.FieldType.int)) ∈ lw_all := lw_g (lw_at lw_m5 76 rfl) rfl
theorem q1124 : (Jvm.Cond.methodLinkNest "FortyDays$Rule" (36 : Nat) ({ cls := "FortyDays", name := "body", desc := "(I)V" } : Jvm.MethodName) "FortyDays") ∈ lw_tbl := lw_at lw_m5 77 rfl
theorem q1126 : (Jvm.Cond.instanceMethod ({ cls := "FortyDays$Rule", name := "lets", desc := "(I)I" } : Jvm.MethodName)) ∈ lw_all := lw_g (lw_at lw_m5 79 rfl) rfl
theorem q1127 : (Jvm.Cond.selects "FortyDays$Rule" ({ cls := "FortyDays$Rule", name := "lets", desc := "(I)I" } : Jvm.MethodName) ({ cls := "FortyDays$Rule", name := "lets", desc := "(I)I" } : Jvm.MethodName)) ∈ lw_all := lw_g (lw_at lw_m5 80 rfl) rfl
theorem q1128 : (Jvm.Cond.sameMethod "FortyDays$Rule" "FortyDays$Rule" "lets" "(I)I") ∈ lw_all := lw_g (lw_at lw_m5 81 rfl) rfl
theorem q1135 : (Jvm.Cond.declares ({ cls := "FortyDays$Rule", name := "lets", desc := "(I)I" } : Jvm.MethodName)) ∈ lw_tbl := lw_at lw_m5 88 rfl
theorem q1145 : (Jvm.Cond.code ({ cls := "FortyDays$Rule", name := "lets", desc := "(I)I" } : Jvm.MethodName) prog_12_method_7_code (2 : Nat) (Option.some Jvm.ClassFile.FieldType.int)) ∈ lw_all := lw_g (lw_at lw_m5 98 rfl) rfl
theorem q1146 : (Jvm.Cond.methodLink "FortyDays$Rule" (40 : Nat) ({ cls := "FortyDays$Rule", name := "holds", desc := "(I)I" } : Jvm.MethodName)) ∈ lw_all := lw_g (lw_at lw_m5 99 rfl) rfl
theorem q1148 : (Jvm.Cond.instanceMethod ({ cls := "FortyDays$Rule", name := "costs", desc := "(I)I" } : Jvm.MethodName)) ∈ lw_all := lw_g (lw_at lw_m5 101 rfl) rfl
theorem q1149 : (Jvm.Cond.selects "FortyDays$Rule" ({ cls := "FortyDays$Rule", name := "costs", desc := "(I)I" } : Jvm.MethodName) ({ cls := "FortyDays$Rule", name := "costs", desc := "(I)I" } : Jvm.MethodName)) ∈ lw_all := lw_g (lw_at lw_m5 102 rfl) rfl
theorem q1150 : (Jvm.Cond.sameMethod "FortyDays$Rule" "FortyDays$Rule" "costs" "(I)I") ∈ lw_all := lw_g (lw_at lw_m5 103 rfl) rfl
theorem q1168 : (Jvm.Cond.declares ({ cls := "FortyDays$Rule", name := "costs", desc := "(I)I" } : Jvm.MethodName)) ∈ lw_tbl := lw_at lw_m5 121 rfl
theorem q1171 : (Jvm.Cond.code ({ cls := "FortyDays$Rule", name := "costs", desc := "(I)I" } : Jvm.MethodName) prog_12_method_8_code (2 : Nat) (Option.some Jvm.ClassFile.FieldType.int)) ∈ lw_all := lw_g (lw_at lw_m5 124 rfl) rfl
theorem q1172 : (Jvm.Cond.methodLink "FortyDays$Rule" (44 : Nat) ({ cls := "FortyDays$Rule", name := "lets", desc := "(I)I" } : Jvm.MethodName)) ∈ lw_all := lw_g (lw_at lw_m5 125 rfl) rfl
theorem q1182 : (Jvm.Cond.instanceMethod ({ cls := "FortyDays$Rule", name := "isUnder", desc := "(I)Z" } : Jvm.MethodName)) ∈ lw_all := lw_g (lw_at lw_m5 135 rfl) rfl
theorem q1183 : (Jvm.Cond.selects "FortyDays$Rule" ({ cls := "FortyDays$Rule", name := "isUnder", desc := "(I)Z" } : Jvm.MethodName) ({ cls := "FortyDays$Rule", name := "isUnder", desc := "(I)Z" } : Jvm.MethodName)) ∈ lw_all := lw_g (lw_at lw_m5 136 rfl) rfl
theorem q1184 : (Jvm.Cond.sameMethod "FortyDays$Rule" "FortyDays$Rule" "isUnder" "(I)Z") ∈ lw_all := lw_g (lw_at lw_m5 137 rfl) rfl
theorem q1209 : (Jvm.Cond.code ({ cls := "FortyDays$Rule", name := "isUnder", desc := "(I)Z" } : Jvm.MethodName) prog_12_method_3_code (2 : Nat) (Option.some Jvm.ClassFile.FieldType.boolean)) ∈ lw_all := lw_g (lw_at lw_m5 162 rfl) rfl
theorem q1776 : (Jvm.Cond.castable "FortyDays$Rule" "java/lang/Object") ∈ lw_tbl := lw_at lw_m8 9 rfl
theorem in_X11 : ∀ w ∈ wsX110, w ∈ lw_all := lw_in wsX110 [797, 799, 801] (by decide +kernel) (by decide +kernel)

/-! FortyDays$Days -/
set_option maxRecDepth 100000
def RX12 : String := "FortyDays$Days"
def TX12 : u_T := fun k => match k with
  | 0 => ("FortyDays$Rule", "number", "I", true)
  | 1 => ("FortyDays$Rule", "v", "I", true)
  | 2 => ("FortyDays$Rule", "this$0", "LFortyDays;", true)
  | _ => ("FortyDays$Days", "this$0", "LFortyDays;", true)
def tyX12 : Nat → FieldType := fun k => match k with
  | 0 => .int
  | 1 => .int
  | 2 => .object "FortyDays"
  | _ => .object "FortyDays"
abbrev wsX120 : List Cond := u_ws RX12 TX12 4
-- two fields of one name: no nmX12
theorem tyX12_ok : ∀ k, k < 4 → parseFieldDescriptor (TX12 k).2.2.1 = some (tyX12 k) := by decide +kernel
abbrev cX12_init : ByteArray := prog_4_method_1_code
def yX12_init : MethodName := ⟨RX12, "<init>", "(LFortyDays;I)V"⟩
def dkwX12_init_0 : List UInt8 := [42, 43, 181, 0, 1, 42, 43, 28, 183, 0, 7, 177]
abbrev dktX12_init_0 : List UInt8 := dkwX12_init_0 ++ []
theorem dksX12_init_0 : cX12_init.data.toList.drop 0 = dktX12_init_0 := by decide +kernel
theorem dX12_init_0 : decode cX12_init 0 = .ok (.aload_n 0, 1) := dk_42 (dk_at dksX12_init_0 0 rfl rfl)
theorem dX12_init_1 : decode cX12_init 1 = .ok (.aload_n 1, 1) := dk_43 (dk_at dksX12_init_0 1 rfl rfl)
theorem dX12_init_2 : decode cX12_init 2 = .ok (.putfield 1, 3) := dk_181 0 1 (dk_at dksX12_init_0 2 rfl rfl)
theorem dX12_init_5 : decode cX12_init 5 = .ok (.aload_n 0, 1) := dk_42 (dk_at dksX12_init_0 5 rfl rfl)
theorem dX12_init_6 : decode cX12_init 6 = .ok (.aload_n 1, 1) := dk_43 (dk_at dksX12_init_0 6 rfl rfl)
theorem dX12_init_7 : decode cX12_init 7 = .ok (.iload_n 2, 1) := dk_28 (dk_at dksX12_init_0 7 rfl rfl)
theorem dX12_init_8 : decode cX12_init 8 = .ok (.invokespecial 7, 3) := dk_183 0 7 (dk_at dksX12_init_0 8 rfl rfl)
theorem dX12_init_11 : decode cX12_init 11 = .ok (.return_, 1) := dk_177 (dk_at dksX12_init_0 11 rfl rfl)
abbrev cX12_letsIn : ByteArray := prog_4_method_4_code
def yX12_letsIn : MethodName := ⟨RX12, "letsIn", "(LFortyDays$Thought;I)Z"⟩
def dkwX12_letsIn_0 : List UInt8 := [28, 42, 180, 0, 17, 161, 0, 7, 4, 167, 0, 4, 3, 172]
abbrev dktX12_letsIn_0 : List UInt8 := dkwX12_letsIn_0 ++ []
theorem dksX12_letsIn_0 : cX12_letsIn.data.toList.drop 0 = dktX12_letsIn_0 := by decide +kernel
theorem dX12_letsIn_0 : decode cX12_letsIn 0 = .ok (.iload_n 2, 1) := dk_28 (dk_at dksX12_letsIn_0 0 rfl rfl)
theorem dX12_letsIn_1 : decode cX12_letsIn 1 = .ok (.aload_n 0, 1) := dk_42 (dk_at dksX12_letsIn_0 1 rfl rfl)
theorem dX12_letsIn_2 : decode cX12_letsIn 2 = .ok (.getfield 17, 3) := dk_180 0 17 (dk_at dksX12_letsIn_0 2 rfl rfl)
theorem dX12_letsIn_5 : decode cX12_letsIn 5 = .ok (.if_icmp .lt 7, 3) := dk_161 0 7 (dk_at dksX12_letsIn_0 5 rfl rfl)
theorem dX12_letsIn_8 : decode cX12_letsIn 8 = .ok (.iconst 1, 1) := dk_4 (dk_at dksX12_letsIn_0 8 rfl rfl)
theorem dX12_letsIn_9 : decode cX12_letsIn 9 = .ok (.goto 4, 3) := dk_167 0 4 (dk_at dksX12_letsIn_0 9 rfl rfl)
theorem dX12_letsIn_12 : decode cX12_letsIn 12 = .ok (.iconst 0, 1) := dk_3 (dk_at dksX12_letsIn_0 12 rfl rfl)
theorem dX12_letsIn_13 : decode cX12_letsIn 13 = .ok (.ireturn, 1) := dk_172 (dk_at dksX12_letsIn_0 13 rfl rfl)
abbrev cX12_lets : ByteArray := prog_4_method_5_code
def yX12_lets : MethodName := ⟨RX12, "lets", "(I)I"⟩
def dkwX12_lets_0 : List UInt8 := [42, 180, 0, 1, 16, 11, 182, 0, 21, 42, 27, 6, 104, 183, 0, 27, 172]
abbrev dktX12_lets_0 : List UInt8 := dkwX12_lets_0 ++ []
theorem dksX12_lets_0 : cX12_lets.data.toList.drop 0 = dktX12_lets_0 := by decide +kernel
theorem dX12_lets_0 : decode cX12_lets 0 = .ok (.aload_n 0, 1) := dk_42 (dk_at dksX12_lets_0 0 rfl rfl)
theorem dX12_lets_1 : decode cX12_lets 1 = .ok (.getfield 1, 3) := dk_180 0 1 (dk_at dksX12_lets_0 1 rfl rfl)
theorem dX12_lets_4 : decode cX12_lets 4 = .ok (.bipush 11, 2) := dk_16 11 (dk_at dksX12_lets_0 4 rfl rfl)
theorem dX12_lets_6 : decode cX12_lets 6 = .ok (.invokevirtual 21, 3) := dk_182 0 21 (dk_at dksX12_lets_0 6 rfl rfl)
theorem dX12_lets_9 : decode cX12_lets 9 = .ok (.aload_n 0, 1) := dk_42 (dk_at dksX12_lets_0 9 rfl rfl)
theorem dX12_lets_10 : decode cX12_lets 10 = .ok (.iload_n 1, 1) := dk_27 (dk_at dksX12_lets_0 10 rfl rfl)
theorem dX12_lets_11 : decode cX12_lets 11 = .ok (.iconst 3, 1) := dk_6 (dk_at dksX12_lets_0 11 rfl rfl)
theorem dX12_lets_12 : decode cX12_lets 12 = .ok (.imul, 1) := dk_104 (dk_at dksX12_lets_0 12 rfl rfl)
theorem dX12_lets_13 : decode cX12_lets 13 = .ok (.invokespecial 27, 3) := dk_183 0 27 (dk_at dksX12_lets_0 13 rfl rfl)
theorem dX12_lets_16 : decode cX12_lets 16 = .ok (.ireturn, 1) := dk_172 (dk_at dksX12_lets_0 16 rfl rfl)
abbrev cX12_isUnder : ByteArray := prog_4_method_3_code
def yX12_isUnder : MethodName := ⟨RX12, "isUnder", "(I)Z"⟩
def dkwX12_isUnder_0 : List UInt8 := [27, 4, 159, 0, 11, 42, 27, 183, 0, 13, 153, 0, 7, 4, 167, 0, 4, 3, 172]
abbrev dktX12_isUnder_0 : List UInt8 := dkwX12_isUnder_0 ++ []
theorem dksX12_isUnder_0 : cX12_isUnder.data.toList.drop 0 = dktX12_isUnder_0 := by decide +kernel
theorem dX12_isUnder_0 : decode cX12_isUnder 0 = .ok (.iload_n 1, 1) := dk_27 (dk_at dksX12_isUnder_0 0 rfl rfl)
theorem dX12_isUnder_1 : decode cX12_isUnder 1 = .ok (.iconst 1, 1) := dk_4 (dk_at dksX12_isUnder_0 1 rfl rfl)
theorem dX12_isUnder_2 : decode cX12_isUnder 2 = .ok (.if_icmp .eq 11, 3) := dk_159 0 11 (dk_at dksX12_isUnder_0 2 rfl rfl)
theorem dX12_isUnder_5 : decode cX12_isUnder 5 = .ok (.aload_n 0, 1) := dk_42 (dk_at dksX12_isUnder_0 5 rfl rfl)
theorem dX12_isUnder_6 : decode cX12_isUnder 6 = .ok (.iload_n 1, 1) := dk_27 (dk_at dksX12_isUnder_0 6 rfl rfl)
theorem dX12_isUnder_7 : decode cX12_isUnder 7 = .ok (.invokespecial 13, 3) := dk_183 0 13 (dk_at dksX12_isUnder_0 7 rfl rfl)
theorem dX12_isUnder_10 : decode cX12_isUnder 10 = .ok (.ifCond .eq 7, 3) := dk_153 0 7 (dk_at dksX12_isUnder_0 10 rfl rfl)
theorem dX12_isUnder_13 : decode cX12_isUnder 13 = .ok (.iconst 1, 1) := dk_4 (dk_at dksX12_isUnder_0 13 rfl rfl)
theorem dX12_isUnder_14 : decode cX12_isUnder 14 = .ok (.goto 4, 3) := dk_167 0 4 (dk_at dksX12_isUnder_0 14 rfl rfl)
theorem dX12_isUnder_17 : decode cX12_isUnder 17 = .ok (.iconst 0, 1) := dk_3 (dk_at dksX12_isUnder_0 17 rfl rfl)
theorem dX12_isUnder_18 : decode cX12_isUnder 18 = .ok (.ireturn, 1) := dk_172 (dk_at dksX12_isUnder_0 18 rfl rfl)
theorem q114 : (Jvm.Cond.initialized "FortyDays$Days") ∈ lw_all := lw_g (lw_at lw_m1 27 rfl) rfl
theorem q560 : (Jvm.Cond.selects "FortyDays$Days" ({ cls := "java/lang/Object", name := "getClass", desc := "()Ljava/lang/Class;" } : Jvm.MethodName) ({ cls := "java/lang/Object", name := "getClass", desc := "()Ljava/lang/Class;" } : Jvm.MethodName)) ∈ lw_all := lw_g (lw_at lw_m2 233 rfl) rfl
theorem q785 : (Jvm.Cond.fieldLink "FortyDays$Days" (17 : Nat) "FortyDays$Days" "v" "I") ∈ lw_all := lw_g (lw_at lw_m3 218 rfl) rfl
theorem q786 : (Jvm.Cond.sameField "FortyDays$Days" "FortyDays$Rule" "v" "I") ∈ lw_all := lw_g (lw_at lw_m3 219 rfl) rfl
theorem q805 : (Jvm.Cond.instantiable "FortyDays$Days" (4 : Nat)) ∈ lw_all := lw_g (lw_at lw_m3 238 rfl) rfl
theorem q807 : (Jvm.Cond.instanceMethod ({ cls := "FortyDays$Days", name := "<init>", desc := "(LFortyDays;I)V" } : Jvm.MethodName)) ∈ lw_all := lw_g (lw_at lw_m4 0 rfl) rfl
theorem q808 : (Jvm.Cond.code ({ cls := "FortyDays$Days", name := "<init>", desc := "(LFortyDays;I)V" } : Jvm.MethodName) prog_4_method_1_code (3 : Nat) (Option.none : Option Jvm.ClassFile.FieldType)) ∈ lw_all := lw_g (lw_at lw_m4 1 rfl) rfl
theorem q809 : (Jvm.Cond.methodLink "FortyDays$Days" (7 : Nat) ({ cls := "FortyDays$Rule", name := "<init>", desc := "(LFortyDays;I)V" } : Jvm.MethodName)) ∈ lw_all := lw_g (lw_at lw_m4 2 rfl) rfl
theorem q810 : (Jvm.Cond.fieldLink "FortyDays$Days" (1 : Nat) "FortyDays$Days" "this$0" "LFortyDays;") ∈ lw_all := lw_g (lw_at lw_m4 3 rfl) rfl
theorem q811 : (Jvm.Cond.laysFinal "FortyDays$Days" "FortyDays$Days" "this$0" "LFortyDays;") ∈ lw_all := lw_g (lw_at lw_m4 4 rfl) rfl
theorem q812 : (Jvm.Cond.soleField "FortyDays$Days" "this$0") ∈ lw_all := lw_g (lw_at lw_m4 5 rfl) rfl
theorem q813 : (Jvm.Cond.laysFinal "FortyDays$Days" "FortyDays$Rule" "number" "I") ∈ lw_all := lw_g (lw_at lw_m4 6 rfl) rfl
theorem q814 : (Jvm.Cond.laysFinal "FortyDays$Days" "FortyDays$Rule" "v" "I") ∈ lw_all := lw_g (lw_at lw_m4 7 rfl) rfl
theorem q815 : (Jvm.Cond.laysFinal "FortyDays$Days" "FortyDays$Rule" "this$0" "LFortyDays;") ∈ lw_all := lw_g (lw_at lw_m4 8 rfl) rfl
theorem q816 : (Jvm.Cond.superclass "FortyDays$Days" "FortyDays$Rule") ∈ lw_all := lw_g (lw_at lw_m4 9 rfl) rfl
theorem q942 : (Jvm.Cond.selects "FortyDays$Days" ({ cls := "FortyDays$Rule", name := "letsIn", desc := "(LFortyDays$Thought;I)Z" } : Jvm.MethodName) ({ cls := "FortyDays$Days", name := "letsIn", desc := "(LFortyDays$Thought;I)Z" } : Jvm.MethodName)) ∈ lw_all := lw_g (lw_at lw_m4 135 rfl) rfl
theorem q943 : (Jvm.Cond.instanceMethod ({ cls := "FortyDays$Days", name := "letsIn", desc := "(LFortyDays$Thought;I)Z" } : Jvm.MethodName)) ∈ lw_all := lw_g (lw_at lw_m4 136 rfl) rfl
theorem q944 : (Jvm.Cond.code ({ cls := "FortyDays$Days", name := "letsIn", desc := "(LFortyDays$Thought;I)Z" } : Jvm.MethodName) prog_4_method_4_code (3 : Nat) (Option.some Jvm.ClassFile.FieldType.boolean)) ∈ lw_all := lw_g (lw_at lw_m4 137 rfl) rfl
theorem q976 : (Jvm.Cond.selects "FortyDays$Days" ({ cls := "FortyDays$Rule", name := "letIn", desc := "(I)J" } : Jvm.MethodName) ({ cls := "FortyDays$Rule", name := "letIn", desc := "(I)J" } : Jvm.MethodName)) ∈ lw_all := lw_g (lw_at lw_m4 169 rfl) rfl
theorem q989 : (Jvm.Cond.sameMethod "FortyDays$Days" "FortyDays$Rule" "letIn" "(I)J") ∈ lw_all := lw_g (lw_at lw_m4 182 rfl) rfl
theorem q1105 : (Jvm.Cond.selects "FortyDays$Days" ({ cls := "FortyDays$Rule", name := "holds", desc := "(I)I" } : Jvm.MethodName) ({ cls := "FortyDays$Rule", name := "holds", desc := "(I)I" } : Jvm.MethodName)) ∈ lw_all := lw_g (lw_at lw_m5 58 rfl) rfl
theorem q1114 : (Jvm.Cond.sameMethod "FortyDays$Days" "FortyDays$Rule" "holds" "(I)I") ∈ lw_all := lw_g (lw_at lw_m5 67 rfl) rfl
theorem q1136 : (Jvm.Cond.selects "FortyDays$Days" ({ cls := "FortyDays$Rule", name := "lets", desc := "(I)I" } : Jvm.MethodName) ({ cls := "FortyDays$Days", name := "lets", desc := "(I)I" } : Jvm.MethodName)) ∈ lw_all := lw_g (lw_at lw_m5 89 rfl) rfl
theorem q1137 : (Jvm.Cond.instanceMethod ({ cls := "FortyDays$Days", name := "lets", desc := "(I)I" } : Jvm.MethodName)) ∈ lw_all := lw_g (lw_at lw_m5 90 rfl) rfl
theorem q1138 : (Jvm.Cond.code ({ cls := "FortyDays$Days", name := "lets", desc := "(I)I" } : Jvm.MethodName) prog_4_method_5_code (2 : Nat) (Option.some Jvm.ClassFile.FieldType.int)) ∈ lw_all := lw_g (lw_at lw_m5 91 rfl) rfl
theorem q1139 : (Jvm.Cond.methodLinkNest "FortyDays$Days" (21 : Nat) ({ cls := "FortyDays", name := "body", desc := "(I)V" } : Jvm.MethodName) "FortyDays") ∈ lw_tbl := lw_at lw_m5 92 rfl
theorem q1140 : (Jvm.Cond.methodLink "FortyDays$Days" (27 : Nat) ({ cls := "FortyDays$Rule", name := "lets", desc := "(I)I" } : Jvm.MethodName)) ∈ lw_all := lw_g (lw_at lw_m5 93 rfl) rfl
theorem q1160 : (Jvm.Cond.selects "FortyDays$Days" ({ cls := "FortyDays$Rule", name := "costs", desc := "(I)I" } : Jvm.MethodName) ({ cls := "FortyDays$Rule", name := "costs", desc := "(I)I" } : Jvm.MethodName)) ∈ lw_all := lw_g (lw_at lw_m5 113 rfl) rfl
theorem q1167 : (Jvm.Cond.sameMethod "FortyDays$Days" "FortyDays$Rule" "costs" "(I)I") ∈ lw_all := lw_g (lw_at lw_m5 120 rfl) rfl
theorem q1192 : (Jvm.Cond.selects "FortyDays$Days" ({ cls := "FortyDays$Rule", name := "isUnder", desc := "(I)Z" } : Jvm.MethodName) ({ cls := "FortyDays$Days", name := "isUnder", desc := "(I)Z" } : Jvm.MethodName)) ∈ lw_all := lw_g (lw_at lw_m5 145 rfl) rfl
theorem q1193 : (Jvm.Cond.instanceMethod ({ cls := "FortyDays$Days", name := "isUnder", desc := "(I)Z" } : Jvm.MethodName)) ∈ lw_all := lw_g (lw_at lw_m5 146 rfl) rfl
theorem q1194 : (Jvm.Cond.code ({ cls := "FortyDays$Days", name := "isUnder", desc := "(I)Z" } : Jvm.MethodName) prog_4_method_3_code (2 : Nat) (Option.some Jvm.ClassFile.FieldType.boolean)) ∈ lw_all := lw_g (lw_at lw_m5 147 rfl) rfl
theorem q1195 : (Jvm.Cond.methodLink "FortyDays$Days" (13 : Nat) ({ cls := "FortyDays$Rule", name := "isUnder", desc := "(I)Z" } : Jvm.MethodName)) ∈ lw_all := lw_g (lw_at lw_m5 148 rfl) rfl
theorem q1757 : (Jvm.Cond.sameMethod "FortyDays$Days" "FortyDays$Days" "isUnder" "(I)Z") ∈ lw_all := lw_g (lw_at lw_m7 230 rfl) rfl
theorem q1759 : (Jvm.Cond.castable "FortyDays$Days" "FortyDays$Rule") ∈ lw_tbl := lw_at lw_m7 232 rfl
theorem q1777 : (Jvm.Cond.castable "FortyDays$Days" "java/lang/Object") ∈ lw_tbl := lw_at lw_m8 10 rfl
theorem in_X12 : ∀ w ∈ wsX120, w ∈ lw_all := lw_in wsX120 [813, 814, 815, 811] (by decide +kernel) (by decide +kernel)

/-! FortyDays$From -/
set_option maxRecDepth 100000
def RX13 : String := "FortyDays$From"
def TX13 : u_T := fun k => match k with
  | 0 => ("FortyDays$Rule", "number", "I", true)
  | 1 => ("FortyDays$Rule", "v", "I", true)
  | 2 => ("FortyDays$Rule", "this$0", "LFortyDays;", true)
  | 3 => ("FortyDays$Days", "this$0", "LFortyDays;", true)
  | _ => ("FortyDays$From", "this$0", "LFortyDays;", true)
def tyX13 : Nat → FieldType := fun k => match k with
  | 0 => .int
  | 1 => .int
  | 2 => .object "FortyDays"
  | 3 => .object "FortyDays"
  | _ => .object "FortyDays"
abbrev wsX130 : List Cond := u_ws RX13 TX13 5
-- two fields of one name: no nmX13
theorem tyX13_ok : ∀ k, k < 5 → parseFieldDescriptor (TX13 k).2.2.1 = some (tyX13 k) := by decide +kernel
abbrev cX13_init : ByteArray := prog_6_method_1_code
def yX13_init : MethodName := ⟨RX13, "<init>", "(LFortyDays;I)V"⟩
def dkwX13_init_0 : List UInt8 := [42, 43, 181, 0, 1, 42, 43, 28, 183, 0, 7, 177]
abbrev dktX13_init_0 : List UInt8 := dkwX13_init_0 ++ []
theorem dksX13_init_0 : cX13_init.data.toList.drop 0 = dktX13_init_0 := by decide +kernel
theorem dX13_init_0 : decode cX13_init 0 = .ok (.aload_n 0, 1) := dk_42 (dk_at dksX13_init_0 0 rfl rfl)
theorem dX13_init_1 : decode cX13_init 1 = .ok (.aload_n 1, 1) := dk_43 (dk_at dksX13_init_0 1 rfl rfl)
theorem dX13_init_2 : decode cX13_init 2 = .ok (.putfield 1, 3) := dk_181 0 1 (dk_at dksX13_init_0 2 rfl rfl)
theorem dX13_init_5 : decode cX13_init 5 = .ok (.aload_n 0, 1) := dk_42 (dk_at dksX13_init_0 5 rfl rfl)
theorem dX13_init_6 : decode cX13_init 6 = .ok (.aload_n 1, 1) := dk_43 (dk_at dksX13_init_0 6 rfl rfl)
theorem dX13_init_7 : decode cX13_init 7 = .ok (.iload_n 2, 1) := dk_28 (dk_at dksX13_init_0 7 rfl rfl)
theorem dX13_init_8 : decode cX13_init 8 = .ok (.invokespecial 7, 3) := dk_183 0 7 (dk_at dksX13_init_0 8 rfl rfl)
theorem dX13_init_11 : decode cX13_init 11 = .ok (.return_, 1) := dk_177 (dk_at dksX13_init_0 11 rfl rfl)
abbrev cX13_letsIn : ByteArray := prog_6_method_4_code
def yX13_letsIn : MethodName := ⟨RX13, "letsIn", "(LFortyDays$Thought;I)Z"⟩
def dkwX13_letsIn_0 : List UInt8 := [28, 42, 180, 0, 17, 43, 180, 0, 21, 104, 161, 0, 7, 4, 167, 0, 4, 3, 172]
abbrev dktX13_letsIn_0 : List UInt8 := dkwX13_letsIn_0 ++ []
theorem dksX13_letsIn_0 : cX13_letsIn.data.toList.drop 0 = dktX13_letsIn_0 := by decide +kernel
theorem dX13_letsIn_0 : decode cX13_letsIn 0 = .ok (.iload_n 2, 1) := dk_28 (dk_at dksX13_letsIn_0 0 rfl rfl)
theorem dX13_letsIn_1 : decode cX13_letsIn 1 = .ok (.aload_n 0, 1) := dk_42 (dk_at dksX13_letsIn_0 1 rfl rfl)
theorem dX13_letsIn_2 : decode cX13_letsIn 2 = .ok (.getfield 17, 3) := dk_180 0 17 (dk_at dksX13_letsIn_0 2 rfl rfl)
theorem dX13_letsIn_5 : decode cX13_letsIn 5 = .ok (.aload_n 1, 1) := dk_43 (dk_at dksX13_letsIn_0 5 rfl rfl)
theorem dX13_letsIn_6 : decode cX13_letsIn 6 = .ok (.getfield 21, 3) := dk_180 0 21 (dk_at dksX13_letsIn_0 6 rfl rfl)
theorem dX13_letsIn_9 : decode cX13_letsIn 9 = .ok (.imul, 1) := dk_104 (dk_at dksX13_letsIn_0 9 rfl rfl)
theorem dX13_letsIn_10 : decode cX13_letsIn 10 = .ok (.if_icmp .lt 7, 3) := dk_161 0 7 (dk_at dksX13_letsIn_0 10 rfl rfl)
theorem dX13_letsIn_13 : decode cX13_letsIn 13 = .ok (.iconst 1, 1) := dk_4 (dk_at dksX13_letsIn_0 13 rfl rfl)
theorem dX13_letsIn_14 : decode cX13_letsIn 14 = .ok (.goto 4, 3) := dk_167 0 4 (dk_at dksX13_letsIn_0 14 rfl rfl)
theorem dX13_letsIn_17 : decode cX13_letsIn 17 = .ok (.iconst 0, 1) := dk_3 (dk_at dksX13_letsIn_0 17 rfl rfl)
theorem dX13_letsIn_18 : decode cX13_letsIn 18 = .ok (.ireturn, 1) := dk_172 (dk_at dksX13_letsIn_0 18 rfl rfl)
abbrev cX13_holds : ByteArray := prog_6_method_5_code
def yX13_holds : MethodName := ⟨RX13, "holds", "(I)I"⟩
def dkwX13_holds_0 : List UInt8 := [42, 180, 0, 1, 16, 21, 182, 0, 26, 42, 27, 183, 0, 32, 116, 172]
abbrev dktX13_holds_0 : List UInt8 := dkwX13_holds_0 ++ []
theorem dksX13_holds_0 : cX13_holds.data.toList.drop 0 = dktX13_holds_0 := by decide +kernel
theorem dX13_holds_0 : decode cX13_holds 0 = .ok (.aload_n 0, 1) := dk_42 (dk_at dksX13_holds_0 0 rfl rfl)
theorem dX13_holds_1 : decode cX13_holds 1 = .ok (.getfield 1, 3) := dk_180 0 1 (dk_at dksX13_holds_0 1 rfl rfl)
theorem dX13_holds_4 : decode cX13_holds 4 = .ok (.bipush 21, 2) := dk_16 21 (dk_at dksX13_holds_0 4 rfl rfl)
theorem dX13_holds_6 : decode cX13_holds 6 = .ok (.invokevirtual 26, 3) := dk_182 0 26 (dk_at dksX13_holds_0 6 rfl rfl)
theorem dX13_holds_9 : decode cX13_holds 9 = .ok (.aload_n 0, 1) := dk_42 (dk_at dksX13_holds_0 9 rfl rfl)
theorem dX13_holds_10 : decode cX13_holds 10 = .ok (.iload_n 1, 1) := dk_27 (dk_at dksX13_holds_0 10 rfl rfl)
theorem dX13_holds_11 : decode cX13_holds 11 = .ok (.invokespecial 32, 3) := dk_183 0 32 (dk_at dksX13_holds_0 11 rfl rfl)
theorem dX13_holds_14 : decode cX13_holds 14 = .ok (.ineg, 1) := dk_116 (dk_at dksX13_holds_0 14 rfl rfl)
theorem dX13_holds_15 : decode cX13_holds 15 = .ok (.ireturn, 1) := dk_172 (dk_at dksX13_holds_0 15 rfl rfl)
abbrev cX13_isUnder : ByteArray := prog_6_method_3_code
def yX13_isUnder : MethodName := ⟨RX13, "isUnder", "(I)Z"⟩
def dkwX13_isUnder_0 : List UInt8 := [27, 5, 159, 0, 11, 42, 27, 183, 0, 13, 153, 0, 7, 4, 167, 0, 4, 3, 172]
abbrev dktX13_isUnder_0 : List UInt8 := dkwX13_isUnder_0 ++ []
theorem dksX13_isUnder_0 : cX13_isUnder.data.toList.drop 0 = dktX13_isUnder_0 := by decide +kernel
theorem dX13_isUnder_0 : decode cX13_isUnder 0 = .ok (.iload_n 1, 1) := dk_27 (dk_at dksX13_isUnder_0 0 rfl rfl)
theorem dX13_isUnder_1 : decode cX13_isUnder 1 = .ok (.iconst 2, 1) := dk_5 (dk_at dksX13_isUnder_0 1 rfl rfl)
theorem dX13_isUnder_2 : decode cX13_isUnder 2 = .ok (.if_icmp .eq 11, 3) := dk_159 0 11 (dk_at dksX13_isUnder_0 2 rfl rfl)
theorem dX13_isUnder_5 : decode cX13_isUnder 5 = .ok (.aload_n 0, 1) := dk_42 (dk_at dksX13_isUnder_0 5 rfl rfl)
theorem dX13_isUnder_6 : decode cX13_isUnder 6 = .ok (.iload_n 1, 1) := dk_27 (dk_at dksX13_isUnder_0 6 rfl rfl)
theorem dX13_isUnder_7 : decode cX13_isUnder 7 = .ok (.invokespecial 13, 3) := dk_183 0 13 (dk_at dksX13_isUnder_0 7 rfl rfl)
theorem dX13_isUnder_10 : decode cX13_isUnder 10 = .ok (.ifCond .eq 7, 3) := dk_153 0 7 (dk_at dksX13_isUnder_0 10 rfl rfl)
theorem dX13_isUnder_13 : decode cX13_isUnder 13 = .ok (.iconst 1, 1) := dk_4 (dk_at dksX13_isUnder_0 13 rfl rfl)
theorem dX13_isUnder_14 : decode cX13_isUnder 14 = .ok (.goto 4, 3) := dk_167 0 4 (dk_at dksX13_isUnder_0 14 rfl rfl)
theorem dX13_isUnder_17 : decode cX13_isUnder 17 = .ok (.iconst 0, 1) := dk_3 (dk_at dksX13_isUnder_0 17 rfl rfl)
theorem dX13_isUnder_18 : decode cX13_isUnder 18 = .ok (.ireturn, 1) := dk_172 (dk_at dksX13_isUnder_0 18 rfl rfl)
theorem q115 : (Jvm.Cond.initialized "FortyDays$From") ∈ lw_all := lw_g (lw_at lw_m1 28 rfl) rfl
theorem q198 : (Jvm.Cond.fieldLinkNest "FortyDays$From" (21 : Nat) "FortyDays$Thought" "says" "I" "FortyDays") ∈ lw_tbl := lw_at lw_m1 111 rfl
theorem q562 : (Jvm.Cond.selects "FortyDays$From" ({ cls := "java/lang/Object", name := "getClass", desc := "()Ljava/lang/Class;" } : Jvm.MethodName) ({ cls := "java/lang/Object", name := "getClass", desc := "()Ljava/lang/Class;" } : Jvm.MethodName)) ∈ lw_all := lw_g (lw_at lw_m2 235 rfl) rfl
theorem q787 : (Jvm.Cond.fieldLink "FortyDays$From" (17 : Nat) "FortyDays$From" "v" "I") ∈ lw_all := lw_g (lw_at lw_m3 220 rfl) rfl
theorem q788 : (Jvm.Cond.sameField "FortyDays$From" "FortyDays$Rule" "v" "I") ∈ lw_all := lw_g (lw_at lw_m3 221 rfl) rfl
theorem q818 : (Jvm.Cond.instantiable "FortyDays$From" (5 : Nat)) ∈ lw_all := lw_g (lw_at lw_m4 11 rfl) rfl
theorem q820 : (Jvm.Cond.instanceMethod ({ cls := "FortyDays$From", name := "<init>", desc := "(LFortyDays;I)V" } : Jvm.MethodName)) ∈ lw_all := lw_g (lw_at lw_m4 13 rfl) rfl
theorem q821 : (Jvm.Cond.code ({ cls := "FortyDays$From", name := "<init>", desc := "(LFortyDays;I)V" } : Jvm.MethodName) prog_6_method_1_code (3 : Nat) (Option.none : Option Jvm.ClassFile.FieldType)) ∈ lw_all := lw_g (lw_at lw_m4 14 rfl) rfl
theorem q822 : (Jvm.Cond.methodLink "FortyDays$From" (7 : Nat) ({ cls := "FortyDays$Days", name := "<init>", desc := "(LFortyDays;I)V" } : Jvm.MethodName)) ∈ lw_all := lw_g (lw_at lw_m4 15 rfl) rfl
theorem q823 : (Jvm.Cond.fieldLink "FortyDays$From" (1 : Nat) "FortyDays$From" "this$0" "LFortyDays;") ∈ lw_all := lw_g (lw_at lw_m4 16 rfl) rfl
theorem q824 : (Jvm.Cond.laysFinal "FortyDays$From" "FortyDays$From" "this$0" "LFortyDays;") ∈ lw_all := lw_g (lw_at lw_m4 17 rfl) rfl
theorem q825 : (Jvm.Cond.soleField "FortyDays$From" "this$0") ∈ lw_all := lw_g (lw_at lw_m4 18 rfl) rfl
theorem q826 : (Jvm.Cond.laysFinal "FortyDays$From" "FortyDays$Days" "this$0" "LFortyDays;") ∈ lw_all := lw_g (lw_at lw_m4 19 rfl) rfl
theorem q827 : (Jvm.Cond.laysFinal "FortyDays$From" "FortyDays$Rule" "number" "I") ∈ lw_all := lw_g (lw_at lw_m4 20 rfl) rfl
theorem q828 : (Jvm.Cond.laysFinal "FortyDays$From" "FortyDays$Rule" "v" "I") ∈ lw_all := lw_g (lw_at lw_m4 21 rfl) rfl
theorem q829 : (Jvm.Cond.laysFinal "FortyDays$From" "FortyDays$Rule" "this$0" "LFortyDays;") ∈ lw_all := lw_g (lw_at lw_m4 22 rfl) rfl
theorem q830 : (Jvm.Cond.superclass "FortyDays$From" "FortyDays$Days") ∈ lw_all := lw_g (lw_at lw_m4 23 rfl) rfl
theorem q945 : (Jvm.Cond.selects "FortyDays$From" ({ cls := "FortyDays$Rule", name := "letsIn", desc := "(LFortyDays$Thought;I)Z" } : Jvm.MethodName) ({ cls := "FortyDays$From", name := "letsIn", desc := "(LFortyDays$Thought;I)Z" } : Jvm.MethodName)) ∈ lw_all := lw_g (lw_at lw_m4 138 rfl) rfl
theorem q946 : (Jvm.Cond.instanceMethod ({ cls := "FortyDays$From", name := "letsIn", desc := "(LFortyDays$Thought;I)Z" } : Jvm.MethodName)) ∈ lw_all := lw_g (lw_at lw_m4 139 rfl) rfl
theorem q947 : (Jvm.Cond.code ({ cls := "FortyDays$From", name := "letsIn", desc := "(LFortyDays$Thought;I)Z" } : Jvm.MethodName) prog_6_method_4_code (3 : Nat) (Option.some Jvm.ClassFile.FieldType.boolean)) ∈ lw_all := lw_g (lw_at lw_m4 140 rfl) rfl
theorem q977 : (Jvm.Cond.selects "FortyDays$From" ({ cls := "FortyDays$Rule", name := "letIn", desc := "(I)J" } : Jvm.MethodName) ({ cls := "FortyDays$Rule", name := "letIn", desc := "(I)J" } : Jvm.MethodName)) ∈ lw_all := lw_g (lw_at lw_m4 170 rfl) rfl
theorem q1106 : (Jvm.Cond.selects "FortyDays$From" ({ cls := "FortyDays$Rule", name := "holds", desc := "(I)I" } : Jvm.MethodName) ({ cls := "FortyDays$From", name := "holds", desc := "(I)I" } : Jvm.MethodName)) ∈ lw_all := lw_g (lw_at lw_m5 59 rfl) rfl
theorem q1107 : (Jvm.Cond.instanceMethod ({ cls := "FortyDays$From", name := "holds", desc := "(I)I" } : Jvm.MethodName)) ∈ lw_all := lw_g (lw_at lw_m5 60 rfl) rfl
theorem q1108 : (Jvm.Cond.code ({ cls := "FortyDays$From", name := "holds", desc := "(I)I" } : Jvm.MethodName) prog_6_method_5_code (2 : Nat) (Option.some Jvm.ClassFile.FieldType.int)) ∈ lw_all := lw_g (lw_at lw_m5 61 rfl) rfl
theorem q1109 : (Jvm.Cond.methodLinkNest "FortyDays$From" (26 : Nat) ({ cls := "FortyDays", name := "body", desc := "(I)V" } : Jvm.MethodName) "FortyDays") ∈ lw_tbl := lw_at lw_m5 62 rfl
theorem q1113 : (Jvm.Cond.methodLink "FortyDays$From" (32 : Nat) ({ cls := "FortyDays$Days", name := "holds", desc := "(I)I" } : Jvm.MethodName)) ∈ lw_all := lw_g (lw_at lw_m5 66 rfl) rfl
theorem q1141 : (Jvm.Cond.selects "FortyDays$From" ({ cls := "FortyDays$Rule", name := "lets", desc := "(I)I" } : Jvm.MethodName) ({ cls := "FortyDays$Days", name := "lets", desc := "(I)I" } : Jvm.MethodName)) ∈ lw_all := lw_g (lw_at lw_m5 94 rfl) rfl
theorem q1161 : (Jvm.Cond.selects "FortyDays$From" ({ cls := "FortyDays$Rule", name := "costs", desc := "(I)I" } : Jvm.MethodName) ({ cls := "FortyDays$Rule", name := "costs", desc := "(I)I" } : Jvm.MethodName)) ∈ lw_all := lw_g (lw_at lw_m5 114 rfl) rfl
theorem q1196 : (Jvm.Cond.selects "FortyDays$From" ({ cls := "FortyDays$Rule", name := "isUnder", desc := "(I)Z" } : Jvm.MethodName) ({ cls := "FortyDays$From", name := "isUnder", desc := "(I)Z" } : Jvm.MethodName)) ∈ lw_all := lw_g (lw_at lw_m5 149 rfl) rfl
theorem q1197 : (Jvm.Cond.instanceMethod ({ cls := "FortyDays$From", name := "isUnder", desc := "(I)Z" } : Jvm.MethodName)) ∈ lw_all := lw_g (lw_at lw_m5 150 rfl) rfl
theorem q1198 : (Jvm.Cond.code ({ cls := "FortyDays$From", name := "isUnder", desc := "(I)Z" } : Jvm.MethodName) prog_6_method_3_code (2 : Nat) (Option.some Jvm.ClassFile.FieldType.boolean)) ∈ lw_all := lw_g (lw_at lw_m5 151 rfl) rfl
theorem q1199 : (Jvm.Cond.methodLink "FortyDays$From" (13 : Nat) ({ cls := "FortyDays$Days", name := "isUnder", desc := "(I)Z" } : Jvm.MethodName)) ∈ lw_all := lw_g (lw_at lw_m5 152 rfl) rfl
theorem q1760 : (Jvm.Cond.castable "FortyDays$From" "FortyDays$Rule") ∈ lw_tbl := lw_at lw_m7 233 rfl
theorem q1778 : (Jvm.Cond.castable "FortyDays$From" "java/lang/Object") ∈ lw_tbl := lw_at lw_m8 11 rfl
theorem in_X13 : ∀ w ∈ wsX130, w ∈ lw_all := lw_in wsX130 [827, 828, 829, 826, 824] (by decide +kernel) (by decide +kernel)

/-! FortyDays$Looked -/
set_option maxRecDepth 100000
def RX14 : String := "FortyDays$Looked"
def TX14 : u_T := fun k => match k with
  | 0 => ("FortyDays$Rule", "number", "I", true)
  | 1 => ("FortyDays$Rule", "v", "I", true)
  | 2 => ("FortyDays$Rule", "this$0", "LFortyDays;", true)
  | 3 => ("FortyDays$Days", "this$0", "LFortyDays;", true)
  | _ => ("FortyDays$Looked", "this$0", "LFortyDays;", true)
def tyX14 : Nat → FieldType := fun k => match k with
  | 0 => .int
  | 1 => .int
  | 2 => .object "FortyDays"
  | 3 => .object "FortyDays"
  | _ => .object "FortyDays"
abbrev wsX140 : List Cond := u_ws RX14 TX14 5
-- two fields of one name: no nmX14
theorem tyX14_ok : ∀ k, k < 5 → parseFieldDescriptor (TX14 k).2.2.1 = some (tyX14 k) := by decide +kernel
abbrev cX14_init : ByteArray := prog_8_method_1_code
def yX14_init : MethodName := ⟨RX14, "<init>", "(LFortyDays;I)V"⟩
def dkwX14_init_0 : List UInt8 := [42, 43, 181, 0, 3, 42, 43, 28, 183, 0, 9, 177]
abbrev dktX14_init_0 : List UInt8 := dkwX14_init_0 ++ []
theorem dksX14_init_0 : cX14_init.data.toList.drop 0 = dktX14_init_0 := by decide +kernel
theorem dX14_init_0 : decode cX14_init 0 = .ok (.aload_n 0, 1) := dk_42 (dk_at dksX14_init_0 0 rfl rfl)
theorem dX14_init_1 : decode cX14_init 1 = .ok (.aload_n 1, 1) := dk_43 (dk_at dksX14_init_0 1 rfl rfl)
theorem dX14_init_2 : decode cX14_init 2 = .ok (.putfield 3, 3) := dk_181 0 3 (dk_at dksX14_init_0 2 rfl rfl)
theorem dX14_init_5 : decode cX14_init 5 = .ok (.aload_n 0, 1) := dk_42 (dk_at dksX14_init_0 5 rfl rfl)
theorem dX14_init_6 : decode cX14_init 6 = .ok (.aload_n 1, 1) := dk_43 (dk_at dksX14_init_0 6 rfl rfl)
theorem dX14_init_7 : decode cX14_init 7 = .ok (.iload_n 2, 1) := dk_28 (dk_at dksX14_init_0 7 rfl rfl)
theorem dX14_init_8 : decode cX14_init 8 = .ok (.invokespecial 9, 3) := dk_183 0 9 (dk_at dksX14_init_0 8 rfl rfl)
theorem dX14_init_11 : decode cX14_init 11 = .ok (.return_, 1) := dk_177 (dk_at dksX14_init_0 11 rfl rfl)
abbrev cX14_letIn : ByteArray := prog_8_method_4_code
def yX14_letIn : MethodName := ⟨RX14, "letIn", "(I)J"⟩
def dkwX14_letIn_1 : List UInt8 := [167, 0, 8, 42, 27, 183, 0, 27, 173]
abbrev dktX14_letIn_1 : List UInt8 := dkwX14_letIn_1 ++ []
def dkwX14_letIn_0 : List UInt8 := [27, 42, 180, 0, 19, 160, 0, 20, 27, 16, 20, 162, 0, 14, 42, 180, 0, 3, 27, 182, 0, 23]
abbrev dktX14_letIn_0 : List UInt8 := dkwX14_letIn_0 ++ dktX14_letIn_1
theorem dksX14_letIn_0 : cX14_letIn.data.toList.drop 0 = dktX14_letIn_0 := by decide +kernel
theorem dksX14_letIn_1 : cX14_letIn.data.toList.drop 22 = dktX14_letIn_1 := dk_seg dksX14_letIn_0 22 rfl rfl
theorem dX14_letIn_0 : decode cX14_letIn 0 = .ok (.iload_n 1, 1) := dk_27 (dk_at dksX14_letIn_0 0 rfl rfl)
theorem dX14_letIn_1 : decode cX14_letIn 1 = .ok (.aload_n 0, 1) := dk_42 (dk_at dksX14_letIn_0 1 rfl rfl)
theorem dX14_letIn_2 : decode cX14_letIn 2 = .ok (.getfield 19, 3) := dk_180 0 19 (dk_at dksX14_letIn_0 2 rfl rfl)
theorem dX14_letIn_5 : decode cX14_letIn 5 = .ok (.if_icmp .ne 20, 3) := dk_160 0 20 (dk_at dksX14_letIn_0 5 rfl rfl)
theorem dX14_letIn_8 : decode cX14_letIn 8 = .ok (.iload_n 1, 1) := dk_27 (dk_at dksX14_letIn_0 8 rfl rfl)
theorem dX14_letIn_9 : decode cX14_letIn 9 = .ok (.bipush 20, 2) := dk_16 20 (dk_at dksX14_letIn_0 9 rfl rfl)
theorem dX14_letIn_11 : decode cX14_letIn 11 = .ok (.if_icmp .ge 14, 3) := dk_162 0 14 (dk_at dksX14_letIn_0 11 rfl rfl)
theorem dX14_letIn_14 : decode cX14_letIn 14 = .ok (.aload_n 0, 1) := dk_42 (dk_at dksX14_letIn_0 14 rfl rfl)
theorem dX14_letIn_15 : decode cX14_letIn 15 = .ok (.getfield 3, 3) := dk_180 0 3 (dk_at dksX14_letIn_0 15 rfl rfl)
theorem dX14_letIn_18 : decode cX14_letIn 18 = .ok (.iload_n 1, 1) := dk_27 (dk_at dksX14_letIn_0 18 rfl rfl)
theorem dX14_letIn_19 : decode cX14_letIn 19 = .ok (.invokevirtual 23, 3) := dk_182 0 23 (dk_at dksX14_letIn_0 19 rfl rfl)
theorem dX14_letIn_22 : decode cX14_letIn 22 = .ok (.goto 8, 3) := dk_167 0 8 (dk_at dksX14_letIn_1 0 rfl rfl)
theorem dX14_letIn_25 : decode cX14_letIn 25 = .ok (.aload_n 0, 1) := dk_42 (dk_at dksX14_letIn_1 3 rfl rfl)
theorem dX14_letIn_26 : decode cX14_letIn 26 = .ok (.iload_n 1, 1) := dk_27 (dk_at dksX14_letIn_1 4 rfl rfl)
theorem dX14_letIn_27 : decode cX14_letIn 27 = .ok (.invokespecial 27, 3) := dk_183 0 27 (dk_at dksX14_letIn_1 5 rfl rfl)
theorem dX14_letIn_30 : decode cX14_letIn 30 = .ok (.lreturn, 1) := dk_173 (dk_at dksX14_letIn_1 8 rfl rfl)
abbrev cX14_costs : ByteArray := prog_8_method_5_code
def yX14_costs : MethodName := ⟨RX14, "costs", "(I)I"⟩
def dkwX14_costs_0 : List UInt8 := [42, 180, 0, 3, 16, 31, 182, 0, 30, 42, 27, 183, 0, 34, 16, 7, 130, 172]
abbrev dktX14_costs_0 : List UInt8 := dkwX14_costs_0 ++ []
theorem dksX14_costs_0 : cX14_costs.data.toList.drop 0 = dktX14_costs_0 := by decide +kernel
theorem dX14_costs_0 : decode cX14_costs 0 = .ok (.aload_n 0, 1) := dk_42 (dk_at dksX14_costs_0 0 rfl rfl)
theorem dX14_costs_1 : decode cX14_costs 1 = .ok (.getfield 3, 3) := dk_180 0 3 (dk_at dksX14_costs_0 1 rfl rfl)
theorem dX14_costs_4 : decode cX14_costs 4 = .ok (.bipush 31, 2) := dk_16 31 (dk_at dksX14_costs_0 4 rfl rfl)
theorem dX14_costs_6 : decode cX14_costs 6 = .ok (.invokevirtual 30, 3) := dk_182 0 30 (dk_at dksX14_costs_0 6 rfl rfl)
theorem dX14_costs_9 : decode cX14_costs 9 = .ok (.aload_n 0, 1) := dk_42 (dk_at dksX14_costs_0 9 rfl rfl)
theorem dX14_costs_10 : decode cX14_costs 10 = .ok (.iload_n 1, 1) := dk_27 (dk_at dksX14_costs_0 10 rfl rfl)
theorem dX14_costs_11 : decode cX14_costs 11 = .ok (.invokespecial 34, 3) := dk_183 0 34 (dk_at dksX14_costs_0 11 rfl rfl)
theorem dX14_costs_14 : decode cX14_costs 14 = .ok (.bipush 7, 2) := dk_16 7 (dk_at dksX14_costs_0 14 rfl rfl)
theorem dX14_costs_16 : decode cX14_costs 16 = .ok (.ixor, 1) := dk_130 (dk_at dksX14_costs_0 16 rfl rfl)
theorem dX14_costs_17 : decode cX14_costs 17 = .ok (.ireturn, 1) := dk_172 (dk_at dksX14_costs_0 17 rfl rfl)
abbrev cX14_isUnder : ByteArray := prog_8_method_3_code
def yX14_isUnder : MethodName := ⟨RX14, "isUnder", "(I)Z"⟩
def dkwX14_isUnder_0 : List UInt8 := [27, 6, 159, 0, 11, 42, 27, 183, 0, 15, 153, 0, 7, 4, 167, 0, 4, 3, 172]
abbrev dktX14_isUnder_0 : List UInt8 := dkwX14_isUnder_0 ++ []
theorem dksX14_isUnder_0 : cX14_isUnder.data.toList.drop 0 = dktX14_isUnder_0 := by decide +kernel
theorem dX14_isUnder_0 : decode cX14_isUnder 0 = .ok (.iload_n 1, 1) := dk_27 (dk_at dksX14_isUnder_0 0 rfl rfl)
theorem dX14_isUnder_1 : decode cX14_isUnder 1 = .ok (.iconst 3, 1) := dk_6 (dk_at dksX14_isUnder_0 1 rfl rfl)
theorem dX14_isUnder_2 : decode cX14_isUnder 2 = .ok (.if_icmp .eq 11, 3) := dk_159 0 11 (dk_at dksX14_isUnder_0 2 rfl rfl)
theorem dX14_isUnder_5 : decode cX14_isUnder 5 = .ok (.aload_n 0, 1) := dk_42 (dk_at dksX14_isUnder_0 5 rfl rfl)
theorem dX14_isUnder_6 : decode cX14_isUnder 6 = .ok (.iload_n 1, 1) := dk_27 (dk_at dksX14_isUnder_0 6 rfl rfl)
theorem dX14_isUnder_7 : decode cX14_isUnder 7 = .ok (.invokespecial 15, 3) := dk_183 0 15 (dk_at dksX14_isUnder_0 7 rfl rfl)
theorem dX14_isUnder_10 : decode cX14_isUnder 10 = .ok (.ifCond .eq 7, 3) := dk_153 0 7 (dk_at dksX14_isUnder_0 10 rfl rfl)
theorem dX14_isUnder_13 : decode cX14_isUnder 13 = .ok (.iconst 1, 1) := dk_4 (dk_at dksX14_isUnder_0 13 rfl rfl)
theorem dX14_isUnder_14 : decode cX14_isUnder 14 = .ok (.goto 4, 3) := dk_167 0 4 (dk_at dksX14_isUnder_0 14 rfl rfl)
theorem dX14_isUnder_17 : decode cX14_isUnder 17 = .ok (.iconst 0, 1) := dk_3 (dk_at dksX14_isUnder_0 17 rfl rfl)
theorem dX14_isUnder_18 : decode cX14_isUnder 18 = .ok (.ireturn, 1) := dk_172 (dk_at dksX14_isUnder_0 18 rfl rfl)
theorem q116 : (Jvm.Cond.initialized "FortyDays$Looked") ∈ lw_all := lw_g (lw_at lw_m1 29 rfl) rfl
theorem q564 : (Jvm.Cond.selects "FortyDays$Looked" ({ cls := "java/lang/Object", name := "getClass", desc := "()Ljava/lang/Class;" } : Jvm.MethodName) ({ cls := "java/lang/Object", name := "getClass", desc := "()Ljava/lang/Class;" } : Jvm.MethodName)) ∈ lw_all := lw_g (lw_at lw_m2 237 rfl) rfl
theorem q789 : (Jvm.Cond.fieldLink "FortyDays$Looked" (19 : Nat) "FortyDays$Looked" "v" "I") ∈ lw_all := lw_g (lw_at lw_m3 222 rfl) rfl
theorem q790 : (Jvm.Cond.sameField "FortyDays$Looked" "FortyDays$Rule" "v" "I") ∈ lw_all := lw_g (lw_at lw_m3 223 rfl) rfl
theorem q832 : (Jvm.Cond.instantiable "FortyDays$Looked" (5 : Nat)) ∈ lw_all := lw_g (lw_at lw_m4 25 rfl) rfl
theorem q834 : (Jvm.Cond.instanceMethod ({ cls := "FortyDays$Looked", name := "<init>", desc := "(LFortyDays;I)V" } : Jvm.MethodName)) ∈ lw_all := lw_g (lw_at lw_m4 27 rfl) rfl
theorem q835 : (Jvm.Cond.code ({ cls := "FortyDays$Looked", name := "<init>", desc := "(LFortyDays;I)V" } : Jvm.MethodName) prog_8_method_1_code (3 : Nat) (Option.none : Option Jvm.ClassFile.FieldType)) ∈ lw_all := lw_g (lw_at lw_m4 28 rfl) rfl
theorem q836 : (Jvm.Cond.methodLink "FortyDays$Looked" (9 : Nat) ({ cls := "FortyDays$Days", name := "<init>", desc := "(LFortyDays;I)V" } : Jvm.MethodName)) ∈ lw_all := lw_g (lw_at lw_m4 29 rfl) rfl
theorem q837 : (Jvm.Cond.fieldLink "FortyDays$Looked" (3 : Nat) "FortyDays$Looked" "this$0" "LFortyDays;") ∈ lw_all := lw_g (lw_at lw_m4 30 rfl) rfl
theorem q838 : (Jvm.Cond.laysFinal "FortyDays$Looked" "FortyDays$Looked" "this$0" "LFortyDays;") ∈ lw_all := lw_g (lw_at lw_m4 31 rfl) rfl
theorem q839 : (Jvm.Cond.soleField "FortyDays$Looked" "this$0") ∈ lw_all := lw_g (lw_at lw_m4 32 rfl) rfl
theorem q840 : (Jvm.Cond.laysFinal "FortyDays$Looked" "FortyDays$Days" "this$0" "LFortyDays;") ∈ lw_all := lw_g (lw_at lw_m4 33 rfl) rfl
theorem q841 : (Jvm.Cond.laysFinal "FortyDays$Looked" "FortyDays$Rule" "number" "I") ∈ lw_all := lw_g (lw_at lw_m4 34 rfl) rfl
theorem q842 : (Jvm.Cond.laysFinal "FortyDays$Looked" "FortyDays$Rule" "v" "I") ∈ lw_all := lw_g (lw_at lw_m4 35 rfl) rfl
theorem q843 : (Jvm.Cond.laysFinal "FortyDays$Looked" "FortyDays$Rule" "this$0" "LFortyDays;") ∈ lw_all := lw_g (lw_at lw_m4 36 rfl) rfl
theorem q844 : (Jvm.Cond.superclass "FortyDays$Looked" "FortyDays$Days") ∈ lw_all := lw_g (lw_at lw_m4 37 rfl) rfl
theorem q948 : (Jvm.Cond.selects "FortyDays$Looked" ({ cls := "FortyDays$Rule", name := "letsIn", desc := "(LFortyDays$Thought;I)Z" } : Jvm.MethodName) ({ cls := "FortyDays$Days", name := "letsIn", desc := "(LFortyDays$Thought;I)Z" } : Jvm.MethodName)) ∈ lw_all := lw_g (lw_at lw_m4 141 rfl) rfl
theorem q978 : (Jvm.Cond.selects "FortyDays$Looked" ({ cls := "FortyDays$Rule", name := "letIn", desc := "(I)J" } : Jvm.MethodName) ({ cls := "FortyDays$Looked", name := "letIn", desc := "(I)J" } : Jvm.MethodName)) ∈ lw_all := lw_g (lw_at lw_m4 171 rfl) rfl
theorem q979 : (Jvm.Cond.instanceMethod ({ cls := "FortyDays$Looked", name := "letIn", desc := "(I)J" } : Jvm.MethodName)) ∈ lw_all := lw_g (lw_at lw_m4 172 rfl) rfl
theorem q980 : (Jvm.Cond.code ({ cls := "FortyDays$Looked", name := "letIn", desc := "(I)J" } : Jvm.MethodName) prog_8_method_4_code (2 : Nat) (Option.some Jvm.ClassFile.FieldType.long)) ∈ lw_all := lw_g (lw_at lw_m4 173 rfl) rfl
theorem q981 : (Jvm.Cond.methodLinkNest "FortyDays$Looked" (23 : Nat) ({ cls := "FortyDays", name := "lookOn", desc := "(I)J" } : Jvm.MethodName) "FortyDays") ∈ lw_tbl := lw_at lw_m4 174 rfl
theorem q988 : (Jvm.Cond.methodLink "FortyDays$Looked" (27 : Nat) ({ cls := "FortyDays$Days", name := "letIn", desc := "(I)J" } : Jvm.MethodName)) ∈ lw_all := lw_g (lw_at lw_m4 181 rfl) rfl
theorem q1116 : (Jvm.Cond.selects "FortyDays$Looked" ({ cls := "FortyDays$Rule", name := "holds", desc := "(I)I" } : Jvm.MethodName) ({ cls := "FortyDays$Rule", name := "holds", desc := "(I)I" } : Jvm.MethodName)) ∈ lw_all := lw_g (lw_at lw_m5 69 rfl) rfl
theorem q1142 : (Jvm.Cond.selects "FortyDays$Looked" ({ cls := "FortyDays$Rule", name := "lets", desc := "(I)I" } : Jvm.MethodName) ({ cls := "FortyDays$Days", name := "lets", desc := "(I)I" } : Jvm.MethodName)) ∈ lw_all := lw_g (lw_at lw_m5 95 rfl) rfl
theorem q1162 : (Jvm.Cond.selects "FortyDays$Looked" ({ cls := "FortyDays$Rule", name := "costs", desc := "(I)I" } : Jvm.MethodName) ({ cls := "FortyDays$Looked", name := "costs", desc := "(I)I" } : Jvm.MethodName)) ∈ lw_all := lw_g (lw_at lw_m5 115 rfl) rfl
theorem q1163 : (Jvm.Cond.instanceMethod ({ cls := "FortyDays$Looked", name := "costs", desc := "(I)I" } : Jvm.MethodName)) ∈ lw_all := lw_g (lw_at lw_m5 116 rfl) rfl
theorem q1164 : (Jvm.Cond.code ({ cls := "FortyDays$Looked", name := "costs", desc := "(I)I" } : Jvm.MethodName) prog_8_method_5_code (2 : Nat) (Option.some Jvm.ClassFile.FieldType.int)) ∈ lw_all := lw_g (lw_at lw_m5 117 rfl) rfl
theorem q1165 : (Jvm.Cond.methodLinkNest "FortyDays$Looked" (30 : Nat) ({ cls := "FortyDays", name := "body", desc := "(I)V" } : Jvm.MethodName) "FortyDays") ∈ lw_tbl := lw_at lw_m5 118 rfl
theorem q1166 : (Jvm.Cond.methodLink "FortyDays$Looked" (34 : Nat) ({ cls := "FortyDays$Days", name := "costs", desc := "(I)I" } : Jvm.MethodName)) ∈ lw_all := lw_g (lw_at lw_m5 119 rfl) rfl
theorem q1200 : (Jvm.Cond.selects "FortyDays$Looked" ({ cls := "FortyDays$Rule", name := "isUnder", desc := "(I)Z" } : Jvm.MethodName) ({ cls := "FortyDays$Looked", name := "isUnder", desc := "(I)Z" } : Jvm.MethodName)) ∈ lw_all := lw_g (lw_at lw_m5 153 rfl) rfl
theorem q1201 : (Jvm.Cond.instanceMethod ({ cls := "FortyDays$Looked", name := "isUnder", desc := "(I)Z" } : Jvm.MethodName)) ∈ lw_all := lw_g (lw_at lw_m5 154 rfl) rfl
theorem q1202 : (Jvm.Cond.code ({ cls := "FortyDays$Looked", name := "isUnder", desc := "(I)Z" } : Jvm.MethodName) prog_8_method_3_code (2 : Nat) (Option.some Jvm.ClassFile.FieldType.boolean)) ∈ lw_all := lw_g (lw_at lw_m5 155 rfl) rfl
theorem q1203 : (Jvm.Cond.methodLink "FortyDays$Looked" (15 : Nat) ({ cls := "FortyDays$Days", name := "isUnder", desc := "(I)Z" } : Jvm.MethodName)) ∈ lw_all := lw_g (lw_at lw_m5 156 rfl) rfl
theorem q1761 : (Jvm.Cond.castable "FortyDays$Looked" "FortyDays$Rule") ∈ lw_tbl := lw_at lw_m7 234 rfl
theorem q1779 : (Jvm.Cond.castable "FortyDays$Looked" "java/lang/Object") ∈ lw_tbl := lw_at lw_m8 12 rfl
theorem in_X14 : ∀ w ∈ wsX140, w ∈ lw_all := lw_in wsX140 [841, 842, 843, 840, 838] (by decide +kernel) (by decide +kernel)

/-! FortyDays$Think -/
set_option maxRecDepth 100000
def RX15 : String := "FortyDays$Think"
def TX15 : u_T := fun k => match k with
  | 0 => ("FortyDays$Rule", "number", "I", true)
  | 1 => ("FortyDays$Rule", "v", "I", true)
  | 2 => ("FortyDays$Rule", "this$0", "LFortyDays;", true)
  | _ => ("FortyDays$Think", "this$0", "LFortyDays;", true)
def tyX15 : Nat → FieldType := fun k => match k with
  | 0 => .int
  | 1 => .int
  | 2 => .object "FortyDays"
  | _ => .object "FortyDays"
abbrev wsX150 : List Cond := u_ws RX15 TX15 4
-- two fields of one name: no nmX15
theorem tyX15_ok : ∀ k, k < 4 → parseFieldDescriptor (TX15 k).2.2.1 = some (tyX15 k) := by decide +kernel
abbrev cX15_init : ByteArray := prog_15_method_1_code
def yX15_init : MethodName := ⟨RX15, "<init>", "(LFortyDays;I)V"⟩
def dkwX15_init_0 : List UInt8 := [42, 43, 181, 0, 3, 42, 43, 28, 183, 0, 9, 177]
abbrev dktX15_init_0 : List UInt8 := dkwX15_init_0 ++ []
theorem dksX15_init_0 : cX15_init.data.toList.drop 0 = dktX15_init_0 := by decide +kernel
theorem dX15_init_0 : decode cX15_init 0 = .ok (.aload_n 0, 1) := dk_42 (dk_at dksX15_init_0 0 rfl rfl)
theorem dX15_init_1 : decode cX15_init 1 = .ok (.aload_n 1, 1) := dk_43 (dk_at dksX15_init_0 1 rfl rfl)
theorem dX15_init_2 : decode cX15_init 2 = .ok (.putfield 3, 3) := dk_181 0 3 (dk_at dksX15_init_0 2 rfl rfl)
theorem dX15_init_5 : decode cX15_init 5 = .ok (.aload_n 0, 1) := dk_42 (dk_at dksX15_init_0 5 rfl rfl)
theorem dX15_init_6 : decode cX15_init 6 = .ok (.aload_n 1, 1) := dk_43 (dk_at dksX15_init_0 6 rfl rfl)
theorem dX15_init_7 : decode cX15_init 7 = .ok (.iload_n 2, 1) := dk_28 (dk_at dksX15_init_0 7 rfl rfl)
theorem dX15_init_8 : decode cX15_init 8 = .ok (.invokespecial 9, 3) := dk_183 0 9 (dk_at dksX15_init_0 8 rfl rfl)
theorem dX15_init_11 : decode cX15_init 11 = .ok (.return_, 1) := dk_177 (dk_at dksX15_init_0 11 rfl rfl)
abbrev cX15_letsIn : ByteArray := prog_15_method_4_code
def yX15_letsIn : MethodName := ⟨RX15, "letsIn", "(LFortyDays$Thought;I)Z"⟩
def dkwX15_letsIn_0 : List UInt8 := [43, 182, 0, 19, 42, 180, 0, 25, 17, 3, 232, 104, 162, 0, 7, 4, 167, 0, 4, 3, 172]
abbrev dktX15_letsIn_0 : List UInt8 := dkwX15_letsIn_0 ++ []
theorem dksX15_letsIn_0 : cX15_letsIn.data.toList.drop 0 = dktX15_letsIn_0 := by decide +kernel
theorem dX15_letsIn_0 : decode cX15_letsIn 0 = .ok (.aload_n 1, 1) := dk_43 (dk_at dksX15_letsIn_0 0 rfl rfl)
theorem dX15_letsIn_1 : decode cX15_letsIn 1 = .ok (.invokevirtual 19, 3) := dk_182 0 19 (dk_at dksX15_letsIn_0 1 rfl rfl)
theorem dX15_letsIn_4 : decode cX15_letsIn 4 = .ok (.aload_n 0, 1) := dk_42 (dk_at dksX15_letsIn_0 4 rfl rfl)
theorem dX15_letsIn_5 : decode cX15_letsIn 5 = .ok (.getfield 25, 3) := dk_180 0 25 (dk_at dksX15_letsIn_0 5 rfl rfl)
theorem dX15_letsIn_8 : decode cX15_letsIn 8 = .ok (.sipush 1000, 3) := dk_17 3 232 (dk_at dksX15_letsIn_0 8 rfl rfl)
theorem dX15_letsIn_11 : decode cX15_letsIn 11 = .ok (.imul, 1) := dk_104 (dk_at dksX15_letsIn_0 11 rfl rfl)
theorem dX15_letsIn_12 : decode cX15_letsIn 12 = .ok (.if_icmp .ge 7, 3) := dk_162 0 7 (dk_at dksX15_letsIn_0 12 rfl rfl)
theorem dX15_letsIn_15 : decode cX15_letsIn 15 = .ok (.iconst 1, 1) := dk_4 (dk_at dksX15_letsIn_0 15 rfl rfl)
theorem dX15_letsIn_16 : decode cX15_letsIn 16 = .ok (.goto 4, 3) := dk_167 0 4 (dk_at dksX15_letsIn_0 16 rfl rfl)
theorem dX15_letsIn_19 : decode cX15_letsIn 19 = .ok (.iconst 0, 1) := dk_3 (dk_at dksX15_letsIn_0 19 rfl rfl)
theorem dX15_letsIn_20 : decode cX15_letsIn 20 = .ok (.ireturn, 1) := dk_172 (dk_at dksX15_letsIn_0 20 rfl rfl)
abbrev cX15_costs : ByteArray := prog_15_method_5_code
def yX15_costs : MethodName := ⟨RX15, "costs", "(I)I"⟩
def dkwX15_costs_1 : List UInt8 := [172]
abbrev dktX15_costs_1 : List UInt8 := dkwX15_costs_1 ++ []
def dkwX15_costs_0 : List UInt8 := [42, 180, 0, 3, 16, 41, 182, 0, 29, 42, 27, 4, 100, 183, 0, 33, 61, 28, 42, 5, 182, 0, 37, 96]
abbrev dktX15_costs_0 : List UInt8 := dkwX15_costs_0 ++ dktX15_costs_1
theorem dksX15_costs_0 : cX15_costs.data.toList.drop 0 = dktX15_costs_0 := by decide +kernel
theorem dksX15_costs_1 : cX15_costs.data.toList.drop 24 = dktX15_costs_1 := dk_seg dksX15_costs_0 24 rfl rfl
theorem dX15_costs_0 : decode cX15_costs 0 = .ok (.aload_n 0, 1) := dk_42 (dk_at dksX15_costs_0 0 rfl rfl)
theorem dX15_costs_1 : decode cX15_costs 1 = .ok (.getfield 3, 3) := dk_180 0 3 (dk_at dksX15_costs_0 1 rfl rfl)
theorem dX15_costs_4 : decode cX15_costs 4 = .ok (.bipush 41, 2) := dk_16 41 (dk_at dksX15_costs_0 4 rfl rfl)
theorem dX15_costs_6 : decode cX15_costs 6 = .ok (.invokevirtual 29, 3) := dk_182 0 29 (dk_at dksX15_costs_0 6 rfl rfl)
theorem dX15_costs_9 : decode cX15_costs 9 = .ok (.aload_n 0, 1) := dk_42 (dk_at dksX15_costs_0 9 rfl rfl)
theorem dX15_costs_10 : decode cX15_costs 10 = .ok (.iload_n 1, 1) := dk_27 (dk_at dksX15_costs_0 10 rfl rfl)
theorem dX15_costs_11 : decode cX15_costs 11 = .ok (.iconst 1, 1) := dk_4 (dk_at dksX15_costs_0 11 rfl rfl)
theorem dX15_costs_12 : decode cX15_costs 12 = .ok (.isub, 1) := dk_100 (dk_at dksX15_costs_0 12 rfl rfl)
theorem dX15_costs_13 : decode cX15_costs 13 = .ok (.invokespecial 33, 3) := dk_183 0 33 (dk_at dksX15_costs_0 13 rfl rfl)
theorem dX15_costs_16 : decode cX15_costs 16 = .ok (.istore_n 2, 1) := dk_61 (dk_at dksX15_costs_0 16 rfl rfl)
theorem dX15_costs_17 : decode cX15_costs 17 = .ok (.iload_n 2, 1) := dk_28 (dk_at dksX15_costs_0 17 rfl rfl)
theorem dX15_costs_18 : decode cX15_costs 18 = .ok (.aload_n 0, 1) := dk_42 (dk_at dksX15_costs_0 18 rfl rfl)
theorem dX15_costs_19 : decode cX15_costs 19 = .ok (.iconst 2, 1) := dk_5 (dk_at dksX15_costs_0 19 rfl rfl)
theorem dX15_costs_20 : decode cX15_costs 20 = .ok (.invokevirtual 37, 3) := dk_182 0 37 (dk_at dksX15_costs_0 20 rfl rfl)
theorem dX15_costs_23 : decode cX15_costs 23 = .ok (.iadd, 1) := dk_96 (dk_at dksX15_costs_0 23 rfl rfl)
theorem dX15_costs_24 : decode cX15_costs 24 = .ok (.ireturn, 1) := dk_172 (dk_at dksX15_costs_1 0 rfl rfl)
abbrev cX15_isUnder : ByteArray := prog_15_method_3_code
def yX15_isUnder : MethodName := ⟨RX15, "isUnder", "(I)Z"⟩
def dkwX15_isUnder_0 : List UInt8 := [27, 7, 159, 0, 11, 42, 27, 183, 0, 15, 153, 0, 7, 4, 167, 0, 4, 3, 172]
abbrev dktX15_isUnder_0 : List UInt8 := dkwX15_isUnder_0 ++ []
theorem dksX15_isUnder_0 : cX15_isUnder.data.toList.drop 0 = dktX15_isUnder_0 := by decide +kernel
theorem dX15_isUnder_0 : decode cX15_isUnder 0 = .ok (.iload_n 1, 1) := dk_27 (dk_at dksX15_isUnder_0 0 rfl rfl)
theorem dX15_isUnder_1 : decode cX15_isUnder 1 = .ok (.iconst 4, 1) := dk_7 (dk_at dksX15_isUnder_0 1 rfl rfl)
theorem dX15_isUnder_2 : decode cX15_isUnder 2 = .ok (.if_icmp .eq 11, 3) := dk_159 0 11 (dk_at dksX15_isUnder_0 2 rfl rfl)
theorem dX15_isUnder_5 : decode cX15_isUnder 5 = .ok (.aload_n 0, 1) := dk_42 (dk_at dksX15_isUnder_0 5 rfl rfl)
theorem dX15_isUnder_6 : decode cX15_isUnder 6 = .ok (.iload_n 1, 1) := dk_27 (dk_at dksX15_isUnder_0 6 rfl rfl)
theorem dX15_isUnder_7 : decode cX15_isUnder 7 = .ok (.invokespecial 15, 3) := dk_183 0 15 (dk_at dksX15_isUnder_0 7 rfl rfl)
theorem dX15_isUnder_10 : decode cX15_isUnder 10 = .ok (.ifCond .eq 7, 3) := dk_153 0 7 (dk_at dksX15_isUnder_0 10 rfl rfl)
theorem dX15_isUnder_13 : decode cX15_isUnder 13 = .ok (.iconst 1, 1) := dk_4 (dk_at dksX15_isUnder_0 13 rfl rfl)
theorem dX15_isUnder_14 : decode cX15_isUnder 14 = .ok (.goto 4, 3) := dk_167 0 4 (dk_at dksX15_isUnder_0 14 rfl rfl)
theorem dX15_isUnder_17 : decode cX15_isUnder 17 = .ok (.iconst 0, 1) := dk_3 (dk_at dksX15_isUnder_0 17 rfl rfl)
theorem dX15_isUnder_18 : decode cX15_isUnder 18 = .ok (.ireturn, 1) := dk_172 (dk_at dksX15_isUnder_0 18 rfl rfl)
theorem q117 : (Jvm.Cond.initialized "FortyDays$Think") ∈ lw_all := lw_g (lw_at lw_m1 30 rfl) rfl
theorem q570 : (Jvm.Cond.selects "FortyDays$Think" ({ cls := "java/lang/Object", name := "getClass", desc := "()Ljava/lang/Class;" } : Jvm.MethodName) ({ cls := "java/lang/Object", name := "getClass", desc := "()Ljava/lang/Class;" } : Jvm.MethodName)) ∈ lw_all := lw_g (lw_at lw_m3 3 rfl) rfl
theorem q791 : (Jvm.Cond.fieldLink "FortyDays$Think" (25 : Nat) "FortyDays$Think" "v" "I") ∈ lw_all := lw_g (lw_at lw_m3 224 rfl) rfl
theorem q792 : (Jvm.Cond.sameField "FortyDays$Think" "FortyDays$Rule" "v" "I") ∈ lw_all := lw_g (lw_at lw_m3 225 rfl) rfl
theorem q846 : (Jvm.Cond.instantiable "FortyDays$Think" (4 : Nat)) ∈ lw_all := lw_g (lw_at lw_m4 39 rfl) rfl
theorem q848 : (Jvm.Cond.instanceMethod ({ cls := "FortyDays$Think", name := "<init>", desc := "(LFortyDays;I)V" } : Jvm.MethodName)) ∈ lw_all := lw_g (lw_at lw_m4 41 rfl) rfl
theorem q849 : (Jvm.Cond.code ({ cls := "FortyDays$Think", name := "<init>", desc := "(LFortyDays;I)V" } : Jvm.MethodName) prog_15_method_1_code (3 : Nat) (Option.none : Option Jvm.ClassFile.FieldType)) ∈ lw_all := lw_g (lw_at lw_m4 42 rfl) rfl
theorem q850 : (Jvm.Cond.methodLink "FortyDays$Think" (9 : Nat) ({ cls := "FortyDays$Rule", name := "<init>", desc := "(LFortyDays;I)V" } : Jvm.MethodName)) ∈ lw_all := lw_g (lw_at lw_m4 43 rfl) rfl
theorem q851 : (Jvm.Cond.fieldLink "FortyDays$Think" (3 : Nat) "FortyDays$Think" "this$0" "LFortyDays;") ∈ lw_all := lw_g (lw_at lw_m4 44 rfl) rfl
theorem q852 : (Jvm.Cond.laysFinal "FortyDays$Think" "FortyDays$Think" "this$0" "LFortyDays;") ∈ lw_all := lw_g (lw_at lw_m4 45 rfl) rfl
theorem q853 : (Jvm.Cond.soleField "FortyDays$Think" "this$0") ∈ lw_all := lw_g (lw_at lw_m4 46 rfl) rfl
theorem q854 : (Jvm.Cond.laysFinal "FortyDays$Think" "FortyDays$Rule" "number" "I") ∈ lw_all := lw_g (lw_at lw_m4 47 rfl) rfl
theorem q855 : (Jvm.Cond.laysFinal "FortyDays$Think" "FortyDays$Rule" "v" "I") ∈ lw_all := lw_g (lw_at lw_m4 48 rfl) rfl
theorem q856 : (Jvm.Cond.laysFinal "FortyDays$Think" "FortyDays$Rule" "this$0" "LFortyDays;") ∈ lw_all := lw_g (lw_at lw_m4 49 rfl) rfl
theorem q857 : (Jvm.Cond.superclass "FortyDays$Think" "FortyDays$Rule") ∈ lw_all := lw_g (lw_at lw_m4 50 rfl) rfl
theorem q949 : (Jvm.Cond.selects "FortyDays$Think" ({ cls := "FortyDays$Rule", name := "letsIn", desc := "(LFortyDays$Thought;I)Z" } : Jvm.MethodName) ({ cls := "FortyDays$Think", name := "letsIn", desc := "(LFortyDays$Thought;I)Z" } : Jvm.MethodName)) ∈ lw_all := lw_g (lw_at lw_m4 142 rfl) rfl
theorem q950 : (Jvm.Cond.instanceMethod ({ cls := "FortyDays$Think", name := "letsIn", desc := "(LFortyDays$Thought;I)Z" } : Jvm.MethodName)) ∈ lw_all := lw_g (lw_at lw_m4 143 rfl) rfl
theorem q951 : (Jvm.Cond.code ({ cls := "FortyDays$Think", name := "letsIn", desc := "(LFortyDays$Thought;I)Z" } : Jvm.MethodName) prog_15_method_4_code (3 : Nat) (Option.some Jvm.ClassFile.FieldType.boolean)) ∈ lw_all := lw_g (lw_at lw_m4 144 rfl) rfl
theorem q952 : (Jvm.Cond.methodLink "FortyDays$Think" (19 : Nat) ({ cls := "FortyDays$Thought", name := "ill", desc := "()I" } : Jvm.MethodName)) ∈ lw_all := lw_g (lw_at lw_m4 145 rfl) rfl
theorem q991 : (Jvm.Cond.selects "FortyDays$Think" ({ cls := "FortyDays$Rule", name := "letIn", desc := "(I)J" } : Jvm.MethodName) ({ cls := "FortyDays$Rule", name := "letIn", desc := "(I)J" } : Jvm.MethodName)) ∈ lw_all := lw_g (lw_at lw_m4 184 rfl) rfl
theorem q1117 : (Jvm.Cond.selects "FortyDays$Think" ({ cls := "FortyDays$Rule", name := "holds", desc := "(I)I" } : Jvm.MethodName) ({ cls := "FortyDays$Rule", name := "holds", desc := "(I)I" } : Jvm.MethodName)) ∈ lw_all := lw_g (lw_at lw_m5 70 rfl) rfl
theorem q1134 : (Jvm.Cond.sameMethod "FortyDays$Think" "FortyDays$Rule" "lets" "(I)I") ∈ lw_all := lw_g (lw_at lw_m5 87 rfl) rfl
theorem q1143 : (Jvm.Cond.selects "FortyDays$Think" ({ cls := "FortyDays$Rule", name := "lets", desc := "(I)I" } : Jvm.MethodName) ({ cls := "FortyDays$Rule", name := "lets", desc := "(I)I" } : Jvm.MethodName)) ∈ lw_all := lw_g (lw_at lw_m5 96 rfl) rfl
theorem q1152 : (Jvm.Cond.instanceMethod ({ cls := "FortyDays$Think", name := "costs", desc := "(I)I" } : Jvm.MethodName)) ∈ lw_all := lw_g (lw_at lw_m5 105 rfl) rfl
theorem q1153 : (Jvm.Cond.code ({ cls := "FortyDays$Think", name := "costs", desc := "(I)I" } : Jvm.MethodName) prog_15_method_5_code (3 : Nat) (Option.some Jvm.ClassFile.FieldType.int)) ∈ lw_all := lw_g (lw_at lw_m5 106 rfl) rfl
theorem q1154 : (Jvm.Cond.methodLinkNest "FortyDays$Think" (29 : Nat) ({ cls := "FortyDays", name := "body", desc := "(I)V" } : Jvm.MethodName) "FortyDays") ∈ lw_tbl := lw_at lw_m5 107 rfl
theorem q1155 : (Jvm.Cond.methodLink "FortyDays$Think" (33 : Nat) ({ cls := "FortyDays$Rule", name := "costs", desc := "(I)I" } : Jvm.MethodName)) ∈ lw_all := lw_g (lw_at lw_m5 108 rfl) rfl
theorem q1156 : (Jvm.Cond.methodLink "FortyDays$Think" (37 : Nat) ({ cls := "FortyDays$Think", name := "holds", desc := "(I)I" } : Jvm.MethodName)) ∈ lw_all := lw_g (lw_at lw_m5 109 rfl) rfl
theorem q1157 : (Jvm.Cond.sameMethod "FortyDays$Think" "FortyDays$Rule" "holds" "(I)I") ∈ lw_all := lw_g (lw_at lw_m5 110 rfl) rfl
theorem q1159 : (Jvm.Cond.selects "FortyDays$Think" ({ cls := "FortyDays$Think", name := "holds", desc := "(I)I" } : Jvm.MethodName) ({ cls := "FortyDays$Rule", name := "holds", desc := "(I)I" } : Jvm.MethodName)) ∈ lw_all := lw_g (lw_at lw_m5 112 rfl) rfl
theorem q1169 : (Jvm.Cond.selects "FortyDays$Think" ({ cls := "FortyDays$Rule", name := "costs", desc := "(I)I" } : Jvm.MethodName) ({ cls := "FortyDays$Think", name := "costs", desc := "(I)I" } : Jvm.MethodName)) ∈ lw_all := lw_g (lw_at lw_m5 122 rfl) rfl
theorem q1189 : (Jvm.Cond.instanceMethod ({ cls := "FortyDays$Think", name := "isUnder", desc := "(I)Z" } : Jvm.MethodName)) ∈ lw_all := lw_g (lw_at lw_m5 142 rfl) rfl
theorem q1190 : (Jvm.Cond.code ({ cls := "FortyDays$Think", name := "isUnder", desc := "(I)Z" } : Jvm.MethodName) prog_15_method_3_code (2 : Nat) (Option.some Jvm.ClassFile.FieldType.boolean)) ∈ lw_all := lw_g (lw_at lw_m5 143 rfl) rfl
theorem q1191 : (Jvm.Cond.methodLink "FortyDays$Think" (15 : Nat) ({ cls := "FortyDays$Rule", name := "isUnder", desc := "(I)Z" } : Jvm.MethodName)) ∈ lw_all := lw_g (lw_at lw_m5 144 rfl) rfl
theorem q1204 : (Jvm.Cond.selects "FortyDays$Think" ({ cls := "FortyDays$Rule", name := "isUnder", desc := "(I)Z" } : Jvm.MethodName) ({ cls := "FortyDays$Think", name := "isUnder", desc := "(I)Z" } : Jvm.MethodName)) ∈ lw_all := lw_g (lw_at lw_m5 157 rfl) rfl
theorem q1756 : (Jvm.Cond.sameMethod "FortyDays$Think" "FortyDays$Think" "isUnder" "(I)Z") ∈ lw_all := lw_g (lw_at lw_m7 229 rfl) rfl
theorem q1762 : (Jvm.Cond.castable "FortyDays$Think" "FortyDays$Rule") ∈ lw_tbl := lw_at lw_m7 235 rfl
theorem q1780 : (Jvm.Cond.castable "FortyDays$Think" "java/lang/Object") ∈ lw_tbl := lw_at lw_m8 13 rfl
theorem in_X15 : ∀ w ∈ wsX150, w ∈ lw_all := lw_in wsX150 [854, 855, 856, 852] (by decide +kernel) (by decide +kernel)

/-! FortyDays$Told -/
set_option maxRecDepth 100000
def RX16 : String := "FortyDays$Told"
def TX16 : u_T := fun k => match k with
  | 0 => ("FortyDays$Rule", "number", "I", true)
  | 1 => ("FortyDays$Rule", "v", "I", true)
  | 2 => ("FortyDays$Rule", "this$0", "LFortyDays;", true)
  | 3 => ("FortyDays$Told", "row", "[I", true)
  | 4 => ("FortyDays$Told", "many", "I", false)
  | _ => ("FortyDays$Told", "this$0", "LFortyDays;", true)
def tyX16 : Nat → FieldType := fun k => match k with
  | 0 => .int
  | 1 => .int
  | 2 => .object "FortyDays"
  | 3 => .array .int
  | 4 => .int
  | _ => .object "FortyDays"
abbrev wsX160 : List Cond := u_ws RX16 TX16 6
-- two fields of one name: no nmX16
theorem tyX16_ok : ∀ k, k < 6 → parseFieldDescriptor (TX16 k).2.2.1 = some (tyX16 k) := by decide +kernel
abbrev cX16_init : ByteArray := prog_17_method_1_code
def yX16_init : MethodName := ⟨RX16, "<init>", "(LFortyDays;I)V"⟩
def dkwX16_init_0 : List UInt8 := [42, 43, 181, 0, 3, 42, 43, 28, 183, 0, 9, 42, 16, 10, 188, 10, 181, 0, 15, 177]
abbrev dktX16_init_0 : List UInt8 := dkwX16_init_0 ++ []
theorem dksX16_init_0 : cX16_init.data.toList.drop 0 = dktX16_init_0 := by decide +kernel
theorem dX16_init_0 : decode cX16_init 0 = .ok (.aload_n 0, 1) := dk_42 (dk_at dksX16_init_0 0 rfl rfl)
theorem dX16_init_1 : decode cX16_init 1 = .ok (.aload_n 1, 1) := dk_43 (dk_at dksX16_init_0 1 rfl rfl)
theorem dX16_init_2 : decode cX16_init 2 = .ok (.putfield 3, 3) := dk_181 0 3 (dk_at dksX16_init_0 2 rfl rfl)
theorem dX16_init_5 : decode cX16_init 5 = .ok (.aload_n 0, 1) := dk_42 (dk_at dksX16_init_0 5 rfl rfl)
theorem dX16_init_6 : decode cX16_init 6 = .ok (.aload_n 1, 1) := dk_43 (dk_at dksX16_init_0 6 rfl rfl)
theorem dX16_init_7 : decode cX16_init 7 = .ok (.iload_n 2, 1) := dk_28 (dk_at dksX16_init_0 7 rfl rfl)
theorem dX16_init_8 : decode cX16_init 8 = .ok (.invokespecial 9, 3) := dk_183 0 9 (dk_at dksX16_init_0 8 rfl rfl)
theorem dX16_init_11 : decode cX16_init 11 = .ok (.aload_n 0, 1) := dk_42 (dk_at dksX16_init_0 11 rfl rfl)
theorem dX16_init_12 : decode cX16_init 12 = .ok (.bipush 10, 2) := dk_16 10 (dk_at dksX16_init_0 12 rfl rfl)
theorem dX16_init_14 : decode cX16_init 14 = .ok (.newarray .int, 2) := dk_188_10 (dk_at dksX16_init_0 14 rfl rfl)
theorem dX16_init_16 : decode cX16_init 16 = .ok (.putfield 15, 3) := dk_181 0 15 (dk_at dksX16_init_0 16 rfl rfl)
theorem dX16_init_19 : decode cX16_init 19 = .ok (.return_, 1) := dk_177 (dk_at dksX16_init_0 19 rfl rfl)
abbrev cX16_letsIn : ByteArray := prog_17_method_4_code
def yX16_letsIn : MethodName := ⟨RX16, "letsIn", "(LFortyDays$Thought;I)Z"⟩
def dkwX16_letsIn_0 : List UInt8 := [28, 42, 180, 0, 23, 162, 0, 13, 42, 180, 0, 15, 28, 46, 4, 160, 0, 7, 4, 167, 0, 4, 3, 172]
abbrev dktX16_letsIn_0 : List UInt8 := dkwX16_letsIn_0 ++ []
theorem dksX16_letsIn_0 : cX16_letsIn.data.toList.drop 0 = dktX16_letsIn_0 := by decide +kernel
theorem dX16_letsIn_0 : decode cX16_letsIn 0 = .ok (.iload_n 2, 1) := dk_28 (dk_at dksX16_letsIn_0 0 rfl rfl)
theorem dX16_letsIn_1 : decode cX16_letsIn 1 = .ok (.aload_n 0, 1) := dk_42 (dk_at dksX16_letsIn_0 1 rfl rfl)
theorem dX16_letsIn_2 : decode cX16_letsIn 2 = .ok (.getfield 23, 3) := dk_180 0 23 (dk_at dksX16_letsIn_0 2 rfl rfl)
theorem dX16_letsIn_5 : decode cX16_letsIn 5 = .ok (.if_icmp .ge 13, 3) := dk_162 0 13 (dk_at dksX16_letsIn_0 5 rfl rfl)
theorem dX16_letsIn_8 : decode cX16_letsIn 8 = .ok (.aload_n 0, 1) := dk_42 (dk_at dksX16_letsIn_0 8 rfl rfl)
theorem dX16_letsIn_9 : decode cX16_letsIn 9 = .ok (.getfield 15, 3) := dk_180 0 15 (dk_at dksX16_letsIn_0 9 rfl rfl)
theorem dX16_letsIn_12 : decode cX16_letsIn 12 = .ok (.iload_n 2, 1) := dk_28 (dk_at dksX16_letsIn_0 12 rfl rfl)
theorem dX16_letsIn_13 : decode cX16_letsIn 13 = .ok (.iaload, 1) := dk_46 (dk_at dksX16_letsIn_0 13 rfl rfl)
theorem dX16_letsIn_14 : decode cX16_letsIn 14 = .ok (.iconst 1, 1) := dk_4 (dk_at dksX16_letsIn_0 14 rfl rfl)
theorem dX16_letsIn_15 : decode cX16_letsIn 15 = .ok (.if_icmp .ne 7, 3) := dk_160 0 7 (dk_at dksX16_letsIn_0 15 rfl rfl)
theorem dX16_letsIn_18 : decode cX16_letsIn 18 = .ok (.iconst 1, 1) := dk_4 (dk_at dksX16_letsIn_0 18 rfl rfl)
theorem dX16_letsIn_19 : decode cX16_letsIn 19 = .ok (.goto 4, 3) := dk_167 0 4 (dk_at dksX16_letsIn_0 19 rfl rfl)
theorem dX16_letsIn_22 : decode cX16_letsIn 22 = .ok (.iconst 0, 1) := dk_3 (dk_at dksX16_letsIn_0 22 rfl rfl)
theorem dX16_letsIn_23 : decode cX16_letsIn 23 = .ok (.ireturn, 1) := dk_172 (dk_at dksX16_letsIn_0 23 rfl rfl)
abbrev cX16_holds : ByteArray := prog_17_method_5_code
def yX16_holds : MethodName := ⟨RX16, "holds", "(I)I"⟩
def dkwX16_holds_0 : List UInt8 := [42, 180, 0, 3, 16, 51, 182, 0, 27, 42, 27, 183, 0, 31, 42, 180, 0, 35, 130, 172]
abbrev dktX16_holds_0 : List UInt8 := dkwX16_holds_0 ++ []
theorem dksX16_holds_0 : cX16_holds.data.toList.drop 0 = dktX16_holds_0 := by decide +kernel
theorem dX16_holds_0 : decode cX16_holds 0 = .ok (.aload_n 0, 1) := dk_42 (dk_at dksX16_holds_0 0 rfl rfl)
theorem dX16_holds_1 : decode cX16_holds 1 = .ok (.getfield 3, 3) := dk_180 0 3 (dk_at dksX16_holds_0 1 rfl rfl)
theorem dX16_holds_4 : decode cX16_holds 4 = .ok (.bipush 51, 2) := dk_16 51 (dk_at dksX16_holds_0 4 rfl rfl)
theorem dX16_holds_6 : decode cX16_holds 6 = .ok (.invokevirtual 27, 3) := dk_182 0 27 (dk_at dksX16_holds_0 6 rfl rfl)
theorem dX16_holds_9 : decode cX16_holds 9 = .ok (.aload_n 0, 1) := dk_42 (dk_at dksX16_holds_0 9 rfl rfl)
theorem dX16_holds_10 : decode cX16_holds 10 = .ok (.iload_n 1, 1) := dk_27 (dk_at dksX16_holds_0 10 rfl rfl)
theorem dX16_holds_11 : decode cX16_holds 11 = .ok (.invokespecial 31, 3) := dk_183 0 31 (dk_at dksX16_holds_0 11 rfl rfl)
theorem dX16_holds_14 : decode cX16_holds 14 = .ok (.aload_n 0, 1) := dk_42 (dk_at dksX16_holds_0 14 rfl rfl)
theorem dX16_holds_15 : decode cX16_holds 15 = .ok (.getfield 35, 3) := dk_180 0 35 (dk_at dksX16_holds_0 15 rfl rfl)
theorem dX16_holds_18 : decode cX16_holds 18 = .ok (.ixor, 1) := dk_130 (dk_at dksX16_holds_0 18 rfl rfl)
theorem dX16_holds_19 : decode cX16_holds 19 = .ok (.ireturn, 1) := dk_172 (dk_at dksX16_holds_0 19 rfl rfl)
abbrev cX16_isUnder : ByteArray := prog_17_method_3_code
def yX16_isUnder : MethodName := ⟨RX16, "isUnder", "(I)Z"⟩
def dkwX16_isUnder_0 : List UInt8 := [27, 8, 159, 0, 11, 42, 27, 183, 0, 19, 153, 0, 7, 4, 167, 0, 4, 3, 172]
abbrev dktX16_isUnder_0 : List UInt8 := dkwX16_isUnder_0 ++ []
theorem dksX16_isUnder_0 : cX16_isUnder.data.toList.drop 0 = dktX16_isUnder_0 := by decide +kernel
theorem dX16_isUnder_0 : decode cX16_isUnder 0 = .ok (.iload_n 1, 1) := dk_27 (dk_at dksX16_isUnder_0 0 rfl rfl)
theorem dX16_isUnder_1 : decode cX16_isUnder 1 = .ok (.iconst 5, 1) := dk_8 (dk_at dksX16_isUnder_0 1 rfl rfl)
theorem dX16_isUnder_2 : decode cX16_isUnder 2 = .ok (.if_icmp .eq 11, 3) := dk_159 0 11 (dk_at dksX16_isUnder_0 2 rfl rfl)
theorem dX16_isUnder_5 : decode cX16_isUnder 5 = .ok (.aload_n 0, 1) := dk_42 (dk_at dksX16_isUnder_0 5 rfl rfl)
theorem dX16_isUnder_6 : decode cX16_isUnder 6 = .ok (.iload_n 1, 1) := dk_27 (dk_at dksX16_isUnder_0 6 rfl rfl)
theorem dX16_isUnder_7 : decode cX16_isUnder 7 = .ok (.invokespecial 19, 3) := dk_183 0 19 (dk_at dksX16_isUnder_0 7 rfl rfl)
theorem dX16_isUnder_10 : decode cX16_isUnder 10 = .ok (.ifCond .eq 7, 3) := dk_153 0 7 (dk_at dksX16_isUnder_0 10 rfl rfl)
theorem dX16_isUnder_13 : decode cX16_isUnder 13 = .ok (.iconst 1, 1) := dk_4 (dk_at dksX16_isUnder_0 13 rfl rfl)
theorem dX16_isUnder_14 : decode cX16_isUnder 14 = .ok (.goto 4, 3) := dk_167 0 4 (dk_at dksX16_isUnder_0 14 rfl rfl)
theorem dX16_isUnder_17 : decode cX16_isUnder 17 = .ok (.iconst 0, 1) := dk_3 (dk_at dksX16_isUnder_0 17 rfl rfl)
theorem dX16_isUnder_18 : decode cX16_isUnder 18 = .ok (.ireturn, 1) := dk_172 (dk_at dksX16_isUnder_0 18 rfl rfl)
theorem q118 : (Jvm.Cond.initialized "FortyDays$Told") ∈ lw_all := lw_g (lw_at lw_m1 31 rfl) rfl
theorem q572 : (Jvm.Cond.selects "FortyDays$Told" ({ cls := "java/lang/Object", name := "getClass", desc := "()Ljava/lang/Class;" } : Jvm.MethodName) ({ cls := "java/lang/Object", name := "getClass", desc := "()Ljava/lang/Class;" } : Jvm.MethodName)) ∈ lw_all := lw_g (lw_at lw_m3 5 rfl) rfl
theorem q782 : (Jvm.Cond.fieldLink "FortyDays$Told" (35 : Nat) "FortyDays$Told" "number" "I") ∈ lw_all := lw_g (lw_at lw_m3 215 rfl) rfl
theorem q783 : (Jvm.Cond.sameField "FortyDays$Told" "FortyDays$Rule" "number" "I") ∈ lw_all := lw_g (lw_at lw_m3 216 rfl) rfl
theorem q859 : (Jvm.Cond.instantiable "FortyDays$Told" (6 : Nat)) ∈ lw_all := lw_g (lw_at lw_m4 52 rfl) rfl
theorem q861 : (Jvm.Cond.instanceMethod ({ cls := "FortyDays$Told", name := "<init>", desc := "(LFortyDays;I)V" } : Jvm.MethodName)) ∈ lw_all := lw_g (lw_at lw_m4 54 rfl) rfl
theorem q862 : (Jvm.Cond.code ({ cls := "FortyDays$Told", name := "<init>", desc := "(LFortyDays;I)V" } : Jvm.MethodName) prog_17_method_1_code (3 : Nat) (Option.none : Option Jvm.ClassFile.FieldType)) ∈ lw_all := lw_g (lw_at lw_m4 55 rfl) rfl
theorem q863 : (Jvm.Cond.methodLink "FortyDays$Told" (9 : Nat) ({ cls := "FortyDays$Rule", name := "<init>", desc := "(LFortyDays;I)V" } : Jvm.MethodName)) ∈ lw_all := lw_g (lw_at lw_m4 56 rfl) rfl
theorem q864 : (Jvm.Cond.fieldLink "FortyDays$Told" (15 : Nat) "FortyDays$Told" "row" "[I") ∈ lw_all := lw_g (lw_at lw_m4 57 rfl) rfl
theorem q867 : (Jvm.Cond.fieldLink "FortyDays$Told" (23 : Nat) "FortyDays$Told" "many" "I") ∈ lw_all := lw_g (lw_at lw_m4 60 rfl) rfl
theorem q869 : (Jvm.Cond.fieldLink "FortyDays$Told" (3 : Nat) "FortyDays$Told" "this$0" "LFortyDays;") ∈ lw_all := lw_g (lw_at lw_m4 62 rfl) rfl
theorem q870 : (Jvm.Cond.laysFinal "FortyDays$Told" "FortyDays$Told" "row" "[I") ∈ lw_all := lw_g (lw_at lw_m4 63 rfl) rfl
theorem q871 : (Jvm.Cond.soleField "FortyDays$Told" "row") ∈ lw_all := lw_g (lw_at lw_m4 64 rfl) rfl
theorem q872 : (Jvm.Cond.lays "FortyDays$Told" "FortyDays$Told" "many" "I") ∈ lw_all := lw_g (lw_at lw_m4 65 rfl) rfl
theorem q873 : (Jvm.Cond.soleField "FortyDays$Told" "many") ∈ lw_all := lw_g (lw_at lw_m4 66 rfl) rfl
theorem q874 : (Jvm.Cond.laysFinal "FortyDays$Told" "FortyDays$Told" "this$0" "LFortyDays;") ∈ lw_all := lw_g (lw_at lw_m4 67 rfl) rfl
theorem q875 : (Jvm.Cond.soleField "FortyDays$Told" "this$0") ∈ lw_all := lw_g (lw_at lw_m4 68 rfl) rfl
theorem q876 : (Jvm.Cond.laysFinal "FortyDays$Told" "FortyDays$Rule" "number" "I") ∈ lw_all := lw_g (lw_at lw_m4 69 rfl) rfl
theorem q877 : (Jvm.Cond.laysFinal "FortyDays$Told" "FortyDays$Rule" "v" "I") ∈ lw_all := lw_g (lw_at lw_m4 70 rfl) rfl
theorem q878 : (Jvm.Cond.laysFinal "FortyDays$Told" "FortyDays$Rule" "this$0" "LFortyDays;") ∈ lw_all := lw_g (lw_at lw_m4 71 rfl) rfl
theorem q879 : (Jvm.Cond.superclass "FortyDays$Told" "FortyDays$Rule") ∈ lw_all := lw_g (lw_at lw_m4 72 rfl) rfl
theorem q953 : (Jvm.Cond.selects "FortyDays$Told" ({ cls := "FortyDays$Rule", name := "letsIn", desc := "(LFortyDays$Thought;I)Z" } : Jvm.MethodName) ({ cls := "FortyDays$Told", name := "letsIn", desc := "(LFortyDays$Thought;I)Z" } : Jvm.MethodName)) ∈ lw_all := lw_g (lw_at lw_m4 146 rfl) rfl
theorem q954 : (Jvm.Cond.instanceMethod ({ cls := "FortyDays$Told", name := "letsIn", desc := "(LFortyDays$Thought;I)Z" } : Jvm.MethodName)) ∈ lw_all := lw_g (lw_at lw_m4 147 rfl) rfl
theorem q955 : (Jvm.Cond.code ({ cls := "FortyDays$Told", name := "letsIn", desc := "(LFortyDays$Thought;I)Z" } : Jvm.MethodName) prog_17_method_4_code (3 : Nat) (Option.some Jvm.ClassFile.FieldType.boolean)) ∈ lw_all := lw_g (lw_at lw_m4 148 rfl) rfl
theorem q992 : (Jvm.Cond.selects "FortyDays$Told" ({ cls := "FortyDays$Rule", name := "letIn", desc := "(I)J" } : Jvm.MethodName) ({ cls := "FortyDays$Rule", name := "letIn", desc := "(I)J" } : Jvm.MethodName)) ∈ lw_all := lw_g (lw_at lw_m4 185 rfl) rfl
theorem q1118 : (Jvm.Cond.selects "FortyDays$Told" ({ cls := "FortyDays$Rule", name := "holds", desc := "(I)I" } : Jvm.MethodName) ({ cls := "FortyDays$Told", name := "holds", desc := "(I)I" } : Jvm.MethodName)) ∈ lw_all := lw_g (lw_at lw_m5 71 rfl) rfl
theorem q1119 : (Jvm.Cond.instanceMethod ({ cls := "FortyDays$Told", name := "holds", desc := "(I)I" } : Jvm.MethodName)) ∈ lw_all := lw_g (lw_at lw_m5 72 rfl) rfl
theorem q1120 : (Jvm.Cond.code ({ cls := "FortyDays$Told", name := "holds", desc := "(I)I" } : Jvm.MethodName) prog_17_method_5_code (2 : Nat) (Option.some Jvm.ClassFile.FieldType.int)) ∈ lw_all := lw_g (lw_at lw_m5 73 rfl) rfl
theorem q1121 : (Jvm.Cond.methodLinkNest "FortyDays$Told" (27 : Nat) ({ cls := "FortyDays", name := "body", desc := "(I)V" } : Jvm.MethodName) "FortyDays") ∈ lw_tbl := lw_at lw_m5 74 rfl
theorem q1122 : (Jvm.Cond.methodLink "FortyDays$Told" (31 : Nat) ({ cls := "FortyDays$Rule", name := "holds", desc := "(I)I" } : Jvm.MethodName)) ∈ lw_all := lw_g (lw_at lw_m5 75 rfl) rfl
theorem q1144 : (Jvm.Cond.selects "FortyDays$Told" ({ cls := "FortyDays$Rule", name := "lets", desc := "(I)I" } : Jvm.MethodName) ({ cls := "FortyDays$Rule", name := "lets", desc := "(I)I" } : Jvm.MethodName)) ∈ lw_all := lw_g (lw_at lw_m5 97 rfl) rfl
theorem q1170 : (Jvm.Cond.selects "FortyDays$Told" ({ cls := "FortyDays$Rule", name := "costs", desc := "(I)I" } : Jvm.MethodName) ({ cls := "FortyDays$Rule", name := "costs", desc := "(I)I" } : Jvm.MethodName)) ∈ lw_all := lw_g (lw_at lw_m5 123 rfl) rfl
theorem q1205 : (Jvm.Cond.selects "FortyDays$Told" ({ cls := "FortyDays$Rule", name := "isUnder", desc := "(I)Z" } : Jvm.MethodName) ({ cls := "FortyDays$Told", name := "isUnder", desc := "(I)Z" } : Jvm.MethodName)) ∈ lw_all := lw_g (lw_at lw_m5 158 rfl) rfl
theorem q1206 : (Jvm.Cond.instanceMethod ({ cls := "FortyDays$Told", name := "isUnder", desc := "(I)Z" } : Jvm.MethodName)) ∈ lw_all := lw_g (lw_at lw_m5 159 rfl) rfl
theorem q1207 : (Jvm.Cond.code ({ cls := "FortyDays$Told", name := "isUnder", desc := "(I)Z" } : Jvm.MethodName) prog_17_method_3_code (2 : Nat) (Option.some Jvm.ClassFile.FieldType.boolean)) ∈ lw_all := lw_g (lw_at lw_m5 160 rfl) rfl
theorem q1208 : (Jvm.Cond.methodLink "FortyDays$Told" (19 : Nat) ({ cls := "FortyDays$Rule", name := "isUnder", desc := "(I)Z" } : Jvm.MethodName)) ∈ lw_all := lw_g (lw_at lw_m5 161 rfl) rfl
theorem q1763 : (Jvm.Cond.castable "FortyDays$Told" "FortyDays$Rule") ∈ lw_tbl := lw_at lw_m7 236 rfl
theorem q1781 : (Jvm.Cond.castable "FortyDays$Told" "java/lang/Object") ∈ lw_tbl := lw_at lw_m8 14 rfl
theorem in_X16 : ∀ w ∈ wsX160, w ∈ lw_all := lw_in wsX160 [876, 877, 878, 870, 872, 874] (by decide +kernel) (by decide +kernel)

/-! FortyDays$Best -/
set_option maxRecDepth 100000
def RX17 : String := "FortyDays$Best"
def TX17 : u_T := fun k => match k with
  | 0 => ("FortyDays$Rule", "number", "I", true)
  | 1 => ("FortyDays$Rule", "v", "I", true)
  | 2 => ("FortyDays$Rule", "this$0", "LFortyDays;", true)
  | 3 => ("FortyDays$Think", "this$0", "LFortyDays;", true)
  | _ => ("FortyDays$Best", "this$0", "LFortyDays;", true)
def tyX17 : Nat → FieldType := fun k => match k with
  | 0 => .int
  | 1 => .int
  | 2 => .object "FortyDays"
  | 3 => .object "FortyDays"
  | _ => .object "FortyDays"
abbrev wsX170 : List Cond := u_ws RX17 TX17 5
-- two fields of one name: no nmX17
theorem tyX17_ok : ∀ k, k < 5 → parseFieldDescriptor (TX17 k).2.2.1 = some (tyX17 k) := by decide +kernel
abbrev cX17_init : ByteArray := prog_3_method_1_code
def yX17_init : MethodName := ⟨RX17, "<init>", "(LFortyDays;I)V"⟩
def dkwX17_init_0 : List UInt8 := [42, 43, 181, 0, 3, 42, 43, 28, 183, 0, 9, 177]
abbrev dktX17_init_0 : List UInt8 := dkwX17_init_0 ++ []
theorem dksX17_init_0 : cX17_init.data.toList.drop 0 = dktX17_init_0 := by decide +kernel
theorem dX17_init_0 : decode cX17_init 0 = .ok (.aload_n 0, 1) := dk_42 (dk_at dksX17_init_0 0 rfl rfl)
theorem dX17_init_1 : decode cX17_init 1 = .ok (.aload_n 1, 1) := dk_43 (dk_at dksX17_init_0 1 rfl rfl)
theorem dX17_init_2 : decode cX17_init 2 = .ok (.putfield 3, 3) := dk_181 0 3 (dk_at dksX17_init_0 2 rfl rfl)
theorem dX17_init_5 : decode cX17_init 5 = .ok (.aload_n 0, 1) := dk_42 (dk_at dksX17_init_0 5 rfl rfl)
theorem dX17_init_6 : decode cX17_init 6 = .ok (.aload_n 1, 1) := dk_43 (dk_at dksX17_init_0 6 rfl rfl)
theorem dX17_init_7 : decode cX17_init 7 = .ok (.iload_n 2, 1) := dk_28 (dk_at dksX17_init_0 7 rfl rfl)
theorem dX17_init_8 : decode cX17_init 8 = .ok (.invokespecial 9, 3) := dk_183 0 9 (dk_at dksX17_init_0 8 rfl rfl)
theorem dX17_init_11 : decode cX17_init 11 = .ok (.return_, 1) := dk_177 (dk_at dksX17_init_0 11 rfl rfl)
abbrev cX17_letsIn : ByteArray := prog_3_method_4_code
def yX17_letsIn : MethodName := ⟨RX17, "letsIn", "(LFortyDays$Thought;I)Z"⟩
def dkwX17_letsIn_0 : List UInt8 := [42, 180, 0, 3, 180, 0, 19, 43, 28, 4, 42, 180, 0, 23, 16, 9, 112, 96, 182, 0, 27, 172]
abbrev dktX17_letsIn_0 : List UInt8 := dkwX17_letsIn_0 ++ []
theorem dksX17_letsIn_0 : cX17_letsIn.data.toList.drop 0 = dktX17_letsIn_0 := by decide +kernel
theorem dX17_letsIn_0 : decode cX17_letsIn 0 = .ok (.aload_n 0, 1) := dk_42 (dk_at dksX17_letsIn_0 0 rfl rfl)
theorem dX17_letsIn_1 : decode cX17_letsIn 1 = .ok (.getfield 3, 3) := dk_180 0 3 (dk_at dksX17_letsIn_0 1 rfl rfl)
theorem dX17_letsIn_4 : decode cX17_letsIn 4 = .ok (.getfield 19, 3) := dk_180 0 19 (dk_at dksX17_letsIn_0 4 rfl rfl)
theorem dX17_letsIn_7 : decode cX17_letsIn 7 = .ok (.aload_n 1, 1) := dk_43 (dk_at dksX17_letsIn_0 7 rfl rfl)
theorem dX17_letsIn_8 : decode cX17_letsIn 8 = .ok (.iload_n 2, 1) := dk_28 (dk_at dksX17_letsIn_0 8 rfl rfl)
theorem dX17_letsIn_9 : decode cX17_letsIn 9 = .ok (.iconst 1, 1) := dk_4 (dk_at dksX17_letsIn_0 9 rfl rfl)
theorem dX17_letsIn_10 : decode cX17_letsIn 10 = .ok (.aload_n 0, 1) := dk_42 (dk_at dksX17_letsIn_0 10 rfl rfl)
theorem dX17_letsIn_11 : decode cX17_letsIn 11 = .ok (.getfield 23, 3) := dk_180 0 23 (dk_at dksX17_letsIn_0 11 rfl rfl)
theorem dX17_letsIn_14 : decode cX17_letsIn 14 = .ok (.bipush 9, 2) := dk_16 9 (dk_at dksX17_letsIn_0 14 rfl rfl)
theorem dX17_letsIn_16 : decode cX17_letsIn 16 = .ok (.irem, 1) := dk_112 (dk_at dksX17_letsIn_0 16 rfl rfl)
theorem dX17_letsIn_17 : decode cX17_letsIn 17 = .ok (.iadd, 1) := dk_96 (dk_at dksX17_letsIn_0 17 rfl rfl)
theorem dX17_letsIn_18 : decode cX17_letsIn 18 = .ok (.invokevirtual 27, 3) := dk_182 0 27 (dk_at dksX17_letsIn_0 18 rfl rfl)
theorem dX17_letsIn_21 : decode cX17_letsIn 21 = .ok (.ireturn, 1) := dk_172 (dk_at dksX17_letsIn_0 21 rfl rfl)
abbrev cX17_lets : ByteArray := prog_3_method_5_code
def yX17_lets : MethodName := ⟨RX17, "lets", "(I)I"⟩
def dkwX17_lets_0 : List UInt8 := [42, 180, 0, 3, 16, 61, 182, 0, 33, 42, 27, 183, 0, 37, 42, 180, 0, 23, 96, 172]
abbrev dktX17_lets_0 : List UInt8 := dkwX17_lets_0 ++ []
theorem dksX17_lets_0 : cX17_lets.data.toList.drop 0 = dktX17_lets_0 := by decide +kernel
theorem dX17_lets_0 : decode cX17_lets 0 = .ok (.aload_n 0, 1) := dk_42 (dk_at dksX17_lets_0 0 rfl rfl)
theorem dX17_lets_1 : decode cX17_lets 1 = .ok (.getfield 3, 3) := dk_180 0 3 (dk_at dksX17_lets_0 1 rfl rfl)
theorem dX17_lets_4 : decode cX17_lets 4 = .ok (.bipush 61, 2) := dk_16 61 (dk_at dksX17_lets_0 4 rfl rfl)
theorem dX17_lets_6 : decode cX17_lets 6 = .ok (.invokevirtual 33, 3) := dk_182 0 33 (dk_at dksX17_lets_0 6 rfl rfl)
theorem dX17_lets_9 : decode cX17_lets 9 = .ok (.aload_n 0, 1) := dk_42 (dk_at dksX17_lets_0 9 rfl rfl)
theorem dX17_lets_10 : decode cX17_lets 10 = .ok (.iload_n 1, 1) := dk_27 (dk_at dksX17_lets_0 10 rfl rfl)
theorem dX17_lets_11 : decode cX17_lets 11 = .ok (.invokespecial 37, 3) := dk_183 0 37 (dk_at dksX17_lets_0 11 rfl rfl)
theorem dX17_lets_14 : decode cX17_lets 14 = .ok (.aload_n 0, 1) := dk_42 (dk_at dksX17_lets_0 14 rfl rfl)
theorem dX17_lets_15 : decode cX17_lets 15 = .ok (.getfield 23, 3) := dk_180 0 23 (dk_at dksX17_lets_0 15 rfl rfl)
theorem dX17_lets_18 : decode cX17_lets 18 = .ok (.iadd, 1) := dk_96 (dk_at dksX17_lets_0 18 rfl rfl)
theorem dX17_lets_19 : decode cX17_lets 19 = .ok (.ireturn, 1) := dk_172 (dk_at dksX17_lets_0 19 rfl rfl)
abbrev cX17_isUnder : ByteArray := prog_3_method_3_code
def yX17_isUnder : MethodName := ⟨RX17, "isUnder", "(I)Z"⟩
def dkwX17_isUnder_0 : List UInt8 := [27, 16, 6, 159, 0, 11, 42, 27, 183, 0, 15, 153, 0, 7, 4, 167, 0, 4, 3, 172]
abbrev dktX17_isUnder_0 : List UInt8 := dkwX17_isUnder_0 ++ []
theorem dksX17_isUnder_0 : cX17_isUnder.data.toList.drop 0 = dktX17_isUnder_0 := by decide +kernel
theorem dX17_isUnder_0 : decode cX17_isUnder 0 = .ok (.iload_n 1, 1) := dk_27 (dk_at dksX17_isUnder_0 0 rfl rfl)
theorem dX17_isUnder_1 : decode cX17_isUnder 1 = .ok (.bipush 6, 2) := dk_16 6 (dk_at dksX17_isUnder_0 1 rfl rfl)
theorem dX17_isUnder_3 : decode cX17_isUnder 3 = .ok (.if_icmp .eq 11, 3) := dk_159 0 11 (dk_at dksX17_isUnder_0 3 rfl rfl)
theorem dX17_isUnder_6 : decode cX17_isUnder 6 = .ok (.aload_n 0, 1) := dk_42 (dk_at dksX17_isUnder_0 6 rfl rfl)
theorem dX17_isUnder_7 : decode cX17_isUnder 7 = .ok (.iload_n 1, 1) := dk_27 (dk_at dksX17_isUnder_0 7 rfl rfl)
theorem dX17_isUnder_8 : decode cX17_isUnder 8 = .ok (.invokespecial 15, 3) := dk_183 0 15 (dk_at dksX17_isUnder_0 8 rfl rfl)
theorem dX17_isUnder_11 : decode cX17_isUnder 11 = .ok (.ifCond .eq 7, 3) := dk_153 0 7 (dk_at dksX17_isUnder_0 11 rfl rfl)
theorem dX17_isUnder_14 : decode cX17_isUnder 14 = .ok (.iconst 1, 1) := dk_4 (dk_at dksX17_isUnder_0 14 rfl rfl)
theorem dX17_isUnder_15 : decode cX17_isUnder 15 = .ok (.goto 4, 3) := dk_167 0 4 (dk_at dksX17_isUnder_0 15 rfl rfl)
theorem dX17_isUnder_18 : decode cX17_isUnder 18 = .ok (.iconst 0, 1) := dk_3 (dk_at dksX17_isUnder_0 18 rfl rfl)
theorem dX17_isUnder_19 : decode cX17_isUnder 19 = .ok (.ireturn, 1) := dk_172 (dk_at dksX17_isUnder_0 19 rfl rfl)
theorem q119 : (Jvm.Cond.initialized "FortyDays$Best") ∈ lw_all := lw_g (lw_at lw_m1 32 rfl) rfl
theorem q267 : (Jvm.Cond.fieldLinkNest "FortyDays$Best" (19 : Nat) "FortyDays" "beside" "LFortyDays$Beside;" "FortyDays") ∈ lw_tbl := lw_at lw_m1 180 rfl
theorem q559 : (Jvm.Cond.selects "FortyDays$Best" ({ cls := "java/lang/Object", name := "getClass", desc := "()Ljava/lang/Class;" } : Jvm.MethodName) ({ cls := "java/lang/Object", name := "getClass", desc := "()Ljava/lang/Class;" } : Jvm.MethodName)) ∈ lw_all := lw_g (lw_at lw_m2 232 rfl) rfl
theorem q793 : (Jvm.Cond.fieldLink "FortyDays$Best" (23 : Nat) "FortyDays$Best" "v" "I") ∈ lw_all := lw_g (lw_at lw_m3 226 rfl) rfl
theorem q794 : (Jvm.Cond.sameField "FortyDays$Best" "FortyDays$Rule" "v" "I") ∈ lw_all := lw_g (lw_at lw_m3 227 rfl) rfl
theorem q881 : (Jvm.Cond.instantiable "FortyDays$Best" (5 : Nat)) ∈ lw_all := lw_g (lw_at lw_m4 74 rfl) rfl
theorem q883 : (Jvm.Cond.instanceMethod ({ cls := "FortyDays$Best", name := "<init>", desc := "(LFortyDays;I)V" } : Jvm.MethodName)) ∈ lw_all := lw_g (lw_at lw_m4 76 rfl) rfl
theorem q884 : (Jvm.Cond.code ({ cls := "FortyDays$Best", name := "<init>", desc := "(LFortyDays;I)V" } : Jvm.MethodName) prog_3_method_1_code (3 : Nat) (Option.none : Option Jvm.ClassFile.FieldType)) ∈ lw_all := lw_g (lw_at lw_m4 77 rfl) rfl
theorem q885 : (Jvm.Cond.methodLink "FortyDays$Best" (9 : Nat) ({ cls := "FortyDays$Think", name := "<init>", desc := "(LFortyDays;I)V" } : Jvm.MethodName)) ∈ lw_all := lw_g (lw_at lw_m4 78 rfl) rfl
theorem q886 : (Jvm.Cond.fieldLink "FortyDays$Best" (3 : Nat) "FortyDays$Best" "this$0" "LFortyDays;") ∈ lw_all := lw_g (lw_at lw_m4 79 rfl) rfl
theorem q887 : (Jvm.Cond.laysFinal "FortyDays$Best" "FortyDays$Best" "this$0" "LFortyDays;") ∈ lw_all := lw_g (lw_at lw_m4 80 rfl) rfl
theorem q888 : (Jvm.Cond.soleField "FortyDays$Best" "this$0") ∈ lw_all := lw_g (lw_at lw_m4 81 rfl) rfl
theorem q889 : (Jvm.Cond.laysFinal "FortyDays$Best" "FortyDays$Think" "this$0" "LFortyDays;") ∈ lw_all := lw_g (lw_at lw_m4 82 rfl) rfl
theorem q890 : (Jvm.Cond.laysFinal "FortyDays$Best" "FortyDays$Rule" "number" "I") ∈ lw_all := lw_g (lw_at lw_m4 83 rfl) rfl
theorem q891 : (Jvm.Cond.laysFinal "FortyDays$Best" "FortyDays$Rule" "v" "I") ∈ lw_all := lw_g (lw_at lw_m4 84 rfl) rfl
theorem q892 : (Jvm.Cond.laysFinal "FortyDays$Best" "FortyDays$Rule" "this$0" "LFortyDays;") ∈ lw_all := lw_g (lw_at lw_m4 85 rfl) rfl
theorem q893 : (Jvm.Cond.superclass "FortyDays$Best" "FortyDays$Think") ∈ lw_all := lw_g (lw_at lw_m4 86 rfl) rfl
theorem q910 : (Jvm.Cond.selects "FortyDays$Best" ({ cls := "FortyDays$Rule", name := "letsIn", desc := "(LFortyDays$Thought;I)Z" } : Jvm.MethodName) ({ cls := "FortyDays$Best", name := "letsIn", desc := "(LFortyDays$Thought;I)Z" } : Jvm.MethodName)) ∈ lw_all := lw_g (lw_at lw_m4 103 rfl) rfl
theorem q911 : (Jvm.Cond.instanceMethod ({ cls := "FortyDays$Best", name := "letsIn", desc := "(LFortyDays$Thought;I)Z" } : Jvm.MethodName)) ∈ lw_all := lw_g (lw_at lw_m4 104 rfl) rfl
theorem q912 : (Jvm.Cond.code ({ cls := "FortyDays$Best", name := "letsIn", desc := "(LFortyDays$Thought;I)Z" } : Jvm.MethodName) prog_3_method_4_code (3 : Nat) (Option.some Jvm.ClassFile.FieldType.boolean)) ∈ lw_all := lw_g (lw_at lw_m4 105 rfl) rfl
theorem q913 : (Jvm.Cond.methodLink "FortyDays$Best" (27 : Nat) ({ cls := "FortyDays$Beside", name := "isBestFor", desc := "(LFortyDays$Thought;II)Z" } : Jvm.MethodName)) ∈ lw_all := lw_g (lw_at lw_m4 106 rfl) rfl
theorem q975 : (Jvm.Cond.selects "FortyDays$Best" ({ cls := "FortyDays$Rule", name := "letIn", desc := "(I)J" } : Jvm.MethodName) ({ cls := "FortyDays$Rule", name := "letIn", desc := "(I)J" } : Jvm.MethodName)) ∈ lw_all := lw_g (lw_at lw_m4 168 rfl) rfl
theorem q1104 : (Jvm.Cond.selects "FortyDays$Best" ({ cls := "FortyDays$Rule", name := "holds", desc := "(I)I" } : Jvm.MethodName) ({ cls := "FortyDays$Rule", name := "holds", desc := "(I)I" } : Jvm.MethodName)) ∈ lw_all := lw_g (lw_at lw_m5 57 rfl) rfl
theorem q1129 : (Jvm.Cond.selects "FortyDays$Best" ({ cls := "FortyDays$Rule", name := "lets", desc := "(I)I" } : Jvm.MethodName) ({ cls := "FortyDays$Best", name := "lets", desc := "(I)I" } : Jvm.MethodName)) ∈ lw_all := lw_g (lw_at lw_m5 82 rfl) rfl
theorem q1130 : (Jvm.Cond.instanceMethod ({ cls := "FortyDays$Best", name := "lets", desc := "(I)I" } : Jvm.MethodName)) ∈ lw_all := lw_g (lw_at lw_m5 83 rfl) rfl
theorem q1131 : (Jvm.Cond.code ({ cls := "FortyDays$Best", name := "lets", desc := "(I)I" } : Jvm.MethodName) prog_3_method_5_code (2 : Nat) (Option.some Jvm.ClassFile.FieldType.int)) ∈ lw_all := lw_g (lw_at lw_m5 84 rfl) rfl
theorem q1132 : (Jvm.Cond.methodLinkNest "FortyDays$Best" (33 : Nat) ({ cls := "FortyDays", name := "body", desc := "(I)V" } : Jvm.MethodName) "FortyDays") ∈ lw_tbl := lw_at lw_m5 85 rfl
theorem q1133 : (Jvm.Cond.methodLink "FortyDays$Best" (37 : Nat) ({ cls := "FortyDays$Think", name := "lets", desc := "(I)I" } : Jvm.MethodName)) ∈ lw_all := lw_g (lw_at lw_m5 86 rfl) rfl
theorem q1151 : (Jvm.Cond.selects "FortyDays$Best" ({ cls := "FortyDays$Rule", name := "costs", desc := "(I)I" } : Jvm.MethodName) ({ cls := "FortyDays$Think", name := "costs", desc := "(I)I" } : Jvm.MethodName)) ∈ lw_all := lw_g (lw_at lw_m5 104 rfl) rfl
theorem q1158 : (Jvm.Cond.selects "FortyDays$Best" ({ cls := "FortyDays$Think", name := "holds", desc := "(I)I" } : Jvm.MethodName) ({ cls := "FortyDays$Rule", name := "holds", desc := "(I)I" } : Jvm.MethodName)) ∈ lw_all := lw_g (lw_at lw_m5 111 rfl) rfl
theorem q1185 : (Jvm.Cond.selects "FortyDays$Best" ({ cls := "FortyDays$Rule", name := "isUnder", desc := "(I)Z" } : Jvm.MethodName) ({ cls := "FortyDays$Best", name := "isUnder", desc := "(I)Z" } : Jvm.MethodName)) ∈ lw_all := lw_g (lw_at lw_m5 138 rfl) rfl
theorem q1186 : (Jvm.Cond.instanceMethod ({ cls := "FortyDays$Best", name := "isUnder", desc := "(I)Z" } : Jvm.MethodName)) ∈ lw_all := lw_g (lw_at lw_m5 139 rfl) rfl
theorem q1187 : (Jvm.Cond.code ({ cls := "FortyDays$Best", name := "isUnder", desc := "(I)Z" } : Jvm.MethodName) prog_3_method_3_code (2 : Nat) (Option.some Jvm.ClassFile.FieldType.boolean)) ∈ lw_all := lw_g (lw_at lw_m5 140 rfl) rfl
theorem q1188 : (Jvm.Cond.methodLink "FortyDays$Best" (15 : Nat) ({ cls := "FortyDays$Think", name := "isUnder", desc := "(I)Z" } : Jvm.MethodName)) ∈ lw_all := lw_g (lw_at lw_m5 141 rfl) rfl
theorem q1758 : (Jvm.Cond.castable "FortyDays$Best" "FortyDays$Rule") ∈ lw_tbl := lw_at lw_m7 231 rfl
theorem q1782 : (Jvm.Cond.castable "FortyDays$Best" "java/lang/Object") ∈ lw_tbl := lw_at lw_m8 15 rfl
theorem in_X17 : ∀ w ∈ wsX170, w ∈ lw_all := lw_in wsX170 [890, 891, 892, 889, 887] (by decide +kernel) (by decide +kernel)

/-! FortyDays$Image -/
set_option maxRecDepth 100000
def RX18 : String := "FortyDays$Image"
def TX18 : u_T := fun k => match k with
  | 0 => ("FortyDays$Image", "portsWere", "I", true)
  | 1 => ("FortyDays$Image", "shipsWere", "I", true)
  | 2 => ("FortyDays$Image", "rulesWere", "I", true)
  | 3 => ("FortyDays$Image", "tapedWas", "I", true)
  | 4 => ("FortyDays$Image", "tapeWas", "[B", true)
  | 5 => ("FortyDays$Image", "thoughts", "[LFortyDays$Thought;", true)
  | 6 => ("FortyDays$Image", "manyWere", "[I", true)
  | _ => ("FortyDays$Image", "this$0", "LFortyDays;", true)
def tyX18 : Nat → FieldType := fun k => match k with
  | 0 => .int
  | 1 => .int
  | 2 => .int
  | 3 => .int
  | 4 => .array .byte
  | 5 => .array (.object "FortyDays$Thought")
  | 6 => .array .int
  | _ => .object "FortyDays"
abbrev wsX180 : List Cond := u_ws RX18 TX18 8
theorem nmX18 : ∀ a, a < 8 → ∀ b, b < 8 → a ≠ b → (TX18 a).2.1 ≠ (TX18 b).2.1 := by decide +kernel
theorem tyX18_ok : ∀ k, k < 8 → parseFieldDescriptor (TX18 k).2.2.1 = some (tyX18 k) := by decide +kernel
abbrev cX18_init : ByteArray := prog_7_method_1_code
def yX18_init : MethodName := ⟨RX18, "<init>", "(LFortyDays;)V"⟩
def dkwX18_init_9 : List UInt8 := [167, 255, 211, 177]
abbrev dktX18_init_9 : List UInt8 := dkwX18_init_9 ++ []
def dkwX18_init_8 : List UInt8 := [42, 180, 0, 65, 28, 43, 180, 0, 35, 28, 182, 0, 70, 192, 0, 84, 180, 0, 86, 79, 132, 2, 1]
abbrev dktX18_init_8 : List UInt8 := dkwX18_init_8 ++ dktX18_init_9
def dkwX18_init_7 : List UInt8 := [3, 61, 28, 42, 180, 0, 38, 162, 0, 43, 43, 180, 0, 35, 28, 182, 0, 70, 193, 0, 84, 153, 0, 23]
abbrev dktX18_init_7 : List UInt8 := dkwX18_init_7 ++ dktX18_init_8
def dkwX18_init_6 : List UInt8 := [50, 43, 180, 0, 29, 28, 182, 0, 70, 192, 0, 74, 180, 0, 76, 182, 0, 80, 132, 2, 1, 167, 255, 209]
abbrev dktX18_init_6 : List UInt8 := dkwX18_init_6 ++ dktX18_init_7
def dkwX18_init_5 : List UInt8 := [180, 0, 32, 162, 0, 45, 42, 180, 0, 61, 28, 187, 0, 59, 89, 183, 0, 69, 83, 42, 180, 0, 61, 28]
abbrev dktX18_init_5 : List UInt8 := dkwX18_init_5 ++ dktX18_init_6
def dkwX18_init_4 : List UInt8 := [181, 0, 61, 42, 42, 180, 0, 3, 180, 0, 35, 182, 0, 19, 188, 10, 181, 0, 65, 3, 61, 28, 42]
abbrev dktX18_init_4 : List UInt8 := dkwX18_init_4 ++ dktX18_init_5
def dkwX18_init_3 : List UInt8 := [182, 0, 51, 192, 0, 52, 181, 0, 56, 42, 42, 180, 0, 3, 180, 0, 29, 182, 0, 19, 189, 0, 59]
abbrev dktX18_init_3 : List UInt8 := dkwX18_init_3 ++ dktX18_init_4
def dkwX18_init_2 : List UInt8 := [181, 0, 38, 42, 42, 180, 0, 3, 180, 0, 41, 181, 0, 44, 42, 42, 180, 0, 3, 180, 0, 47]
abbrev dktX18_init_2 : List UInt8 := dkwX18_init_2 ++ dktX18_init_3
def dkwX18_init_1 : List UInt8 := [42, 180, 0, 3, 180, 0, 29, 182, 0, 19, 181, 0, 32, 42, 42, 180, 0, 3, 180, 0, 35, 182, 0, 19]
abbrev dktX18_init_1 : List UInt8 := dkwX18_init_1 ++ dktX18_init_2
def dkwX18_init_0 : List UInt8 := [42, 43, 181, 0, 3, 42, 183, 0, 9, 42, 42, 180, 0, 3, 180, 0, 15, 182, 0, 19, 181, 0, 25, 42]
abbrev dktX18_init_0 : List UInt8 := dkwX18_init_0 ++ dktX18_init_1
theorem dksX18_init_0 : cX18_init.data.toList.drop 0 = dktX18_init_0 := by decide +kernel
theorem dksX18_init_1 : cX18_init.data.toList.drop 24 = dktX18_init_1 := dk_seg dksX18_init_0 24 rfl rfl
theorem dksX18_init_2 : cX18_init.data.toList.drop 48 = dktX18_init_2 := dk_seg dksX18_init_1 24 rfl rfl
theorem dksX18_init_3 : cX18_init.data.toList.drop 70 = dktX18_init_3 := dk_seg dksX18_init_2 22 rfl rfl
theorem dksX18_init_4 : cX18_init.data.toList.drop 93 = dktX18_init_4 := dk_seg dksX18_init_3 23 rfl rfl
theorem dksX18_init_5 : cX18_init.data.toList.drop 116 = dktX18_init_5 := dk_seg dksX18_init_4 23 rfl rfl
theorem dksX18_init_6 : cX18_init.data.toList.drop 140 = dktX18_init_6 := dk_seg dksX18_init_5 24 rfl rfl
theorem dksX18_init_7 : cX18_init.data.toList.drop 164 = dktX18_init_7 := dk_seg dksX18_init_6 24 rfl rfl
theorem dksX18_init_8 : cX18_init.data.toList.drop 188 = dktX18_init_8 := dk_seg dksX18_init_7 24 rfl rfl
theorem dksX18_init_9 : cX18_init.data.toList.drop 211 = dktX18_init_9 := dk_seg dksX18_init_8 23 rfl rfl
theorem dX18_init_0 : decode cX18_init 0 = .ok (.aload_n 0, 1) := dk_42 (dk_at dksX18_init_0 0 rfl rfl)
theorem dX18_init_1 : decode cX18_init 1 = .ok (.aload_n 1, 1) := dk_43 (dk_at dksX18_init_0 1 rfl rfl)
theorem dX18_init_2 : decode cX18_init 2 = .ok (.putfield 3, 3) := dk_181 0 3 (dk_at dksX18_init_0 2 rfl rfl)
theorem dX18_init_5 : decode cX18_init 5 = .ok (.aload_n 0, 1) := dk_42 (dk_at dksX18_init_0 5 rfl rfl)
theorem dX18_init_6 : decode cX18_init 6 = .ok (.invokespecial 9, 3) := dk_183 0 9 (dk_at dksX18_init_0 6 rfl rfl)
theorem dX18_init_9 : decode cX18_init 9 = .ok (.aload_n 0, 1) := dk_42 (dk_at dksX18_init_0 9 rfl rfl)
theorem dX18_init_10 : decode cX18_init 10 = .ok (.aload_n 0, 1) := dk_42 (dk_at dksX18_init_0 10 rfl rfl)
theorem dX18_init_11 : decode cX18_init 11 = .ok (.getfield 3, 3) := dk_180 0 3 (dk_at dksX18_init_0 11 rfl rfl)
theorem dX18_init_14 : decode cX18_init 14 = .ok (.getfield 15, 3) := dk_180 0 15 (dk_at dksX18_init_0 14 rfl rfl)
theorem dX18_init_17 : decode cX18_init 17 = .ok (.invokevirtual 19, 3) := dk_182 0 19 (dk_at dksX18_init_0 17 rfl rfl)
theorem dX18_init_20 : decode cX18_init 20 = .ok (.putfield 25, 3) := dk_181 0 25 (dk_at dksX18_init_0 20 rfl rfl)
theorem dX18_init_23 : decode cX18_init 23 = .ok (.aload_n 0, 1) := dk_42 (dk_at dksX18_init_0 23 rfl rfl)
theorem dX18_init_24 : decode cX18_init 24 = .ok (.aload_n 0, 1) := dk_42 (dk_at dksX18_init_1 0 rfl rfl)
theorem dX18_init_25 : decode cX18_init 25 = .ok (.getfield 3, 3) := dk_180 0 3 (dk_at dksX18_init_1 1 rfl rfl)
theorem dX18_init_28 : decode cX18_init 28 = .ok (.getfield 29, 3) := dk_180 0 29 (dk_at dksX18_init_1 4 rfl rfl)
theorem dX18_init_31 : decode cX18_init 31 = .ok (.invokevirtual 19, 3) := dk_182 0 19 (dk_at dksX18_init_1 7 rfl rfl)
theorem dX18_init_34 : decode cX18_init 34 = .ok (.putfield 32, 3) := dk_181 0 32 (dk_at dksX18_init_1 10 rfl rfl)
theorem dX18_init_37 : decode cX18_init 37 = .ok (.aload_n 0, 1) := dk_42 (dk_at dksX18_init_1 13 rfl rfl)
theorem dX18_init_38 : decode cX18_init 38 = .ok (.aload_n 0, 1) := dk_42 (dk_at dksX18_init_1 14 rfl rfl)
theorem dX18_init_39 : decode cX18_init 39 = .ok (.getfield 3, 3) := dk_180 0 3 (dk_at dksX18_init_1 15 rfl rfl)
theorem dX18_init_42 : decode cX18_init 42 = .ok (.getfield 35, 3) := dk_180 0 35 (dk_at dksX18_init_1 18 rfl rfl)
theorem dX18_init_45 : decode cX18_init 45 = .ok (.invokevirtual 19, 3) := dk_182 0 19 (dk_at dksX18_init_1 21 rfl rfl)
theorem dX18_init_48 : decode cX18_init 48 = .ok (.putfield 38, 3) := dk_181 0 38 (dk_at dksX18_init_2 0 rfl rfl)
theorem dX18_init_51 : decode cX18_init 51 = .ok (.aload_n 0, 1) := dk_42 (dk_at dksX18_init_2 3 rfl rfl)
theorem dX18_init_52 : decode cX18_init 52 = .ok (.aload_n 0, 1) := dk_42 (dk_at dksX18_init_2 4 rfl rfl)
theorem dX18_init_53 : decode cX18_init 53 = .ok (.getfield 3, 3) := dk_180 0 3 (dk_at dksX18_init_2 5 rfl rfl)
theorem dX18_init_56 : decode cX18_init 56 = .ok (.getfield 41, 3) := dk_180 0 41 (dk_at dksX18_init_2 8 rfl rfl)
theorem dX18_init_59 : decode cX18_init 59 = .ok (.putfield 44, 3) := dk_181 0 44 (dk_at dksX18_init_2 11 rfl rfl)
theorem dX18_init_62 : decode cX18_init 62 = .ok (.aload_n 0, 1) := dk_42 (dk_at dksX18_init_2 14 rfl rfl)
theorem dX18_init_63 : decode cX18_init 63 = .ok (.aload_n 0, 1) := dk_42 (dk_at dksX18_init_2 15 rfl rfl)
theorem dX18_init_64 : decode cX18_init 64 = .ok (.getfield 3, 3) := dk_180 0 3 (dk_at dksX18_init_2 16 rfl rfl)
theorem dX18_init_67 : decode cX18_init 67 = .ok (.getfield 47, 3) := dk_180 0 47 (dk_at dksX18_init_2 19 rfl rfl)
theorem dX18_init_70 : decode cX18_init 70 = .ok (.invokevirtual 51, 3) := dk_182 0 51 (dk_at dksX18_init_3 0 rfl rfl)
theorem dX18_init_73 : decode cX18_init 73 = .ok (.checkcast 52, 3) := dk_192 0 52 (dk_at dksX18_init_3 3 rfl rfl)
theorem dX18_init_76 : decode cX18_init 76 = .ok (.putfield 56, 3) := dk_181 0 56 (dk_at dksX18_init_3 6 rfl rfl)
theorem dX18_init_79 : decode cX18_init 79 = .ok (.aload_n 0, 1) := dk_42 (dk_at dksX18_init_3 9 rfl rfl)
theorem dX18_init_80 : decode cX18_init 80 = .ok (.aload_n 0, 1) := dk_42 (dk_at dksX18_init_3 10 rfl rfl)
theorem dX18_init_81 : decode cX18_init 81 = .ok (.getfield 3, 3) := dk_180 0 3 (dk_at dksX18_init_3 11 rfl rfl)
theorem dX18_init_84 : decode cX18_init 84 = .ok (.getfield 29, 3) := dk_180 0 29 (dk_at dksX18_init_3 14 rfl rfl)
theorem dX18_init_87 : decode cX18_init 87 = .ok (.invokevirtual 19, 3) := dk_182 0 19 (dk_at dksX18_init_3 17 rfl rfl)
theorem dX18_init_90 : decode cX18_init 90 = .ok (.anewarray 59, 3) := dk_189 0 59 (dk_at dksX18_init_3 20 rfl rfl)
theorem dX18_init_93 : decode cX18_init 93 = .ok (.putfield 61, 3) := dk_181 0 61 (dk_at dksX18_init_4 0 rfl rfl)
theorem dX18_init_96 : decode cX18_init 96 = .ok (.aload_n 0, 1) := dk_42 (dk_at dksX18_init_4 3 rfl rfl)
theorem dX18_init_97 : decode cX18_init 97 = .ok (.aload_n 0, 1) := dk_42 (dk_at dksX18_init_4 4 rfl rfl)
theorem dX18_init_98 : decode cX18_init 98 = .ok (.getfield 3, 3) := dk_180 0 3 (dk_at dksX18_init_4 5 rfl rfl)
theorem dX18_init_101 : decode cX18_init 101 = .ok (.getfield 35, 3) := dk_180 0 35 (dk_at dksX18_init_4 8 rfl rfl)
theorem dX18_init_104 : decode cX18_init 104 = .ok (.invokevirtual 19, 3) := dk_182 0 19 (dk_at dksX18_init_4 11 rfl rfl)
theorem dX18_init_107 : decode cX18_init 107 = .ok (.newarray .int, 2) := dk_188_10 (dk_at dksX18_init_4 14 rfl rfl)
theorem dX18_init_109 : decode cX18_init 109 = .ok (.putfield 65, 3) := dk_181 0 65 (dk_at dksX18_init_4 16 rfl rfl)
theorem dX18_init_112 : decode cX18_init 112 = .ok (.iconst 0, 1) := dk_3 (dk_at dksX18_init_4 19 rfl rfl)
theorem dX18_init_113 : decode cX18_init 113 = .ok (.istore_n 2, 1) := dk_61 (dk_at dksX18_init_4 20 rfl rfl)
theorem dX18_init_114 : decode cX18_init 114 = .ok (.iload_n 2, 1) := dk_28 (dk_at dksX18_init_4 21 rfl rfl)
theorem dX18_init_115 : decode cX18_init 115 = .ok (.aload_n 0, 1) := dk_42 (dk_at dksX18_init_4 22 rfl rfl)
theorem dX18_init_116 : decode cX18_init 116 = .ok (.getfield 32, 3) := dk_180 0 32 (dk_at dksX18_init_5 0 rfl rfl)
theorem dX18_init_119 : decode cX18_init 119 = .ok (.if_icmp .ge 45, 3) := dk_162 0 45 (dk_at dksX18_init_5 3 rfl rfl)
theorem dX18_init_122 : decode cX18_init 122 = .ok (.aload_n 0, 1) := dk_42 (dk_at dksX18_init_5 6 rfl rfl)
theorem dX18_init_123 : decode cX18_init 123 = .ok (.getfield 61, 3) := dk_180 0 61 (dk_at dksX18_init_5 7 rfl rfl)
theorem dX18_init_126 : decode cX18_init 126 = .ok (.iload_n 2, 1) := dk_28 (dk_at dksX18_init_5 10 rfl rfl)
theorem dX18_init_127 : decode cX18_init 127 = .ok (.new 59, 3) := dk_187 0 59 (dk_at dksX18_init_5 11 rfl rfl)
theorem dX18_init_130 : decode cX18_init 130 = .ok (.dup, 1) := dk_89 (dk_at dksX18_init_5 14 rfl rfl)
theorem dX18_init_131 : decode cX18_init 131 = .ok (.invokespecial 69, 3) := dk_183 0 69 (dk_at dksX18_init_5 15 rfl rfl)
theorem dX18_init_134 : decode cX18_init 134 = .ok (.aastore, 1) := dk_83 (dk_at dksX18_init_5 18 rfl rfl)
theorem dX18_init_135 : decode cX18_init 135 = .ok (.aload_n 0, 1) := dk_42 (dk_at dksX18_init_5 19 rfl rfl)
theorem dX18_init_136 : decode cX18_init 136 = .ok (.getfield 61, 3) := dk_180 0 61 (dk_at dksX18_init_5 20 rfl rfl)
theorem dX18_init_139 : decode cX18_init 139 = .ok (.iload_n 2, 1) := dk_28 (dk_at dksX18_init_5 23 rfl rfl)
theorem dX18_init_140 : decode cX18_init 140 = .ok (.aaload, 1) := dk_50 (dk_at dksX18_init_6 0 rfl rfl)
theorem dX18_init_141 : decode cX18_init 141 = .ok (.aload_n 1, 1) := dk_43 (dk_at dksX18_init_6 1 rfl rfl)
theorem dX18_init_142 : decode cX18_init 142 = .ok (.getfield 29, 3) := dk_180 0 29 (dk_at dksX18_init_6 2 rfl rfl)
theorem dX18_init_145 : decode cX18_init 145 = .ok (.iload_n 2, 1) := dk_28 (dk_at dksX18_init_6 5 rfl rfl)
theorem dX18_init_146 : decode cX18_init 146 = .ok (.invokevirtual 70, 3) := dk_182 0 70 (dk_at dksX18_init_6 6 rfl rfl)
theorem dX18_init_149 : decode cX18_init 149 = .ok (.checkcast 74, 3) := dk_192 0 74 (dk_at dksX18_init_6 9 rfl rfl)
theorem dX18_init_152 : decode cX18_init 152 = .ok (.getfield 76, 3) := dk_180 0 76 (dk_at dksX18_init_6 12 rfl rfl)
theorem dX18_init_155 : decode cX18_init 155 = .ok (.invokevirtual 80, 3) := dk_182 0 80 (dk_at dksX18_init_6 15 rfl rfl)
theorem dX18_init_158 : decode cX18_init 158 = .ok (.iinc 2 1, 3) := dk_132 2 1 (dk_at dksX18_init_6 18 rfl rfl)
theorem dX18_init_161 : decode cX18_init 161 = .ok (.goto (-47), 3) := dk_167 255 209 (dk_at dksX18_init_6 21 rfl rfl)
theorem dX18_init_164 : decode cX18_init 164 = .ok (.iconst 0, 1) := dk_3 (dk_at dksX18_init_7 0 rfl rfl)
theorem dX18_init_165 : decode cX18_init 165 = .ok (.istore_n 2, 1) := dk_61 (dk_at dksX18_init_7 1 rfl rfl)
theorem dX18_init_166 : decode cX18_init 166 = .ok (.iload_n 2, 1) := dk_28 (dk_at dksX18_init_7 2 rfl rfl)
theorem dX18_init_167 : decode cX18_init 167 = .ok (.aload_n 0, 1) := dk_42 (dk_at dksX18_init_7 3 rfl rfl)
theorem dX18_init_168 : decode cX18_init 168 = .ok (.getfield 38, 3) := dk_180 0 38 (dk_at dksX18_init_7 4 rfl rfl)
theorem dX18_init_171 : decode cX18_init 171 = .ok (.if_icmp .ge 43, 3) := dk_162 0 43 (dk_at dksX18_init_7 7 rfl rfl)
theorem dX18_init_174 : decode cX18_init 174 = .ok (.aload_n 1, 1) := dk_43 (dk_at dksX18_init_7 10 rfl rfl)
theorem dX18_init_175 : decode cX18_init 175 = .ok (.getfield 35, 3) := dk_180 0 35 (dk_at dksX18_init_7 11 rfl rfl)
theorem dX18_init_178 : decode cX18_init 178 = .ok (.iload_n 2, 1) := dk_28 (dk_at dksX18_init_7 14 rfl rfl)
theorem dX18_init_179 : decode cX18_init 179 = .ok (.invokevirtual 70, 3) := dk_182 0 70 (dk_at dksX18_init_7 15 rfl rfl)
theorem dX18_init_182 : decode cX18_init 182 = .ok (.instanceof 84, 3) := dk_193 0 84 (dk_at dksX18_init_7 18 rfl rfl)
theorem dX18_init_185 : decode cX18_init 185 = .ok (.ifCond .eq 23, 3) := dk_153 0 23 (dk_at dksX18_init_7 21 rfl rfl)
theorem dX18_init_188 : decode cX18_init 188 = .ok (.aload_n 0, 1) := dk_42 (dk_at dksX18_init_8 0 rfl rfl)
theorem dX18_init_189 : decode cX18_init 189 = .ok (.getfield 65, 3) := dk_180 0 65 (dk_at dksX18_init_8 1 rfl rfl)
theorem dX18_init_192 : decode cX18_init 192 = .ok (.iload_n 2, 1) := dk_28 (dk_at dksX18_init_8 4 rfl rfl)
theorem dX18_init_193 : decode cX18_init 193 = .ok (.aload_n 1, 1) := dk_43 (dk_at dksX18_init_8 5 rfl rfl)
theorem dX18_init_194 : decode cX18_init 194 = .ok (.getfield 35, 3) := dk_180 0 35 (dk_at dksX18_init_8 6 rfl rfl)
theorem dX18_init_197 : decode cX18_init 197 = .ok (.iload_n 2, 1) := dk_28 (dk_at dksX18_init_8 9 rfl rfl)
theorem dX18_init_198 : decode cX18_init 198 = .ok (.invokevirtual 70, 3) := dk_182 0 70 (dk_at dksX18_init_8 10 rfl rfl)
theorem dX18_init_201 : decode cX18_init 201 = .ok (.checkcast 84, 3) := dk_192 0 84 (dk_at dksX18_init_8 13 rfl rfl)
theorem dX18_init_204 : decode cX18_init 204 = .ok (.getfield 86, 3) := dk_180 0 86 (dk_at dksX18_init_8 16 rfl rfl)
theorem dX18_init_207 : decode cX18_init 207 = .ok (.iastore, 1) := dk_79 (dk_at dksX18_init_8 19 rfl rfl)
theorem dX18_init_208 : decode cX18_init 208 = .ok (.iinc 2 1, 3) := dk_132 2 1 (dk_at dksX18_init_8 20 rfl rfl)
theorem dX18_init_211 : decode cX18_init 211 = .ok (.goto (-45), 3) := dk_167 255 211 (dk_at dksX18_init_9 0 rfl rfl)
theorem dX18_init_214 : decode cX18_init 214 = .ok (.return_, 1) := dk_177 (dk_at dksX18_init_9 3 rfl rfl)
abbrev cX18_putBack : ByteArray := prog_7_method_3_code
def yX18_putBack : MethodName := ⟨RX18, "putBack", "()V"⟩
def dkwX18_putBack_7 : List UInt8 := [180, 0, 3, 42, 180, 0, 44, 181, 0, 41, 177]
abbrev dktX18_putBack_7 : List UInt8 := dkwX18_putBack_7 ++ []
def dkwX18_putBack_6 : List UInt8 := [167, 255, 205, 42, 180, 0, 56, 3, 42, 180, 0, 3, 180, 0, 47, 3, 16, 120, 184, 0, 96, 42]
abbrev dktX18_putBack_6 : List UInt8 := dkwX18_putBack_6 ++ dktX18_putBack_7
def dkwX18_putBack_5 : List UInt8 := [180, 0, 35, 27, 182, 0, 70, 192, 0, 84, 42, 180, 0, 65, 27, 46, 181, 0, 86, 132, 1, 1]
abbrev dktX18_putBack_5 : List UInt8 := dkwX18_putBack_5 ++ dktX18_putBack_6
def dkwX18_putBack_4 : List UInt8 := [162, 0, 49, 42, 180, 0, 3, 180, 0, 35, 27, 182, 0, 70, 193, 0, 84, 153, 0, 26, 42, 180, 0, 3]
abbrev dktX18_putBack_4 : List UInt8 := dkwX18_putBack_4 ++ dktX18_putBack_5
def dkwX18_putBack_3 : List UInt8 := [42, 180, 0, 61, 27, 50, 182, 0, 80, 132, 1, 1, 167, 255, 219, 3, 60, 27, 42, 180, 0, 38]
abbrev dktX18_putBack_3 : List UInt8 := dkwX18_putBack_3 ++ dktX18_putBack_4
def dkwX18_putBack_2 : List UInt8 := [42, 180, 0, 32, 162, 0, 35, 42, 180, 0, 3, 180, 0, 29, 27, 182, 0, 70, 192, 0, 74, 180, 0, 76]
abbrev dktX18_putBack_2 : List UInt8 := dkwX18_putBack_2 ++ dktX18_putBack_3
def dkwX18_putBack_1 : List UInt8 := [180, 0, 32, 182, 0, 92, 42, 42, 180, 0, 3, 180, 0, 35, 42, 180, 0, 38, 182, 0, 92, 3, 60, 27]
abbrev dktX18_putBack_1 : List UInt8 := dkwX18_putBack_1 ++ dktX18_putBack_2
def dkwX18_putBack_0 : List UInt8 := [42, 42, 180, 0, 3, 180, 0, 15, 42, 180, 0, 25, 182, 0, 92, 42, 42, 180, 0, 3, 180, 0, 29, 42]
abbrev dktX18_putBack_0 : List UInt8 := dkwX18_putBack_0 ++ dktX18_putBack_1
theorem dksX18_putBack_0 : cX18_putBack.data.toList.drop 0 = dktX18_putBack_0 := by decide +kernel
theorem dksX18_putBack_1 : cX18_putBack.data.toList.drop 24 = dktX18_putBack_1 := dk_seg dksX18_putBack_0 24 rfl rfl
theorem dksX18_putBack_2 : cX18_putBack.data.toList.drop 48 = dktX18_putBack_2 := dk_seg dksX18_putBack_1 24 rfl rfl
theorem dksX18_putBack_3 : cX18_putBack.data.toList.drop 72 = dktX18_putBack_3 := dk_seg dksX18_putBack_2 24 rfl rfl
theorem dksX18_putBack_4 : cX18_putBack.data.toList.drop 94 = dktX18_putBack_4 := dk_seg dksX18_putBack_3 22 rfl rfl
theorem dksX18_putBack_5 : cX18_putBack.data.toList.drop 118 = dktX18_putBack_5 := dk_seg dksX18_putBack_4 24 rfl rfl
theorem dksX18_putBack_6 : cX18_putBack.data.toList.drop 140 = dktX18_putBack_6 := dk_seg dksX18_putBack_5 22 rfl rfl
theorem dksX18_putBack_7 : cX18_putBack.data.toList.drop 162 = dktX18_putBack_7 := dk_seg dksX18_putBack_6 22 rfl rfl
theorem dX18_putBack_0 : decode cX18_putBack 0 = .ok (.aload_n 0, 1) := dk_42 (dk_at dksX18_putBack_0 0 rfl rfl)
theorem dX18_putBack_1 : decode cX18_putBack 1 = .ok (.aload_n 0, 1) := dk_42 (dk_at dksX18_putBack_0 1 rfl rfl)
theorem dX18_putBack_2 : decode cX18_putBack 2 = .ok (.getfield 3, 3) := dk_180 0 3 (dk_at dksX18_putBack_0 2 rfl rfl)
theorem dX18_putBack_5 : decode cX18_putBack 5 = .ok (.getfield 15, 3) := dk_180 0 15 (dk_at dksX18_putBack_0 5 rfl rfl)
theorem dX18_putBack_8 : decode cX18_putBack 8 = .ok (.aload_n 0, 1) := dk_42 (dk_at dksX18_putBack_0 8 rfl rfl)
theorem dX18_putBack_9 : decode cX18_putBack 9 = .ok (.getfield 25, 3) := dk_180 0 25 (dk_at dksX18_putBack_0 9 rfl rfl)
theorem dX18_putBack_12 : decode cX18_putBack 12 = .ok (.invokevirtual 92, 3) := dk_182 0 92 (dk_at dksX18_putBack_0 12 rfl rfl)
theorem dX18_putBack_15 : decode cX18_putBack 15 = .ok (.aload_n 0, 1) := dk_42 (dk_at dksX18_putBack_0 15 rfl rfl)
theorem dX18_putBack_16 : decode cX18_putBack 16 = .ok (.aload_n 0, 1) := dk_42 (dk_at dksX18_putBack_0 16 rfl rfl)
theorem dX18_putBack_17 : decode cX18_putBack 17 = .ok (.getfield 3, 3) := dk_180 0 3 (dk_at dksX18_putBack_0 17 rfl rfl)
theorem dX18_putBack_20 : decode cX18_putBack 20 = .ok (.getfield 29, 3) := dk_180 0 29 (dk_at dksX18_putBack_0 20 rfl rfl)
theorem dX18_putBack_23 : decode cX18_putBack 23 = .ok (.aload_n 0, 1) := dk_42 (dk_at dksX18_putBack_0 23 rfl rfl)
theorem dX18_putBack_24 : decode cX18_putBack 24 = .ok (.getfield 32, 3) := dk_180 0 32 (dk_at dksX18_putBack_1 0 rfl rfl)
theorem dX18_putBack_27 : decode cX18_putBack 27 = .ok (.invokevirtual 92, 3) := dk_182 0 92 (dk_at dksX18_putBack_1 3 rfl rfl)
theorem dX18_putBack_30 : decode cX18_putBack 30 = .ok (.aload_n 0, 1) := dk_42 (dk_at dksX18_putBack_1 6 rfl rfl)
theorem dX18_putBack_31 : decode cX18_putBack 31 = .ok (.aload_n 0, 1) := dk_42 (dk_at dksX18_putBack_1 7 rfl rfl)
theorem dX18_putBack_32 : decode cX18_putBack 32 = .ok (.getfield 3, 3) := dk_180 0 3 (dk_at dksX18_putBack_1 8 rfl rfl)
theorem dX18_putBack_35 : decode cX18_putBack 35 = .ok (.getfield 35, 3) := dk_180 0 35 (dk_at dksX18_putBack_1 11 rfl rfl)
theorem dX18_putBack_38 : decode cX18_putBack 38 = .ok (.aload_n 0, 1) := dk_42 (dk_at dksX18_putBack_1 14 rfl rfl)
theorem dX18_putBack_39 : decode cX18_putBack 39 = .ok (.getfield 38, 3) := dk_180 0 38 (dk_at dksX18_putBack_1 15 rfl rfl)
theorem dX18_putBack_42 : decode cX18_putBack 42 = .ok (.invokevirtual 92, 3) := dk_182 0 92 (dk_at dksX18_putBack_1 18 rfl rfl)
theorem dX18_putBack_45 : decode cX18_putBack 45 = .ok (.iconst 0, 1) := dk_3 (dk_at dksX18_putBack_1 21 rfl rfl)
theorem dX18_putBack_46 : decode cX18_putBack 46 = .ok (.istore_n 1, 1) := dk_60 (dk_at dksX18_putBack_1 22 rfl rfl)
theorem dX18_putBack_47 : decode cX18_putBack 47 = .ok (.iload_n 1, 1) := dk_27 (dk_at dksX18_putBack_1 23 rfl rfl)
theorem dX18_putBack_48 : decode cX18_putBack 48 = .ok (.aload_n 0, 1) := dk_42 (dk_at dksX18_putBack_2 0 rfl rfl)
theorem dX18_putBack_49 : decode cX18_putBack 49 = .ok (.getfield 32, 3) := dk_180 0 32 (dk_at dksX18_putBack_2 1 rfl rfl)
theorem dX18_putBack_52 : decode cX18_putBack 52 = .ok (.if_icmp .ge 35, 3) := dk_162 0 35 (dk_at dksX18_putBack_2 4 rfl rfl)
theorem dX18_putBack_55 : decode cX18_putBack 55 = .ok (.aload_n 0, 1) := dk_42 (dk_at dksX18_putBack_2 7 rfl rfl)
theorem dX18_putBack_56 : decode cX18_putBack 56 = .ok (.getfield 3, 3) := dk_180 0 3 (dk_at dksX18_putBack_2 8 rfl rfl)
theorem dX18_putBack_59 : decode cX18_putBack 59 = .ok (.getfield 29, 3) := dk_180 0 29 (dk_at dksX18_putBack_2 11 rfl rfl)
theorem dX18_putBack_62 : decode cX18_putBack 62 = .ok (.iload_n 1, 1) := dk_27 (dk_at dksX18_putBack_2 14 rfl rfl)
theorem dX18_putBack_63 : decode cX18_putBack 63 = .ok (.invokevirtual 70, 3) := dk_182 0 70 (dk_at dksX18_putBack_2 15 rfl rfl)
theorem dX18_putBack_66 : decode cX18_putBack 66 = .ok (.checkcast 74, 3) := dk_192 0 74 (dk_at dksX18_putBack_2 18 rfl rfl)
theorem dX18_putBack_69 : decode cX18_putBack 69 = .ok (.getfield 76, 3) := dk_180 0 76 (dk_at dksX18_putBack_2 21 rfl rfl)
theorem dX18_putBack_72 : decode cX18_putBack 72 = .ok (.aload_n 0, 1) := dk_42 (dk_at dksX18_putBack_3 0 rfl rfl)
theorem dX18_putBack_73 : decode cX18_putBack 73 = .ok (.getfield 61, 3) := dk_180 0 61 (dk_at dksX18_putBack_3 1 rfl rfl)
theorem dX18_putBack_76 : decode cX18_putBack 76 = .ok (.iload_n 1, 1) := dk_27 (dk_at dksX18_putBack_3 4 rfl rfl)
theorem dX18_putBack_77 : decode cX18_putBack 77 = .ok (.aaload, 1) := dk_50 (dk_at dksX18_putBack_3 5 rfl rfl)
theorem dX18_putBack_78 : decode cX18_putBack 78 = .ok (.invokevirtual 80, 3) := dk_182 0 80 (dk_at dksX18_putBack_3 6 rfl rfl)
theorem dX18_putBack_81 : decode cX18_putBack 81 = .ok (.iinc 1 1, 3) := dk_132 1 1 (dk_at dksX18_putBack_3 9 rfl rfl)
theorem dX18_putBack_84 : decode cX18_putBack 84 = .ok (.goto (-37), 3) := dk_167 255 219 (dk_at dksX18_putBack_3 12 rfl rfl)
theorem dX18_putBack_87 : decode cX18_putBack 87 = .ok (.iconst 0, 1) := dk_3 (dk_at dksX18_putBack_3 15 rfl rfl)
theorem dX18_putBack_88 : decode cX18_putBack 88 = .ok (.istore_n 1, 1) := dk_60 (dk_at dksX18_putBack_3 16 rfl rfl)
theorem dX18_putBack_89 : decode cX18_putBack 89 = .ok (.iload_n 1, 1) := dk_27 (dk_at dksX18_putBack_3 17 rfl rfl)
theorem dX18_putBack_90 : decode cX18_putBack 90 = .ok (.aload_n 0, 1) := dk_42 (dk_at dksX18_putBack_3 18 rfl rfl)
theorem dX18_putBack_91 : decode cX18_putBack 91 = .ok (.getfield 38, 3) := dk_180 0 38 (dk_at dksX18_putBack_3 19 rfl rfl)
theorem dX18_putBack_94 : decode cX18_putBack 94 = .ok (.if_icmp .ge 49, 3) := dk_162 0 49 (dk_at dksX18_putBack_4 0 rfl rfl)
theorem dX18_putBack_97 : decode cX18_putBack 97 = .ok (.aload_n 0, 1) := dk_42 (dk_at dksX18_putBack_4 3 rfl rfl)
theorem dX18_putBack_98 : decode cX18_putBack 98 = .ok (.getfield 3, 3) := dk_180 0 3 (dk_at dksX18_putBack_4 4 rfl rfl)
theorem dX18_putBack_101 : decode cX18_putBack 101 = .ok (.getfield 35, 3) := dk_180 0 35 (dk_at dksX18_putBack_4 7 rfl rfl)
theorem dX18_putBack_104 : decode cX18_putBack 104 = .ok (.iload_n 1, 1) := dk_27 (dk_at dksX18_putBack_4 10 rfl rfl)
theorem dX18_putBack_105 : decode cX18_putBack 105 = .ok (.invokevirtual 70, 3) := dk_182 0 70 (dk_at dksX18_putBack_4 11 rfl rfl)
theorem dX18_putBack_108 : decode cX18_putBack 108 = .ok (.instanceof 84, 3) := dk_193 0 84 (dk_at dksX18_putBack_4 14 rfl rfl)
theorem dX18_putBack_111 : decode cX18_putBack 111 = .ok (.ifCond .eq 26, 3) := dk_153 0 26 (dk_at dksX18_putBack_4 17 rfl rfl)
theorem dX18_putBack_114 : decode cX18_putBack 114 = .ok (.aload_n 0, 1) := dk_42 (dk_at dksX18_putBack_4 20 rfl rfl)
theorem dX18_putBack_115 : decode cX18_putBack 115 = .ok (.getfield 3, 3) := dk_180 0 3 (dk_at dksX18_putBack_4 21 rfl rfl)
theorem dX18_putBack_118 : decode cX18_putBack 118 = .ok (.getfield 35, 3) := dk_180 0 35 (dk_at dksX18_putBack_5 0 rfl rfl)
theorem dX18_putBack_121 : decode cX18_putBack 121 = .ok (.iload_n 1, 1) := dk_27 (dk_at dksX18_putBack_5 3 rfl rfl)
theorem dX18_putBack_122 : decode cX18_putBack 122 = .ok (.invokevirtual 70, 3) := dk_182 0 70 (dk_at dksX18_putBack_5 4 rfl rfl)
theorem dX18_putBack_125 : decode cX18_putBack 125 = .ok (.checkcast 84, 3) := dk_192 0 84 (dk_at dksX18_putBack_5 7 rfl rfl)
theorem dX18_putBack_128 : decode cX18_putBack 128 = .ok (.aload_n 0, 1) := dk_42 (dk_at dksX18_putBack_5 10 rfl rfl)
theorem dX18_putBack_129 : decode cX18_putBack 129 = .ok (.getfield 65, 3) := dk_180 0 65 (dk_at dksX18_putBack_5 11 rfl rfl)
theorem dX18_putBack_132 : decode cX18_putBack 132 = .ok (.iload_n 1, 1) := dk_27 (dk_at dksX18_putBack_5 14 rfl rfl)
theorem dX18_putBack_133 : decode cX18_putBack 133 = .ok (.iaload, 1) := dk_46 (dk_at dksX18_putBack_5 15 rfl rfl)
theorem dX18_putBack_134 : decode cX18_putBack 134 = .ok (.putfield 86, 3) := dk_181 0 86 (dk_at dksX18_putBack_5 16 rfl rfl)
theorem dX18_putBack_137 : decode cX18_putBack 137 = .ok (.iinc 1 1, 3) := dk_132 1 1 (dk_at dksX18_putBack_5 19 rfl rfl)
theorem dX18_putBack_140 : decode cX18_putBack 140 = .ok (.goto (-51), 3) := dk_167 255 205 (dk_at dksX18_putBack_6 0 rfl rfl)
theorem dX18_putBack_143 : decode cX18_putBack 143 = .ok (.aload_n 0, 1) := dk_42 (dk_at dksX18_putBack_6 3 rfl rfl)
theorem dX18_putBack_144 : decode cX18_putBack 144 = .ok (.getfield 56, 3) := dk_180 0 56 (dk_at dksX18_putBack_6 4 rfl rfl)
theorem dX18_putBack_147 : decode cX18_putBack 147 = .ok (.iconst 0, 1) := dk_3 (dk_at dksX18_putBack_6 7 rfl rfl)
theorem dX18_putBack_148 : decode cX18_putBack 148 = .ok (.aload_n 0, 1) := dk_42 (dk_at dksX18_putBack_6 8 rfl rfl)
theorem dX18_putBack_149 : decode cX18_putBack 149 = .ok (.getfield 3, 3) := dk_180 0 3 (dk_at dksX18_putBack_6 9 rfl rfl)
theorem dX18_putBack_152 : decode cX18_putBack 152 = .ok (.getfield 47, 3) := dk_180 0 47 (dk_at dksX18_putBack_6 12 rfl rfl)
theorem dX18_putBack_155 : decode cX18_putBack 155 = .ok (.iconst 0, 1) := dk_3 (dk_at dksX18_putBack_6 15 rfl rfl)
theorem dX18_putBack_156 : decode cX18_putBack 156 = .ok (.bipush 120, 2) := dk_16 120 (dk_at dksX18_putBack_6 16 rfl rfl)
theorem dX18_putBack_158 : decode cX18_putBack 158 = .ok (.invokestatic 96, 3) := dk_184 0 96 (dk_at dksX18_putBack_6 18 rfl rfl)
theorem dX18_putBack_161 : decode cX18_putBack 161 = .ok (.aload_n 0, 1) := dk_42 (dk_at dksX18_putBack_6 21 rfl rfl)
theorem dX18_putBack_162 : decode cX18_putBack 162 = .ok (.getfield 3, 3) := dk_180 0 3 (dk_at dksX18_putBack_7 0 rfl rfl)
theorem dX18_putBack_165 : decode cX18_putBack 165 = .ok (.aload_n 0, 1) := dk_42 (dk_at dksX18_putBack_7 3 rfl rfl)
theorem dX18_putBack_166 : decode cX18_putBack 166 = .ok (.getfield 44, 3) := dk_180 0 44 (dk_at dksX18_putBack_7 4 rfl rfl)
theorem dX18_putBack_169 : decode cX18_putBack 169 = .ok (.putfield 41, 3) := dk_181 0 41 (dk_at dksX18_putBack_7 7 rfl rfl)
theorem dX18_putBack_172 : decode cX18_putBack 172 = .ok (.return_, 1) := dk_177 (dk_at dksX18_putBack_7 10 rfl rfl)
abbrev cX18_cut : ByteArray := prog_7_method_2_code
def yX18_cut : MethodName := ⟨RX18, "cut", "(Ljava/util/ArrayList;I)V"⟩
def dkwX18_cut_0 : List UInt8 := [43, 182, 0, 19, 28, 164, 0, 17, 43, 43, 182, 0, 19, 4, 100, 182, 0, 89, 87, 167, 255, 237, 177]
abbrev dktX18_cut_0 : List UInt8 := dkwX18_cut_0 ++ []
theorem dksX18_cut_0 : cX18_cut.data.toList.drop 0 = dktX18_cut_0 := by decide +kernel
theorem dX18_cut_0 : decode cX18_cut 0 = .ok (.aload_n 1, 1) := dk_43 (dk_at dksX18_cut_0 0 rfl rfl)
theorem dX18_cut_1 : decode cX18_cut 1 = .ok (.invokevirtual 19, 3) := dk_182 0 19 (dk_at dksX18_cut_0 1 rfl rfl)
theorem dX18_cut_4 : decode cX18_cut 4 = .ok (.iload_n 2, 1) := dk_28 (dk_at dksX18_cut_0 4 rfl rfl)
theorem dX18_cut_5 : decode cX18_cut 5 = .ok (.if_icmp .le 17, 3) := dk_164 0 17 (dk_at dksX18_cut_0 5 rfl rfl)
theorem dX18_cut_8 : decode cX18_cut 8 = .ok (.aload_n 1, 1) := dk_43 (dk_at dksX18_cut_0 8 rfl rfl)
theorem dX18_cut_9 : decode cX18_cut 9 = .ok (.aload_n 1, 1) := dk_43 (dk_at dksX18_cut_0 9 rfl rfl)
theorem dX18_cut_10 : decode cX18_cut 10 = .ok (.invokevirtual 19, 3) := dk_182 0 19 (dk_at dksX18_cut_0 10 rfl rfl)
theorem dX18_cut_13 : decode cX18_cut 13 = .ok (.iconst 1, 1) := dk_4 (dk_at dksX18_cut_0 13 rfl rfl)
theorem dX18_cut_14 : decode cX18_cut 14 = .ok (.isub, 1) := dk_100 (dk_at dksX18_cut_0 14 rfl rfl)
theorem dX18_cut_15 : decode cX18_cut 15 = .ok (.invokevirtual 89, 3) := dk_182 0 89 (dk_at dksX18_cut_0 15 rfl rfl)
theorem dX18_cut_18 : decode cX18_cut 18 = .ok (.pop, 1) := dk_87 (dk_at dksX18_cut_0 18 rfl rfl)
theorem dX18_cut_19 : decode cX18_cut 19 = .ok (.goto (-19), 3) := dk_167 255 237 (dk_at dksX18_cut_0 19 rfl rfl)
theorem dX18_cut_22 : decode cX18_cut 22 = .ok (.return_, 1) := dk_177 (dk_at dksX18_cut_0 22 rfl rfl)
theorem q120 : (Jvm.Cond.initialized "FortyDays$Image") ∈ lw_all := lw_g (lw_at lw_m1 33 rfl) rfl
theorem q246 : (Jvm.Cond.fieldLinkNest "FortyDays$Image" (47 : Nat) "FortyDays" "tape" "[B" "FortyDays") ∈ lw_tbl := lw_at lw_m1 159 rfl
theorem q249 : (Jvm.Cond.fieldLinkNest "FortyDays$Image" (41 : Nat) "FortyDays" "taped" "I" "FortyDays") ∈ lw_tbl := lw_at lw_m1 162 rfl
theorem q252 : (Jvm.Cond.fieldLinkNest "FortyDays$Image" (15 : Nat) "FortyDays" "ports" "Ljava/util/ArrayList;" "FortyDays") ∈ lw_tbl := lw_at lw_m1 165 rfl
theorem q256 : (Jvm.Cond.fieldLinkNest "FortyDays$Image" (29 : Nat) "FortyDays" "ships" "Ljava/util/ArrayList;" "FortyDays") ∈ lw_tbl := lw_at lw_m1 169 rfl
theorem q270 : (Jvm.Cond.fieldLinkNest "FortyDays$Image" (35 : Nat) "FortyDays" "rules" "Ljava/util/ArrayList;" "FortyDays") ∈ lw_tbl := lw_at lw_m1 183 rfl
theorem q563 : (Jvm.Cond.selects "FortyDays$Image" ({ cls := "java/lang/Object", name := "getClass", desc := "()Ljava/lang/Class;" } : Jvm.MethodName) ({ cls := "java/lang/Object", name := "getClass", desc := "()Ljava/lang/Class;" } : Jvm.MethodName)) ∈ lw_all := lw_g (lw_at lw_m2 236 rfl) rfl
theorem q690 : (Jvm.Cond.fieldLinkNest "FortyDays$Image" (76 : Nat) "FortyDays$Ship" "thought" "LFortyDays$Thought;" "FortyDays") ∈ lw_tbl := lw_at lw_m3 123 rfl
theorem q866 : (Jvm.Cond.fieldLinkNest "FortyDays$Image" (86 : Nat) "FortyDays$Told" "many" "I" "FortyDays") ∈ lw_tbl := lw_at lw_m4 59 rfl
theorem q1215 : (Jvm.Cond.instantiable "FortyDays$Image" (8 : Nat)) ∈ lw_all := lw_g (lw_at lw_m5 168 rfl) rfl
theorem q1217 : (Jvm.Cond.instanceMethod ({ cls := "FortyDays$Image", name := "<init>", desc := "(LFortyDays;)V" } : Jvm.MethodName)) ∈ lw_all := lw_g (lw_at lw_m5 170 rfl) rfl
theorem q1218 : (Jvm.Cond.code ({ cls := "FortyDays$Image", name := "<init>", desc := "(LFortyDays;)V" } : Jvm.MethodName) prog_7_method_1_code (3 : Nat) (Option.none : Option Jvm.ClassFile.FieldType)) ∈ lw_all := lw_g (lw_at lw_m5 171 rfl) rfl
theorem q1219 : (Jvm.Cond.methodLink "FortyDays$Image" (9 : Nat) ({ cls := "java/lang/Object", name := "<init>", desc := "()V" } : Jvm.MethodName)) ∈ lw_all := lw_g (lw_at lw_m5 172 rfl) rfl
theorem q1220 : (Jvm.Cond.methodLink "FortyDays$Image" (19 : Nat) ({ cls := "java/util/ArrayList", name := "size", desc := "()I" } : Jvm.MethodName)) ∈ lw_all := lw_g (lw_at lw_m5 173 rfl) rfl
theorem q1221 : (Jvm.Cond.methodLink "FortyDays$Image" (51 : Nat) ({ cls := "[B", name := "clone", desc := "()Ljava/lang/Object;" } : Jvm.MethodName)) ∈ lw_all := lw_g (lw_at lw_m5 174 rfl) rfl
theorem q1227 : (Jvm.Cond.classLink "FortyDays$Image" (52 : Nat) "[B") ∈ lw_all := lw_g (lw_at lw_m5 180 rfl) rfl
theorem q1228 : (Jvm.Cond.classLink "FortyDays$Image" (59 : Nat) "FortyDays$Thought") ∈ lw_all := lw_g (lw_at lw_m5 181 rfl) rfl
theorem q1229 : (Jvm.Cond.methodLinkNest "FortyDays$Image" (69 : Nat) ({ cls := "FortyDays$Thought", name := "<init>", desc := "()V" } : Jvm.MethodName) "FortyDays") ∈ lw_tbl := lw_at lw_m5 182 rfl
theorem q1230 : (Jvm.Cond.methodLink "FortyDays$Image" (70 : Nat) ({ cls := "java/util/ArrayList", name := "get", desc := "(I)Ljava/lang/Object;" } : Jvm.MethodName)) ∈ lw_all := lw_g (lw_at lw_m5 183 rfl) rfl
theorem q1231 : (Jvm.Cond.classLink "FortyDays$Image" (74 : Nat) "FortyDays$Ship") ∈ lw_all := lw_g (lw_at lw_m5 184 rfl) rfl
theorem q1232 : (Jvm.Cond.methodLink "FortyDays$Image" (80 : Nat) ({ cls := "FortyDays$Thought", name := "become", desc := "(LFortyDays$Thought;)V" } : Jvm.MethodName)) ∈ lw_all := lw_g (lw_at lw_m5 185 rfl) rfl
theorem q1233 : (Jvm.Cond.classLink "FortyDays$Image" (84 : Nat) "FortyDays$Told") ∈ lw_all := lw_g (lw_at lw_m5 186 rfl) rfl
theorem q1234 : (Jvm.Cond.fieldLink "FortyDays$Image" (25 : Nat) "FortyDays$Image" "portsWere" "I") ∈ lw_all := lw_g (lw_at lw_m5 187 rfl) rfl
theorem q1235 : (Jvm.Cond.fieldLink "FortyDays$Image" (32 : Nat) "FortyDays$Image" "shipsWere" "I") ∈ lw_all := lw_g (lw_at lw_m5 188 rfl) rfl
theorem q1236 : (Jvm.Cond.fieldLink "FortyDays$Image" (38 : Nat) "FortyDays$Image" "rulesWere" "I") ∈ lw_all := lw_g (lw_at lw_m5 189 rfl) rfl
theorem q1237 : (Jvm.Cond.fieldLink "FortyDays$Image" (44 : Nat) "FortyDays$Image" "tapedWas" "I") ∈ lw_all := lw_g (lw_at lw_m5 190 rfl) rfl
theorem q1238 : (Jvm.Cond.fieldLink "FortyDays$Image" (56 : Nat) "FortyDays$Image" "tapeWas" "[B") ∈ lw_all := lw_g (lw_at lw_m5 191 rfl) rfl
theorem q1239 : (Jvm.Cond.fieldLink "FortyDays$Image" (61 : Nat) "FortyDays$Image" "thoughts" "[LFortyDays$Thought;") ∈ lw_all := lw_g (lw_at lw_m5 192 rfl) rfl
theorem q1240 : (Jvm.Cond.fieldLink "FortyDays$Image" (65 : Nat) "FortyDays$Image" "manyWere" "[I") ∈ lw_all := lw_g (lw_at lw_m5 193 rfl) rfl
theorem q1241 : (Jvm.Cond.fieldLink "FortyDays$Image" (3 : Nat) "FortyDays$Image" "this$0" "LFortyDays;") ∈ lw_all := lw_g (lw_at lw_m5 194 rfl) rfl
theorem q1242 : (Jvm.Cond.laysFinal "FortyDays$Image" "FortyDays$Image" "portsWere" "I") ∈ lw_all := lw_g (lw_at lw_m5 195 rfl) rfl
theorem q1243 : (Jvm.Cond.soleField "FortyDays$Image" "portsWere") ∈ lw_all := lw_g (lw_at lw_m5 196 rfl) rfl
theorem q1244 : (Jvm.Cond.laysFinal "FortyDays$Image" "FortyDays$Image" "shipsWere" "I") ∈ lw_all := lw_g (lw_at lw_m5 197 rfl) rfl
theorem q1245 : (Jvm.Cond.soleField "FortyDays$Image" "shipsWere") ∈ lw_all := lw_g (lw_at lw_m5 198 rfl) rfl
theorem q1246 : (Jvm.Cond.laysFinal "FortyDays$Image" "FortyDays$Image" "rulesWere" "I") ∈ lw_all := lw_g (lw_at lw_m5 199 rfl) rfl
theorem q1247 : (Jvm.Cond.soleField "FortyDays$Image" "rulesWere") ∈ lw_all := lw_g (lw_at lw_m5 200 rfl) rfl
theorem q1248 : (Jvm.Cond.laysFinal "FortyDays$Image" "FortyDays$Image" "tapedWas" "I") ∈ lw_all := lw_g (lw_at lw_m5 201 rfl) rfl
theorem q1249 : (Jvm.Cond.soleField "FortyDays$Image" "tapedWas") ∈ lw_all := lw_g (lw_at lw_m5 202 rfl) rfl
theorem q1250 : (Jvm.Cond.laysFinal "FortyDays$Image" "FortyDays$Image" "tapeWas" "[B") ∈ lw_all := lw_g (lw_at lw_m5 203 rfl) rfl
theorem q1251 : (Jvm.Cond.soleField "FortyDays$Image" "tapeWas") ∈ lw_all := lw_g (lw_at lw_m5 204 rfl) rfl
theorem q1252 : (Jvm.Cond.laysFinal "FortyDays$Image" "FortyDays$Image" "thoughts" "[LFortyDays$Thought;") ∈ lw_all := lw_g (lw_at lw_m5 205 rfl) rfl
theorem q1253 : (Jvm.Cond.soleField "FortyDays$Image" "thoughts") ∈ lw_all := lw_g (lw_at lw_m5 206 rfl) rfl
theorem q1254 : (Jvm.Cond.laysFinal "FortyDays$Image" "FortyDays$Image" "manyWere" "[I") ∈ lw_all := lw_g (lw_at lw_m5 207 rfl) rfl
theorem q1255 : (Jvm.Cond.soleField "FortyDays$Image" "manyWere") ∈ lw_all := lw_g (lw_at lw_m5 208 rfl) rfl
theorem q1256 : (Jvm.Cond.laysFinal "FortyDays$Image" "FortyDays$Image" "this$0" "LFortyDays;") ∈ lw_all := lw_g (lw_at lw_m5 209 rfl) rfl
theorem q1257 : (Jvm.Cond.soleField "FortyDays$Image" "this$0") ∈ lw_all := lw_g (lw_at lw_m5 210 rfl) rfl
theorem q1258 : (Jvm.Cond.superclass "FortyDays$Image" "java/lang/Object") ∈ lw_all := lw_g (lw_at lw_m5 211 rfl) rfl
theorem q1264 : (Jvm.Cond.instanceMethod ({ cls := "FortyDays$Image", name := "putBack", desc := "()V" } : Jvm.MethodName)) ∈ lw_all := lw_g (lw_at lw_m5 217 rfl) rfl
theorem q1265 : (Jvm.Cond.selects "FortyDays$Image" ({ cls := "FortyDays$Image", name := "putBack", desc := "()V" } : Jvm.MethodName) ({ cls := "FortyDays$Image", name := "putBack", desc := "()V" } : Jvm.MethodName)) ∈ lw_all := lw_g (lw_at lw_m5 218 rfl) rfl
theorem q1266 : (Jvm.Cond.code ({ cls := "FortyDays$Image", name := "putBack", desc := "()V" } : Jvm.MethodName) prog_7_method_3_code (2 : Nat) (Option.none : Option Jvm.ClassFile.FieldType)) ∈ lw_all := lw_g (lw_at lw_m5 219 rfl) rfl
theorem q1267 : (Jvm.Cond.methodLink "FortyDays$Image" (92 : Nat) ({ cls := "FortyDays$Image", name := "cut", desc := "(Ljava/util/ArrayList;I)V" } : Jvm.MethodName)) ∈ lw_all := lw_g (lw_at lw_m5 220 rfl) rfl
theorem q1268 : (Jvm.Cond.privateMethod ({ cls := "FortyDays$Image", name := "cut", desc := "(Ljava/util/ArrayList;I)V" } : Jvm.MethodName)) ∈ lw_tbl := lw_at lw_m5 221 rfl
theorem q1269 : (Jvm.Cond.instanceMethod ({ cls := "FortyDays$Image", name := "cut", desc := "(Ljava/util/ArrayList;I)V" } : Jvm.MethodName)) ∈ lw_all := lw_g (lw_at lw_m5 222 rfl) rfl
theorem q1270 : (Jvm.Cond.code ({ cls := "FortyDays$Image", name := "cut", desc := "(Ljava/util/ArrayList;I)V" } : Jvm.MethodName) prog_7_method_2_code (3 : Nat) (Option.none : Option Jvm.ClassFile.FieldType)) ∈ lw_all := lw_g (lw_at lw_m5 223 rfl) rfl
theorem q1271 : (Jvm.Cond.methodLink "FortyDays$Image" (89 : Nat) ({ cls := "java/util/ArrayList", name := "remove", desc := "(I)Ljava/lang/Object;" } : Jvm.MethodName)) ∈ lw_all := lw_g (lw_at lw_m5 224 rfl) rfl
theorem q1280 : (Jvm.Cond.methodLink "FortyDays$Image" (96 : Nat) ({ cls := "java/lang/System", name := "arraycopy", desc := "(Ljava/lang/Object;ILjava/lang/Object;II)V" } : Jvm.MethodName)) ∈ lw_all := lw_g (lw_at lw_m5 233 rfl) rfl
theorem q1783 : (Jvm.Cond.castable "FortyDays$Image" "java/lang/Object") ∈ lw_tbl := lw_at lw_m8 16 rfl
theorem in_X18 : ∀ w ∈ wsX180, w ∈ lw_all := lw_in wsX180 [1242, 1244, 1246, 1248, 1250, 1252, 1254, 1256] (by decide +kernel) (by decide +kernel)

/-! FortyDays$Thought -/
set_option maxRecDepth 100000
def RX2 : String := "FortyDays$Thought"
def TX2 : u_T := fun k => match k with
  | 0 => ("FortyDays$Thought", "at", "[I", true)
  | 1 => ("FortyDays$Thought", "port", "LFortyDays$Port;", false)
  | 2 => ("FortyDays$Thought", "hands", "I", false)
  | 3 => ("FortyDays$Thought", "says", "I", false)
  | 4 => ("FortyDays$Thought", "days", "I", false)
  | _ => ("FortyDays$Thought", "gone", "I", false)
def tyX2 : Nat → FieldType := fun k => match k with
  | 0 => .array .int
  | 1 => .object "FortyDays$Port"
  | 2 => .int
  | 3 => .int
  | 4 => .int
  | _ => .int
abbrev wsX20 : List Cond := u_ws RX2 TX2 6
theorem nmX2 : ∀ a, a < 6 → ∀ b, b < 6 → a ≠ b → (TX2 a).2.1 ≠ (TX2 b).2.1 := by decide +kernel
theorem tyX2_ok : ∀ k, k < 6 → parseFieldDescriptor (TX2 k).2.2.1 = some (tyX2 k) := by decide +kernel
abbrev cX2_init : ByteArray := prog_16_method_1_code
def yX2_init : MethodName := ⟨RX2, "<init>", "()V"⟩
def dkwX2_init_0 : List UInt8 := [42, 183, 0, 3, 42, 7, 188, 10, 181, 0, 9, 177]
abbrev dktX2_init_0 : List UInt8 := dkwX2_init_0 ++ []
theorem dksX2_init_0 : cX2_init.data.toList.drop 0 = dktX2_init_0 := by decide +kernel
theorem dX2_init_0 : decode cX2_init 0 = .ok (.aload_n 0, 1) := dk_42 (dk_at dksX2_init_0 0 rfl rfl)
theorem dX2_init_1 : decode cX2_init 1 = .ok (.invokespecial 3, 3) := dk_183 0 3 (dk_at dksX2_init_0 1 rfl rfl)
theorem dX2_init_4 : decode cX2_init 4 = .ok (.aload_n 0, 1) := dk_42 (dk_at dksX2_init_0 4 rfl rfl)
theorem dX2_init_5 : decode cX2_init 5 = .ok (.iconst 4, 1) := dk_7 (dk_at dksX2_init_0 5 rfl rfl)
theorem dX2_init_6 : decode cX2_init 6 = .ok (.newarray .int, 2) := dk_188_10 (dk_at dksX2_init_0 6 rfl rfl)
theorem dX2_init_8 : decode cX2_init 8 = .ok (.putfield 9, 3) := dk_181 0 9 (dk_at dksX2_init_0 8 rfl rfl)
theorem dX2_init_11 : decode cX2_init 11 = .ok (.return_, 1) := dk_177 (dk_at dksX2_init_0 11 rfl rfl)
abbrev cX2_begin : ByteArray := prog_16_method_2_code
def yX2_begin : MethodName := ⟨RX2, "begin", "(LFortyDays$Port;III)V"⟩
def dkwX2_begin_3 : List UInt8 := [21, 6, 21, 6, 4, 96, 21, 4, 182, 0, 30, 132, 6, 255, 167, 255, 236, 132, 5, 1, 167, 255, 221, 177]
abbrev dktX2_begin_3 : List UInt8 := dkwX2_begin_3 ++ []
def dkwX2_begin_2 : List UInt8 := [132, 5, 1, 167, 255, 229, 3, 54, 5, 21, 5, 28, 162, 0, 35, 5, 54, 6, 21, 6, 155, 0, 21, 42]
abbrev dktX2_begin_2 : List UInt8 := dkwX2_begin_2 ++ dktX2_begin_3
def dkwX2_begin_1 : List UInt8 := [21, 5, 7, 162, 0, 27, 42, 180, 0, 9, 21, 5, 21, 5, 154, 0, 8, 18, 29, 167, 0, 4, 3, 79]
abbrev dktX2_begin_1 : List UInt8 := dkwX2_begin_1 ++ dktX2_begin_2
def dkwX2_begin_0 : List UInt8 := [42, 43, 181, 0, 15, 42, 28, 181, 0, 19, 42, 29, 181, 0, 23, 42, 3, 181, 0, 26, 3, 54, 5]
abbrev dktX2_begin_0 : List UInt8 := dkwX2_begin_0 ++ dktX2_begin_1
theorem dksX2_begin_0 : cX2_begin.data.toList.drop 0 = dktX2_begin_0 := by decide +kernel
theorem dksX2_begin_1 : cX2_begin.data.toList.drop 23 = dktX2_begin_1 := dk_seg dksX2_begin_0 23 rfl rfl
theorem dksX2_begin_2 : cX2_begin.data.toList.drop 47 = dktX2_begin_2 := dk_seg dksX2_begin_1 24 rfl rfl
theorem dksX2_begin_3 : cX2_begin.data.toList.drop 71 = dktX2_begin_3 := dk_seg dksX2_begin_2 24 rfl rfl
theorem dX2_begin_0 : decode cX2_begin 0 = .ok (.aload_n 0, 1) := dk_42 (dk_at dksX2_begin_0 0 rfl rfl)
theorem dX2_begin_1 : decode cX2_begin 1 = .ok (.aload_n 1, 1) := dk_43 (dk_at dksX2_begin_0 1 rfl rfl)
theorem dX2_begin_2 : decode cX2_begin 2 = .ok (.putfield 15, 3) := dk_181 0 15 (dk_at dksX2_begin_0 2 rfl rfl)
theorem dX2_begin_5 : decode cX2_begin 5 = .ok (.aload_n 0, 1) := dk_42 (dk_at dksX2_begin_0 5 rfl rfl)
theorem dX2_begin_6 : decode cX2_begin 6 = .ok (.iload_n 2, 1) := dk_28 (dk_at dksX2_begin_0 6 rfl rfl)
theorem dX2_begin_7 : decode cX2_begin 7 = .ok (.putfield 19, 3) := dk_181 0 19 (dk_at dksX2_begin_0 7 rfl rfl)
theorem dX2_begin_10 : decode cX2_begin 10 = .ok (.aload_n 0, 1) := dk_42 (dk_at dksX2_begin_0 10 rfl rfl)
theorem dX2_begin_11 : decode cX2_begin 11 = .ok (.iload_n 3, 1) := dk_29 (dk_at dksX2_begin_0 11 rfl rfl)
theorem dX2_begin_12 : decode cX2_begin 12 = .ok (.putfield 23, 3) := dk_181 0 23 (dk_at dksX2_begin_0 12 rfl rfl)
theorem dX2_begin_15 : decode cX2_begin 15 = .ok (.aload_n 0, 1) := dk_42 (dk_at dksX2_begin_0 15 rfl rfl)
theorem dX2_begin_16 : decode cX2_begin 16 = .ok (.iconst 0, 1) := dk_3 (dk_at dksX2_begin_0 16 rfl rfl)
theorem dX2_begin_17 : decode cX2_begin 17 = .ok (.putfield 26, 3) := dk_181 0 26 (dk_at dksX2_begin_0 17 rfl rfl)
theorem dX2_begin_20 : decode cX2_begin 20 = .ok (.iconst 0, 1) := dk_3 (dk_at dksX2_begin_0 20 rfl rfl)
theorem dX2_begin_21 : decode cX2_begin 21 = .ok (.istore 5, 2) := dk_54 5 (dk_at dksX2_begin_0 21 rfl rfl)
theorem dX2_begin_23 : decode cX2_begin 23 = .ok (.iload 5, 2) := dk_21 5 (dk_at dksX2_begin_1 0 rfl rfl)
theorem dX2_begin_25 : decode cX2_begin 25 = .ok (.iconst 4, 1) := dk_7 (dk_at dksX2_begin_1 2 rfl rfl)
theorem dX2_begin_26 : decode cX2_begin 26 = .ok (.if_icmp .ge 27, 3) := dk_162 0 27 (dk_at dksX2_begin_1 3 rfl rfl)
theorem dX2_begin_29 : decode cX2_begin 29 = .ok (.aload_n 0, 1) := dk_42 (dk_at dksX2_begin_1 6 rfl rfl)
theorem dX2_begin_30 : decode cX2_begin 30 = .ok (.getfield 9, 3) := dk_180 0 9 (dk_at dksX2_begin_1 7 rfl rfl)
theorem dX2_begin_33 : decode cX2_begin 33 = .ok (.iload 5, 2) := dk_21 5 (dk_at dksX2_begin_1 10 rfl rfl)
theorem dX2_begin_35 : decode cX2_begin 35 = .ok (.iload 5, 2) := dk_21 5 (dk_at dksX2_begin_1 12 rfl rfl)
theorem dX2_begin_37 : decode cX2_begin 37 = .ok (.ifCond .ne 8, 3) := dk_154 0 8 (dk_at dksX2_begin_1 14 rfl rfl)
theorem dX2_begin_40 : decode cX2_begin 40 = .ok (.ldc 29, 2) := dk_18 29 (dk_at dksX2_begin_1 17 rfl rfl)
theorem dX2_begin_42 : decode cX2_begin 42 = .ok (.goto 4, 3) := dk_167 0 4 (dk_at dksX2_begin_1 19 rfl rfl)
theorem dX2_begin_45 : decode cX2_begin 45 = .ok (.iconst 0, 1) := dk_3 (dk_at dksX2_begin_1 22 rfl rfl)
theorem dX2_begin_46 : decode cX2_begin 46 = .ok (.iastore, 1) := dk_79 (dk_at dksX2_begin_1 23 rfl rfl)
theorem dX2_begin_47 : decode cX2_begin 47 = .ok (.iinc 5 1, 3) := dk_132 5 1 (dk_at dksX2_begin_2 0 rfl rfl)
theorem dX2_begin_50 : decode cX2_begin 50 = .ok (.goto (-27), 3) := dk_167 255 229 (dk_at dksX2_begin_2 3 rfl rfl)
theorem dX2_begin_53 : decode cX2_begin 53 = .ok (.iconst 0, 1) := dk_3 (dk_at dksX2_begin_2 6 rfl rfl)
theorem dX2_begin_54 : decode cX2_begin 54 = .ok (.istore 5, 2) := dk_54 5 (dk_at dksX2_begin_2 7 rfl rfl)
theorem dX2_begin_56 : decode cX2_begin 56 = .ok (.iload 5, 2) := dk_21 5 (dk_at dksX2_begin_2 9 rfl rfl)
theorem dX2_begin_58 : decode cX2_begin 58 = .ok (.iload_n 2, 1) := dk_28 (dk_at dksX2_begin_2 11 rfl rfl)
theorem dX2_begin_59 : decode cX2_begin 59 = .ok (.if_icmp .ge 35, 3) := dk_162 0 35 (dk_at dksX2_begin_2 12 rfl rfl)
theorem dX2_begin_62 : decode cX2_begin 62 = .ok (.iconst 2, 1) := dk_5 (dk_at dksX2_begin_2 15 rfl rfl)
theorem dX2_begin_63 : decode cX2_begin 63 = .ok (.istore 6, 2) := dk_54 6 (dk_at dksX2_begin_2 16 rfl rfl)
theorem dX2_begin_65 : decode cX2_begin 65 = .ok (.iload 6, 2) := dk_21 6 (dk_at dksX2_begin_2 18 rfl rfl)
theorem dX2_begin_67 : decode cX2_begin 67 = .ok (.ifCond .lt 21, 3) := dk_155 0 21 (dk_at dksX2_begin_2 20 rfl rfl)
theorem dX2_begin_70 : decode cX2_begin 70 = .ok (.aload_n 0, 1) := dk_42 (dk_at dksX2_begin_2 23 rfl rfl)
theorem dX2_begin_71 : decode cX2_begin 71 = .ok (.iload 6, 2) := dk_21 6 (dk_at dksX2_begin_3 0 rfl rfl)
theorem dX2_begin_73 : decode cX2_begin 73 = .ok (.iload 6, 2) := dk_21 6 (dk_at dksX2_begin_3 2 rfl rfl)
theorem dX2_begin_75 : decode cX2_begin 75 = .ok (.iconst 1, 1) := dk_4 (dk_at dksX2_begin_3 4 rfl rfl)
theorem dX2_begin_76 : decode cX2_begin 76 = .ok (.iadd, 1) := dk_96 (dk_at dksX2_begin_3 5 rfl rfl)
theorem dX2_begin_77 : decode cX2_begin 77 = .ok (.iload 4, 2) := dk_21 4 (dk_at dksX2_begin_3 6 rfl rfl)
theorem dX2_begin_79 : decode cX2_begin 79 = .ok (.invokevirtual 30, 3) := dk_182 0 30 (dk_at dksX2_begin_3 8 rfl rfl)
theorem dX2_begin_82 : decode cX2_begin 82 = .ok (.iinc 6 (-1), 3) := dk_132 6 255 (dk_at dksX2_begin_3 11 rfl rfl)
theorem dX2_begin_85 : decode cX2_begin 85 = .ok (.goto (-20), 3) := dk_167 255 236 (dk_at dksX2_begin_3 14 rfl rfl)
theorem dX2_begin_88 : decode cX2_begin 88 = .ok (.iinc 5 1, 3) := dk_132 5 1 (dk_at dksX2_begin_3 17 rfl rfl)
theorem dX2_begin_91 : decode cX2_begin 91 = .ok (.goto (-35), 3) := dk_167 255 221 (dk_at dksX2_begin_3 20 rfl rfl)
theorem dX2_begin_94 : decode cX2_begin 94 = .ok (.return_, 1) := dk_177 (dk_at dksX2_begin_3 23 rfl rfl)
abbrev cX2_move : ByteArray := prog_16_method_5_code
def yX2_move : MethodName := ⟨RX2, "move", "(III)V"⟩
def dkwX2_move_1 : List UInt8 := [180, 0, 9, 28, 92, 46, 21, 4, 96, 79, 177]
abbrev dktX2_move_1 : List UInt8 := dkwX2_move_1 ++ []
def dkwX2_move_0 : List UInt8 := [42, 180, 0, 9, 27, 46, 29, 184, 0, 42, 54, 4, 42, 180, 0, 9, 27, 92, 46, 21, 4, 100, 79, 42]
abbrev dktX2_move_0 : List UInt8 := dkwX2_move_0 ++ dktX2_move_1
theorem dksX2_move_0 : cX2_move.data.toList.drop 0 = dktX2_move_0 := by decide +kernel
theorem dksX2_move_1 : cX2_move.data.toList.drop 24 = dktX2_move_1 := dk_seg dksX2_move_0 24 rfl rfl
theorem dX2_move_0 : decode cX2_move 0 = .ok (.aload_n 0, 1) := dk_42 (dk_at dksX2_move_0 0 rfl rfl)
theorem dX2_move_1 : decode cX2_move 1 = .ok (.getfield 9, 3) := dk_180 0 9 (dk_at dksX2_move_0 1 rfl rfl)
theorem dX2_move_4 : decode cX2_move 4 = .ok (.iload_n 1, 1) := dk_27 (dk_at dksX2_move_0 4 rfl rfl)
theorem dX2_move_5 : decode cX2_move 5 = .ok (.iaload, 1) := dk_46 (dk_at dksX2_move_0 5 rfl rfl)
theorem dX2_move_6 : decode cX2_move 6 = .ok (.iload_n 3, 1) := dk_29 (dk_at dksX2_move_0 6 rfl rfl)
theorem dX2_move_7 : decode cX2_move 7 = .ok (.invokestatic 42, 3) := dk_184 0 42 (dk_at dksX2_move_0 7 rfl rfl)
theorem dX2_move_10 : decode cX2_move 10 = .ok (.istore 4, 2) := dk_54 4 (dk_at dksX2_move_0 10 rfl rfl)
theorem dX2_move_12 : decode cX2_move 12 = .ok (.aload_n 0, 1) := dk_42 (dk_at dksX2_move_0 12 rfl rfl)
theorem dX2_move_13 : decode cX2_move 13 = .ok (.getfield 9, 3) := dk_180 0 9 (dk_at dksX2_move_0 13 rfl rfl)
theorem dX2_move_16 : decode cX2_move 16 = .ok (.iload_n 1, 1) := dk_27 (dk_at dksX2_move_0 16 rfl rfl)
theorem dX2_move_17 : decode cX2_move 17 = .ok (.dup2, 1) := dk_92 (dk_at dksX2_move_0 17 rfl rfl)
theorem dX2_move_18 : decode cX2_move 18 = .ok (.iaload, 1) := dk_46 (dk_at dksX2_move_0 18 rfl rfl)
theorem dX2_move_19 : decode cX2_move 19 = .ok (.iload 4, 2) := dk_21 4 (dk_at dksX2_move_0 19 rfl rfl)
theorem dX2_move_21 : decode cX2_move 21 = .ok (.isub, 1) := dk_100 (dk_at dksX2_move_0 21 rfl rfl)
theorem dX2_move_22 : decode cX2_move 22 = .ok (.iastore, 1) := dk_79 (dk_at dksX2_move_0 22 rfl rfl)
theorem dX2_move_23 : decode cX2_move 23 = .ok (.aload_n 0, 1) := dk_42 (dk_at dksX2_move_0 23 rfl rfl)
theorem dX2_move_24 : decode cX2_move 24 = .ok (.getfield 9, 3) := dk_180 0 9 (dk_at dksX2_move_1 0 rfl rfl)
theorem dX2_move_27 : decode cX2_move 27 = .ok (.iload_n 2, 1) := dk_28 (dk_at dksX2_move_1 3 rfl rfl)
theorem dX2_move_28 : decode cX2_move 28 = .ok (.dup2, 1) := dk_92 (dk_at dksX2_move_1 4 rfl rfl)
theorem dX2_move_29 : decode cX2_move 29 = .ok (.iaload, 1) := dk_46 (dk_at dksX2_move_1 5 rfl rfl)
theorem dX2_move_30 : decode cX2_move 30 = .ok (.iload 4, 2) := dk_21 4 (dk_at dksX2_move_1 6 rfl rfl)
theorem dX2_move_32 : decode cX2_move 32 = .ok (.iadd, 1) := dk_96 (dk_at dksX2_move_1 8 rfl rfl)
theorem dX2_move_33 : decode cX2_move 33 = .ok (.iastore, 1) := dk_79 (dk_at dksX2_move_1 9 rfl rfl)
theorem dX2_move_34 : decode cX2_move 34 = .ok (.return_, 1) := dk_177 (dk_at dksX2_move_1 10 rfl rfl)
abbrev cX2_share : ByteArray := prog_16_method_4_code
def yX2_share : MethodName := ⟨RX2, "share", "(II)I"⟩
def dkwX2_share_0 : List UInt8 := [26, 133, 27, 133, 105, 20, 0, 40, 109, 136, 172]
abbrev dktX2_share_0 : List UInt8 := dkwX2_share_0 ++ []
theorem dksX2_share_0 : cX2_share.data.toList.drop 0 = dktX2_share_0 := by decide +kernel
theorem dX2_share_0 : decode cX2_share 0 = .ok (.iload_n 0, 1) := dk_26 (dk_at dksX2_share_0 0 rfl rfl)
theorem dX2_share_1 : decode cX2_share 1 = .ok (.i2l, 1) := dk_133 (dk_at dksX2_share_0 1 rfl rfl)
theorem dX2_share_2 : decode cX2_share 2 = .ok (.iload_n 1, 1) := dk_27 (dk_at dksX2_share_0 2 rfl rfl)
theorem dX2_share_3 : decode cX2_share 3 = .ok (.i2l, 1) := dk_133 (dk_at dksX2_share_0 3 rfl rfl)
theorem dX2_share_4 : decode cX2_share 4 = .ok (.lmul, 1) := dk_105 (dk_at dksX2_share_0 4 rfl rfl)
theorem dX2_share_5 : decode cX2_share 5 = .ok (.ldc2_w 40, 3) := dk_20 0 40 (dk_at dksX2_share_0 5 rfl rfl)
theorem dX2_share_8 : decode cX2_share 8 = .ok (.ldiv, 1) := dk_109 (dk_at dksX2_share_0 8 rfl rfl)
theorem dX2_share_9 : decode cX2_share 9 = .ok (.l2i, 1) := dk_136 (dk_at dksX2_share_0 9 rfl rfl)
theorem dX2_share_10 : decode cX2_share 10 = .ok (.ireturn, 1) := dk_172 (dk_at dksX2_share_0 10 rfl rfl)
abbrev cX2_ill : ByteArray := prog_16_method_9_code
def yX2_ill : MethodName := ⟨RX2, "ill", "()I"⟩
def dkwX2_ill_0 : List UInt8 := [42, 180, 0, 9, 4, 46, 42, 180, 0, 9, 5, 46, 96, 42, 180, 0, 9, 6, 46, 96, 172]
abbrev dktX2_ill_0 : List UInt8 := dkwX2_ill_0 ++ []
theorem dksX2_ill_0 : cX2_ill.data.toList.drop 0 = dktX2_ill_0 := by decide +kernel
theorem dX2_ill_0 : decode cX2_ill 0 = .ok (.aload_n 0, 1) := dk_42 (dk_at dksX2_ill_0 0 rfl rfl)
theorem dX2_ill_1 : decode cX2_ill 1 = .ok (.getfield 9, 3) := dk_180 0 9 (dk_at dksX2_ill_0 1 rfl rfl)
theorem dX2_ill_4 : decode cX2_ill 4 = .ok (.iconst 1, 1) := dk_4 (dk_at dksX2_ill_0 4 rfl rfl)
theorem dX2_ill_5 : decode cX2_ill 5 = .ok (.iaload, 1) := dk_46 (dk_at dksX2_ill_0 5 rfl rfl)
theorem dX2_ill_6 : decode cX2_ill 6 = .ok (.aload_n 0, 1) := dk_42 (dk_at dksX2_ill_0 6 rfl rfl)
theorem dX2_ill_7 : decode cX2_ill 7 = .ok (.getfield 9, 3) := dk_180 0 9 (dk_at dksX2_ill_0 7 rfl rfl)
theorem dX2_ill_10 : decode cX2_ill 10 = .ok (.iconst 2, 1) := dk_5 (dk_at dksX2_ill_0 10 rfl rfl)
theorem dX2_ill_11 : decode cX2_ill 11 = .ok (.iaload, 1) := dk_46 (dk_at dksX2_ill_0 11 rfl rfl)
theorem dX2_ill_12 : decode cX2_ill 12 = .ok (.iadd, 1) := dk_96 (dk_at dksX2_ill_0 12 rfl rfl)
theorem dX2_ill_13 : decode cX2_ill 13 = .ok (.aload_n 0, 1) := dk_42 (dk_at dksX2_ill_0 13 rfl rfl)
theorem dX2_ill_14 : decode cX2_ill 14 = .ok (.getfield 9, 3) := dk_180 0 9 (dk_at dksX2_ill_0 14 rfl rfl)
theorem dX2_ill_17 : decode cX2_ill 17 = .ok (.iconst 3, 1) := dk_6 (dk_at dksX2_ill_0 17 rfl rfl)
theorem dX2_ill_18 : decode cX2_ill 18 = .ok (.iaload, 1) := dk_46 (dk_at dksX2_ill_0 18 rfl rfl)
theorem dX2_ill_19 : decode cX2_ill 19 = .ok (.iadd, 1) := dk_96 (dk_at dksX2_ill_0 19 rfl rfl)
theorem dX2_ill_20 : decode cX2_ill 20 = .ok (.ireturn, 1) := dk_172 (dk_at dksX2_ill_0 20 rfl rfl)
abbrev cX2_day : ByteArray := prog_16_method_7_code
def yX2_day : MethodName := ⟨RX2, "day", "()V"⟩
def dkwX2_day_6 : List UInt8 := [89, 180, 0, 26, 4, 96, 181, 0, 26, 177]
abbrev dktX2_day_6 : List UInt8 := dkwX2_day_6 ++ []
def dkwX2_day_5 : List UInt8 := [28, 100, 79, 42, 89, 180, 0, 46, 28, 96, 181, 0, 46, 132, 1, 1, 167, 255, 205, 42, 182, 0, 63, 42]
abbrev dktX2_day_5 : List UInt8 := dkwX2_day_5 ++ dktX2_day_6
def dkwX2_day_4 : List UInt8 := [27, 42, 180, 0, 15, 180, 0, 60, 4, 46, 184, 0, 57, 184, 0, 42, 61, 42, 180, 0, 9, 27, 92, 46]
abbrev dktX2_day_4 : List UInt8 := dkwX2_day_4 ++ dktX2_day_5
def dkwX2_day_3 : List UInt8 := [132, 1, 1, 167, 255, 227, 42, 3, 181, 0, 46, 4, 60, 27, 7, 162, 0, 52, 42, 180, 0, 9, 27, 46]
abbrev dktX2_day_3 : List UInt8 := dkwX2_day_3 ++ dktX2_day_4
def dkwX2_day_2 : List UInt8 := [162, 0, 30, 42, 27, 27, 4, 100, 27, 42, 180, 0, 15, 180, 0, 60, 5, 46, 184, 0, 57, 182, 0, 30]
abbrev dktX2_day_2 : List UInt8 := dkwX2_day_2 ++ dktX2_day_3
def dkwX2_day_1 : List UInt8 := [180, 0, 15, 182, 0, 51, 184, 0, 57, 182, 0, 30, 132, 1, 255, 167, 255, 221, 4, 60, 27, 7]
abbrev dktX2_day_1 : List UInt8 := dkwX2_day_1 ++ dktX2_day_2
def dkwX2_day_0 : List UInt8 := [5, 60, 27, 4, 161, 0, 36, 27, 42, 180, 0, 19, 162, 0, 22, 42, 27, 27, 4, 96, 27, 42]
abbrev dktX2_day_0 : List UInt8 := dkwX2_day_0 ++ dktX2_day_1
theorem dksX2_day_0 : cX2_day.data.toList.drop 0 = dktX2_day_0 := by decide +kernel
theorem dksX2_day_1 : cX2_day.data.toList.drop 22 = dktX2_day_1 := dk_seg dksX2_day_0 22 rfl rfl
theorem dksX2_day_2 : cX2_day.data.toList.drop 44 = dktX2_day_2 := dk_seg dksX2_day_1 22 rfl rfl
theorem dksX2_day_3 : cX2_day.data.toList.drop 68 = dktX2_day_3 := dk_seg dksX2_day_2 24 rfl rfl
theorem dksX2_day_4 : cX2_day.data.toList.drop 92 = dktX2_day_4 := dk_seg dksX2_day_3 24 rfl rfl
theorem dksX2_day_5 : cX2_day.data.toList.drop 116 = dktX2_day_5 := dk_seg dksX2_day_4 24 rfl rfl
theorem dksX2_day_6 : cX2_day.data.toList.drop 140 = dktX2_day_6 := dk_seg dksX2_day_5 24 rfl rfl
theorem dX2_day_0 : decode cX2_day 0 = .ok (.iconst 2, 1) := dk_5 (dk_at dksX2_day_0 0 rfl rfl)
theorem dX2_day_1 : decode cX2_day 1 = .ok (.istore_n 1, 1) := dk_60 (dk_at dksX2_day_0 1 rfl rfl)
theorem dX2_day_2 : decode cX2_day 2 = .ok (.iload_n 1, 1) := dk_27 (dk_at dksX2_day_0 2 rfl rfl)
theorem dX2_day_3 : decode cX2_day 3 = .ok (.iconst 1, 1) := dk_4 (dk_at dksX2_day_0 3 rfl rfl)
theorem dX2_day_4 : decode cX2_day 4 = .ok (.if_icmp .lt 36, 3) := dk_161 0 36 (dk_at dksX2_day_0 4 rfl rfl)
theorem dX2_day_7 : decode cX2_day 7 = .ok (.iload_n 1, 1) := dk_27 (dk_at dksX2_day_0 7 rfl rfl)
theorem dX2_day_8 : decode cX2_day 8 = .ok (.aload_n 0, 1) := dk_42 (dk_at dksX2_day_0 8 rfl rfl)
theorem dX2_day_9 : decode cX2_day 9 = .ok (.getfield 19, 3) := dk_180 0 19 (dk_at dksX2_day_0 9 rfl rfl)
theorem dX2_day_12 : decode cX2_day 12 = .ok (.if_icmp .ge 22, 3) := dk_162 0 22 (dk_at dksX2_day_0 12 rfl rfl)
theorem dX2_day_15 : decode cX2_day 15 = .ok (.aload_n 0, 1) := dk_42 (dk_at dksX2_day_0 15 rfl rfl)
theorem dX2_day_16 : decode cX2_day 16 = .ok (.iload_n 1, 1) := dk_27 (dk_at dksX2_day_0 16 rfl rfl)
theorem dX2_day_17 : decode cX2_day 17 = .ok (.iload_n 1, 1) := dk_27 (dk_at dksX2_day_0 17 rfl rfl)
theorem dX2_day_18 : decode cX2_day 18 = .ok (.iconst 1, 1) := dk_4 (dk_at dksX2_day_0 18 rfl rfl)
theorem dX2_day_19 : decode cX2_day 19 = .ok (.iadd, 1) := dk_96 (dk_at dksX2_day_0 19 rfl rfl)
theorem dX2_day_20 : decode cX2_day 20 = .ok (.iload_n 1, 1) := dk_27 (dk_at dksX2_day_0 20 rfl rfl)
theorem dX2_day_21 : decode cX2_day 21 = .ok (.aload_n 0, 1) := dk_42 (dk_at dksX2_day_0 21 rfl rfl)
theorem dX2_day_22 : decode cX2_day 22 = .ok (.getfield 15, 3) := dk_180 0 15 (dk_at dksX2_day_1 0 rfl rfl)
theorem dX2_day_25 : decode cX2_day 25 = .ok (.invokevirtual 51, 3) := dk_182 0 51 (dk_at dksX2_day_1 3 rfl rfl)
theorem dX2_day_28 : decode cX2_day 28 = .ok (.invokestatic 57, 3) := dk_184 0 57 (dk_at dksX2_day_1 6 rfl rfl)
theorem dX2_day_31 : decode cX2_day 31 = .ok (.invokevirtual 30, 3) := dk_182 0 30 (dk_at dksX2_day_1 9 rfl rfl)
theorem dX2_day_34 : decode cX2_day 34 = .ok (.iinc 1 (-1), 3) := dk_132 1 255 (dk_at dksX2_day_1 12 rfl rfl)
theorem dX2_day_37 : decode cX2_day 37 = .ok (.goto (-35), 3) := dk_167 255 221 (dk_at dksX2_day_1 15 rfl rfl)
theorem dX2_day_40 : decode cX2_day 40 = .ok (.iconst 1, 1) := dk_4 (dk_at dksX2_day_1 18 rfl rfl)
theorem dX2_day_41 : decode cX2_day 41 = .ok (.istore_n 1, 1) := dk_60 (dk_at dksX2_day_1 19 rfl rfl)
theorem dX2_day_42 : decode cX2_day 42 = .ok (.iload_n 1, 1) := dk_27 (dk_at dksX2_day_1 20 rfl rfl)
theorem dX2_day_43 : decode cX2_day 43 = .ok (.iconst 4, 1) := dk_7 (dk_at dksX2_day_1 21 rfl rfl)
theorem dX2_day_44 : decode cX2_day 44 = .ok (.if_icmp .ge 30, 3) := dk_162 0 30 (dk_at dksX2_day_2 0 rfl rfl)
theorem dX2_day_47 : decode cX2_day 47 = .ok (.aload_n 0, 1) := dk_42 (dk_at dksX2_day_2 3 rfl rfl)
theorem dX2_day_48 : decode cX2_day 48 = .ok (.iload_n 1, 1) := dk_27 (dk_at dksX2_day_2 4 rfl rfl)
theorem dX2_day_49 : decode cX2_day 49 = .ok (.iload_n 1, 1) := dk_27 (dk_at dksX2_day_2 5 rfl rfl)
theorem dX2_day_50 : decode cX2_day 50 = .ok (.iconst 1, 1) := dk_4 (dk_at dksX2_day_2 6 rfl rfl)
theorem dX2_day_51 : decode cX2_day 51 = .ok (.isub, 1) := dk_100 (dk_at dksX2_day_2 7 rfl rfl)
theorem dX2_day_52 : decode cX2_day 52 = .ok (.iload_n 1, 1) := dk_27 (dk_at dksX2_day_2 8 rfl rfl)
theorem dX2_day_53 : decode cX2_day 53 = .ok (.aload_n 0, 1) := dk_42 (dk_at dksX2_day_2 9 rfl rfl)
theorem dX2_day_54 : decode cX2_day 54 = .ok (.getfield 15, 3) := dk_180 0 15 (dk_at dksX2_day_2 10 rfl rfl)
theorem dX2_day_57 : decode cX2_day 57 = .ok (.getfield 60, 3) := dk_180 0 60 (dk_at dksX2_day_2 13 rfl rfl)
theorem dX2_day_60 : decode cX2_day 60 = .ok (.iconst 2, 1) := dk_5 (dk_at dksX2_day_2 16 rfl rfl)
theorem dX2_day_61 : decode cX2_day 61 = .ok (.iaload, 1) := dk_46 (dk_at dksX2_day_2 17 rfl rfl)
theorem dX2_day_62 : decode cX2_day 62 = .ok (.invokestatic 57, 3) := dk_184 0 57 (dk_at dksX2_day_2 18 rfl rfl)
theorem dX2_day_65 : decode cX2_day 65 = .ok (.invokevirtual 30, 3) := dk_182 0 30 (dk_at dksX2_day_2 21 rfl rfl)
theorem dX2_day_68 : decode cX2_day 68 = .ok (.iinc 1 1, 3) := dk_132 1 1 (dk_at dksX2_day_3 0 rfl rfl)
theorem dX2_day_71 : decode cX2_day 71 = .ok (.goto (-29), 3) := dk_167 255 227 (dk_at dksX2_day_3 3 rfl rfl)
theorem dX2_day_74 : decode cX2_day 74 = .ok (.aload_n 0, 1) := dk_42 (dk_at dksX2_day_3 6 rfl rfl)
theorem dX2_day_75 : decode cX2_day 75 = .ok (.iconst 0, 1) := dk_3 (dk_at dksX2_day_3 7 rfl rfl)
theorem dX2_day_76 : decode cX2_day 76 = .ok (.putfield 46, 3) := dk_181 0 46 (dk_at dksX2_day_3 8 rfl rfl)
theorem dX2_day_79 : decode cX2_day 79 = .ok (.iconst 1, 1) := dk_4 (dk_at dksX2_day_3 11 rfl rfl)
theorem dX2_day_80 : decode cX2_day 80 = .ok (.istore_n 1, 1) := dk_60 (dk_at dksX2_day_3 12 rfl rfl)
theorem dX2_day_81 : decode cX2_day 81 = .ok (.iload_n 1, 1) := dk_27 (dk_at dksX2_day_3 13 rfl rfl)
theorem dX2_day_82 : decode cX2_day 82 = .ok (.iconst 4, 1) := dk_7 (dk_at dksX2_day_3 14 rfl rfl)
theorem dX2_day_83 : decode cX2_day 83 = .ok (.if_icmp .ge 52, 3) := dk_162 0 52 (dk_at dksX2_day_3 15 rfl rfl)
theorem dX2_day_86 : decode cX2_day 86 = .ok (.aload_n 0, 1) := dk_42 (dk_at dksX2_day_3 18 rfl rfl)
theorem dX2_day_87 : decode cX2_day 87 = .ok (.getfield 9, 3) := dk_180 0 9 (dk_at dksX2_day_3 19 rfl rfl)
theorem dX2_day_90 : decode cX2_day 90 = .ok (.iload_n 1, 1) := dk_27 (dk_at dksX2_day_3 22 rfl rfl)
theorem dX2_day_91 : decode cX2_day 91 = .ok (.iaload, 1) := dk_46 (dk_at dksX2_day_3 23 rfl rfl)
theorem dX2_day_92 : decode cX2_day 92 = .ok (.iload_n 1, 1) := dk_27 (dk_at dksX2_day_4 0 rfl rfl)
theorem dX2_day_93 : decode cX2_day 93 = .ok (.aload_n 0, 1) := dk_42 (dk_at dksX2_day_4 1 rfl rfl)
theorem dX2_day_94 : decode cX2_day 94 = .ok (.getfield 15, 3) := dk_180 0 15 (dk_at dksX2_day_4 2 rfl rfl)
theorem dX2_day_97 : decode cX2_day 97 = .ok (.getfield 60, 3) := dk_180 0 60 (dk_at dksX2_day_4 5 rfl rfl)
theorem dX2_day_100 : decode cX2_day 100 = .ok (.iconst 1, 1) := dk_4 (dk_at dksX2_day_4 8 rfl rfl)
theorem dX2_day_101 : decode cX2_day 101 = .ok (.iaload, 1) := dk_46 (dk_at dksX2_day_4 9 rfl rfl)
theorem dX2_day_102 : decode cX2_day 102 = .ok (.invokestatic 57, 3) := dk_184 0 57 (dk_at dksX2_day_4 10 rfl rfl)
theorem dX2_day_105 : decode cX2_day 105 = .ok (.invokestatic 42, 3) := dk_184 0 42 (dk_at dksX2_day_4 13 rfl rfl)
theorem dX2_day_108 : decode cX2_day 108 = .ok (.istore_n 2, 1) := dk_61 (dk_at dksX2_day_4 16 rfl rfl)
theorem dX2_day_109 : decode cX2_day 109 = .ok (.aload_n 0, 1) := dk_42 (dk_at dksX2_day_4 17 rfl rfl)
theorem dX2_day_110 : decode cX2_day 110 = .ok (.getfield 9, 3) := dk_180 0 9 (dk_at dksX2_day_4 18 rfl rfl)
theorem dX2_day_113 : decode cX2_day 113 = .ok (.iload_n 1, 1) := dk_27 (dk_at dksX2_day_4 21 rfl rfl)
theorem dX2_day_114 : decode cX2_day 114 = .ok (.dup2, 1) := dk_92 (dk_at dksX2_day_4 22 rfl rfl)
theorem dX2_day_115 : decode cX2_day 115 = .ok (.iaload, 1) := dk_46 (dk_at dksX2_day_4 23 rfl rfl)
theorem dX2_day_116 : decode cX2_day 116 = .ok (.iload_n 2, 1) := dk_28 (dk_at dksX2_day_5 0 rfl rfl)
theorem dX2_day_117 : decode cX2_day 117 = .ok (.isub, 1) := dk_100 (dk_at dksX2_day_5 1 rfl rfl)
theorem dX2_day_118 : decode cX2_day 118 = .ok (.iastore, 1) := dk_79 (dk_at dksX2_day_5 2 rfl rfl)
theorem dX2_day_119 : decode cX2_day 119 = .ok (.aload_n 0, 1) := dk_42 (dk_at dksX2_day_5 3 rfl rfl)
theorem dX2_day_120 : decode cX2_day 120 = .ok (.dup, 1) := dk_89 (dk_at dksX2_day_5 4 rfl rfl)
theorem dX2_day_121 : decode cX2_day 121 = .ok (.getfield 46, 3) := dk_180 0 46 (dk_at dksX2_day_5 5 rfl rfl)
theorem dX2_day_124 : decode cX2_day 124 = .ok (.iload_n 2, 1) := dk_28 (dk_at dksX2_day_5 8 rfl rfl)
theorem dX2_day_125 : decode cX2_day 125 = .ok (.iadd, 1) := dk_96 (dk_at dksX2_day_5 9 rfl rfl)
theorem dX2_day_126 : decode cX2_day 126 = .ok (.putfield 46, 3) := dk_181 0 46 (dk_at dksX2_day_5 10 rfl rfl)
theorem dX2_day_129 : decode cX2_day 129 = .ok (.iinc 1 1, 3) := dk_132 1 1 (dk_at dksX2_day_5 13 rfl rfl)
theorem dX2_day_132 : decode cX2_day 132 = .ok (.goto (-51), 3) := dk_167 255 205 (dk_at dksX2_day_5 16 rfl rfl)
theorem dX2_day_135 : decode cX2_day 135 = .ok (.aload_n 0, 1) := dk_42 (dk_at dksX2_day_5 19 rfl rfl)
theorem dX2_day_136 : decode cX2_day 136 = .ok (.invokevirtual 63, 3) := dk_182 0 63 (dk_at dksX2_day_5 20 rfl rfl)
theorem dX2_day_139 : decode cX2_day 139 = .ok (.aload_n 0, 1) := dk_42 (dk_at dksX2_day_5 23 rfl rfl)
theorem dX2_day_140 : decode cX2_day 140 = .ok (.dup, 1) := dk_89 (dk_at dksX2_day_6 0 rfl rfl)
theorem dX2_day_141 : decode cX2_day 141 = .ok (.getfield 26, 3) := dk_180 0 26 (dk_at dksX2_day_6 1 rfl rfl)
theorem dX2_day_144 : decode cX2_day 144 = .ok (.iconst 1, 1) := dk_4 (dk_at dksX2_day_6 4 rfl rfl)
theorem dX2_day_145 : decode cX2_day 145 = .ok (.iadd, 1) := dk_96 (dk_at dksX2_day_6 5 rfl rfl)
theorem dX2_day_146 : decode cX2_day 146 = .ok (.putfield 26, 3) := dk_181 0 26 (dk_at dksX2_day_6 6 rfl rfl)
theorem dX2_day_149 : decode cX2_day 149 = .ok (.return_, 1) := dk_177 (dk_at dksX2_day_6 9 rfl rfl)
abbrev cX2_lead : ByteArray := prog_16_method_6_code
def yX2_lead : MethodName := ⟨RX2, "lead", "()V"⟩
def dkwX2_lead_3 : List UInt8 := [100, 96, 79, 177]
abbrev dktX2_lead_3 : List UInt8 := dkwX2_lead_3 ++ []
def dkwX2_lead_2 : List UInt8 := [42, 180, 0, 9, 29, 46, 96, 61, 132, 3, 1, 167, 255, 210, 42, 180, 0, 9, 3, 92, 46, 18, 29, 28]
abbrev dktX2_lead_2 : List UInt8 := dkwX2_lead_2 ++ dktX2_lead_3
def dkwX2_lead_1 : List UInt8 := [154, 0, 7, 3, 167, 0, 18, 42, 180, 0, 9, 29, 46, 133, 20, 0, 49, 105, 27, 133, 109, 136, 79, 28]
abbrev dktX2_lead_1 : List UInt8 := dkwX2_lead_1 ++ dktX2_lead_2
def dkwX2_lead_0 : List UInt8 := [18, 29, 42, 180, 0, 46, 100, 60, 3, 61, 3, 62, 29, 7, 162, 0, 47, 42, 180, 0, 9, 29, 27]
abbrev dktX2_lead_0 : List UInt8 := dkwX2_lead_0 ++ dktX2_lead_1
theorem dksX2_lead_0 : cX2_lead.data.toList.drop 0 = dktX2_lead_0 := by decide +kernel
theorem dksX2_lead_1 : cX2_lead.data.toList.drop 23 = dktX2_lead_1 := dk_seg dksX2_lead_0 23 rfl rfl
theorem dksX2_lead_2 : cX2_lead.data.toList.drop 47 = dktX2_lead_2 := dk_seg dksX2_lead_1 24 rfl rfl
theorem dksX2_lead_3 : cX2_lead.data.toList.drop 71 = dktX2_lead_3 := dk_seg dksX2_lead_2 24 rfl rfl
theorem dX2_lead_0 : decode cX2_lead 0 = .ok (.ldc 29, 2) := dk_18 29 (dk_at dksX2_lead_0 0 rfl rfl)
theorem dX2_lead_2 : decode cX2_lead 2 = .ok (.aload_n 0, 1) := dk_42 (dk_at dksX2_lead_0 2 rfl rfl)
theorem dX2_lead_3 : decode cX2_lead 3 = .ok (.getfield 46, 3) := dk_180 0 46 (dk_at dksX2_lead_0 3 rfl rfl)
theorem dX2_lead_6 : decode cX2_lead 6 = .ok (.isub, 1) := dk_100 (dk_at dksX2_lead_0 6 rfl rfl)
theorem dX2_lead_7 : decode cX2_lead 7 = .ok (.istore_n 1, 1) := dk_60 (dk_at dksX2_lead_0 7 rfl rfl)
theorem dX2_lead_8 : decode cX2_lead 8 = .ok (.iconst 0, 1) := dk_3 (dk_at dksX2_lead_0 8 rfl rfl)
theorem dX2_lead_9 : decode cX2_lead 9 = .ok (.istore_n 2, 1) := dk_61 (dk_at dksX2_lead_0 9 rfl rfl)
theorem dX2_lead_10 : decode cX2_lead 10 = .ok (.iconst 0, 1) := dk_3 (dk_at dksX2_lead_0 10 rfl rfl)
theorem dX2_lead_11 : decode cX2_lead 11 = .ok (.istore_n 3, 1) := dk_62 (dk_at dksX2_lead_0 11 rfl rfl)
theorem dX2_lead_12 : decode cX2_lead 12 = .ok (.iload_n 3, 1) := dk_29 (dk_at dksX2_lead_0 12 rfl rfl)
theorem dX2_lead_13 : decode cX2_lead 13 = .ok (.iconst 4, 1) := dk_7 (dk_at dksX2_lead_0 13 rfl rfl)
theorem dX2_lead_14 : decode cX2_lead 14 = .ok (.if_icmp .ge 47, 3) := dk_162 0 47 (dk_at dksX2_lead_0 14 rfl rfl)
theorem dX2_lead_17 : decode cX2_lead 17 = .ok (.aload_n 0, 1) := dk_42 (dk_at dksX2_lead_0 17 rfl rfl)
theorem dX2_lead_18 : decode cX2_lead 18 = .ok (.getfield 9, 3) := dk_180 0 9 (dk_at dksX2_lead_0 18 rfl rfl)
theorem dX2_lead_21 : decode cX2_lead 21 = .ok (.iload_n 3, 1) := dk_29 (dk_at dksX2_lead_0 21 rfl rfl)
theorem dX2_lead_22 : decode cX2_lead 22 = .ok (.iload_n 1, 1) := dk_27 (dk_at dksX2_lead_0 22 rfl rfl)
theorem dX2_lead_23 : decode cX2_lead 23 = .ok (.ifCond .ne 7, 3) := dk_154 0 7 (dk_at dksX2_lead_1 0 rfl rfl)
theorem dX2_lead_26 : decode cX2_lead 26 = .ok (.iconst 0, 1) := dk_3 (dk_at dksX2_lead_1 3 rfl rfl)
theorem dX2_lead_27 : decode cX2_lead 27 = .ok (.goto 18, 3) := dk_167 0 18 (dk_at dksX2_lead_1 4 rfl rfl)
theorem dX2_lead_30 : decode cX2_lead 30 = .ok (.aload_n 0, 1) := dk_42 (dk_at dksX2_lead_1 7 rfl rfl)
theorem dX2_lead_31 : decode cX2_lead 31 = .ok (.getfield 9, 3) := dk_180 0 9 (dk_at dksX2_lead_1 8 rfl rfl)
theorem dX2_lead_34 : decode cX2_lead 34 = .ok (.iload_n 3, 1) := dk_29 (dk_at dksX2_lead_1 11 rfl rfl)
theorem dX2_lead_35 : decode cX2_lead 35 = .ok (.iaload, 1) := dk_46 (dk_at dksX2_lead_1 12 rfl rfl)
theorem dX2_lead_36 : decode cX2_lead 36 = .ok (.i2l, 1) := dk_133 (dk_at dksX2_lead_1 13 rfl rfl)
theorem dX2_lead_37 : decode cX2_lead 37 = .ok (.ldc2_w 49, 3) := dk_20 0 49 (dk_at dksX2_lead_1 14 rfl rfl)
theorem dX2_lead_40 : decode cX2_lead 40 = .ok (.lmul, 1) := dk_105 (dk_at dksX2_lead_1 17 rfl rfl)
theorem dX2_lead_41 : decode cX2_lead 41 = .ok (.iload_n 1, 1) := dk_27 (dk_at dksX2_lead_1 18 rfl rfl)
theorem dX2_lead_42 : decode cX2_lead 42 = .ok (.i2l, 1) := dk_133 (dk_at dksX2_lead_1 19 rfl rfl)
theorem dX2_lead_43 : decode cX2_lead 43 = .ok (.ldiv, 1) := dk_109 (dk_at dksX2_lead_1 20 rfl rfl)
theorem dX2_lead_44 : decode cX2_lead 44 = .ok (.l2i, 1) := dk_136 (dk_at dksX2_lead_1 21 rfl rfl)
theorem dX2_lead_45 : decode cX2_lead 45 = .ok (.iastore, 1) := dk_79 (dk_at dksX2_lead_1 22 rfl rfl)
theorem dX2_lead_46 : decode cX2_lead 46 = .ok (.iload_n 2, 1) := dk_28 (dk_at dksX2_lead_1 23 rfl rfl)
theorem dX2_lead_47 : decode cX2_lead 47 = .ok (.aload_n 0, 1) := dk_42 (dk_at dksX2_lead_2 0 rfl rfl)
theorem dX2_lead_48 : decode cX2_lead 48 = .ok (.getfield 9, 3) := dk_180 0 9 (dk_at dksX2_lead_2 1 rfl rfl)
theorem dX2_lead_51 : decode cX2_lead 51 = .ok (.iload_n 3, 1) := dk_29 (dk_at dksX2_lead_2 4 rfl rfl)
theorem dX2_lead_52 : decode cX2_lead 52 = .ok (.iaload, 1) := dk_46 (dk_at dksX2_lead_2 5 rfl rfl)
theorem dX2_lead_53 : decode cX2_lead 53 = .ok (.iadd, 1) := dk_96 (dk_at dksX2_lead_2 6 rfl rfl)
theorem dX2_lead_54 : decode cX2_lead 54 = .ok (.istore_n 2, 1) := dk_61 (dk_at dksX2_lead_2 7 rfl rfl)
theorem dX2_lead_55 : decode cX2_lead 55 = .ok (.iinc 3 1, 3) := dk_132 3 1 (dk_at dksX2_lead_2 8 rfl rfl)
theorem dX2_lead_58 : decode cX2_lead 58 = .ok (.goto (-46), 3) := dk_167 255 210 (dk_at dksX2_lead_2 11 rfl rfl)
theorem dX2_lead_61 : decode cX2_lead 61 = .ok (.aload_n 0, 1) := dk_42 (dk_at dksX2_lead_2 14 rfl rfl)
theorem dX2_lead_62 : decode cX2_lead 62 = .ok (.getfield 9, 3) := dk_180 0 9 (dk_at dksX2_lead_2 15 rfl rfl)
theorem dX2_lead_65 : decode cX2_lead 65 = .ok (.iconst 0, 1) := dk_3 (dk_at dksX2_lead_2 18 rfl rfl)
theorem dX2_lead_66 : decode cX2_lead 66 = .ok (.dup2, 1) := dk_92 (dk_at dksX2_lead_2 19 rfl rfl)
theorem dX2_lead_67 : decode cX2_lead 67 = .ok (.iaload, 1) := dk_46 (dk_at dksX2_lead_2 20 rfl rfl)
theorem dX2_lead_68 : decode cX2_lead 68 = .ok (.ldc 29, 2) := dk_18 29 (dk_at dksX2_lead_2 21 rfl rfl)
theorem dX2_lead_70 : decode cX2_lead 70 = .ok (.iload_n 2, 1) := dk_28 (dk_at dksX2_lead_2 23 rfl rfl)
theorem dX2_lead_71 : decode cX2_lead 71 = .ok (.isub, 1) := dk_100 (dk_at dksX2_lead_3 0 rfl rfl)
theorem dX2_lead_72 : decode cX2_lead 72 = .ok (.iadd, 1) := dk_96 (dk_at dksX2_lead_3 1 rfl rfl)
theorem dX2_lead_73 : decode cX2_lead 73 = .ok (.iastore, 1) := dk_79 (dk_at dksX2_lead_3 2 rfl rfl)
theorem dX2_lead_74 : decode cX2_lead 74 = .ok (.return_, 1) := dk_177 (dk_at dksX2_lead_3 3 rfl rfl)
abbrev cX2_look : ByteArray := prog_16_method_8_code
def yX2_look : MethodName := ⟨RX2, "look", "()V"⟩
def dkwX2_look_3 : List UInt8 := [132, 1, 1, 167, 255, 190, 42, 182, 0, 63, 177]
abbrev dktX2_look_3 : List UInt8 := dkwX2_look_3 ++ []
def dkwX2_look_2 : List UInt8 := [89, 180, 0, 46, 42, 180, 0, 9, 27, 46, 28, 100, 96, 181, 0, 46, 42, 180, 0, 9, 27, 28, 79]
abbrev dktX2_look_2 : List UInt8 := dkwX2_look_2 ++ dktX2_look_3
def dkwX2_look_1 : List UInt8 := [162, 0, 23, 28, 42, 180, 0, 15, 180, 0, 60, 8, 46, 184, 0, 42, 61, 132, 3, 1, 167, 255, 234, 42]
abbrev dktX2_look_1 : List UInt8 := dkwX2_look_1 ++ dktX2_look_2
def dkwX2_look_0 : List UInt8 := [42, 3, 181, 0, 46, 4, 60, 27, 7, 162, 0, 67, 42, 180, 0, 9, 27, 46, 61, 3, 62, 29, 27]
abbrev dktX2_look_0 : List UInt8 := dkwX2_look_0 ++ dktX2_look_1
theorem dksX2_look_0 : cX2_look.data.toList.drop 0 = dktX2_look_0 := by decide +kernel
theorem dksX2_look_1 : cX2_look.data.toList.drop 23 = dktX2_look_1 := dk_seg dksX2_look_0 23 rfl rfl
theorem dksX2_look_2 : cX2_look.data.toList.drop 47 = dktX2_look_2 := dk_seg dksX2_look_1 24 rfl rfl
theorem dksX2_look_3 : cX2_look.data.toList.drop 70 = dktX2_look_3 := dk_seg dksX2_look_2 23 rfl rfl
theorem dX2_look_0 : decode cX2_look 0 = .ok (.aload_n 0, 1) := dk_42 (dk_at dksX2_look_0 0 rfl rfl)
theorem dX2_look_1 : decode cX2_look 1 = .ok (.iconst 0, 1) := dk_3 (dk_at dksX2_look_0 1 rfl rfl)
theorem dX2_look_2 : decode cX2_look 2 = .ok (.putfield 46, 3) := dk_181 0 46 (dk_at dksX2_look_0 2 rfl rfl)
theorem dX2_look_5 : decode cX2_look 5 = .ok (.iconst 1, 1) := dk_4 (dk_at dksX2_look_0 5 rfl rfl)
theorem dX2_look_6 : decode cX2_look 6 = .ok (.istore_n 1, 1) := dk_60 (dk_at dksX2_look_0 6 rfl rfl)
theorem dX2_look_7 : decode cX2_look 7 = .ok (.iload_n 1, 1) := dk_27 (dk_at dksX2_look_0 7 rfl rfl)
theorem dX2_look_8 : decode cX2_look 8 = .ok (.iconst 4, 1) := dk_7 (dk_at dksX2_look_0 8 rfl rfl)
theorem dX2_look_9 : decode cX2_look 9 = .ok (.if_icmp .ge 67, 3) := dk_162 0 67 (dk_at dksX2_look_0 9 rfl rfl)
theorem dX2_look_12 : decode cX2_look 12 = .ok (.aload_n 0, 1) := dk_42 (dk_at dksX2_look_0 12 rfl rfl)
theorem dX2_look_13 : decode cX2_look 13 = .ok (.getfield 9, 3) := dk_180 0 9 (dk_at dksX2_look_0 13 rfl rfl)
theorem dX2_look_16 : decode cX2_look 16 = .ok (.iload_n 1, 1) := dk_27 (dk_at dksX2_look_0 16 rfl rfl)
theorem dX2_look_17 : decode cX2_look 17 = .ok (.iaload, 1) := dk_46 (dk_at dksX2_look_0 17 rfl rfl)
theorem dX2_look_18 : decode cX2_look 18 = .ok (.istore_n 2, 1) := dk_61 (dk_at dksX2_look_0 18 rfl rfl)
theorem dX2_look_19 : decode cX2_look 19 = .ok (.iconst 0, 1) := dk_3 (dk_at dksX2_look_0 19 rfl rfl)
theorem dX2_look_20 : decode cX2_look 20 = .ok (.istore_n 3, 1) := dk_62 (dk_at dksX2_look_0 20 rfl rfl)
theorem dX2_look_21 : decode cX2_look 21 = .ok (.iload_n 3, 1) := dk_29 (dk_at dksX2_look_0 21 rfl rfl)
theorem dX2_look_22 : decode cX2_look 22 = .ok (.iload_n 1, 1) := dk_27 (dk_at dksX2_look_0 22 rfl rfl)
theorem dX2_look_23 : decode cX2_look 23 = .ok (.if_icmp .ge 23, 3) := dk_162 0 23 (dk_at dksX2_look_1 0 rfl rfl)
theorem dX2_look_26 : decode cX2_look 26 = .ok (.iload_n 2, 1) := dk_28 (dk_at dksX2_look_1 3 rfl rfl)
theorem dX2_look_27 : decode cX2_look 27 = .ok (.aload_n 0, 1) := dk_42 (dk_at dksX2_look_1 4 rfl rfl)
theorem dX2_look_28 : decode cX2_look 28 = .ok (.getfield 15, 3) := dk_180 0 15 (dk_at dksX2_look_1 5 rfl rfl)
theorem dX2_look_31 : decode cX2_look 31 = .ok (.getfield 60, 3) := dk_180 0 60 (dk_at dksX2_look_1 8 rfl rfl)
theorem dX2_look_34 : decode cX2_look 34 = .ok (.iconst 5, 1) := dk_8 (dk_at dksX2_look_1 11 rfl rfl)
theorem dX2_look_35 : decode cX2_look 35 = .ok (.iaload, 1) := dk_46 (dk_at dksX2_look_1 12 rfl rfl)
theorem dX2_look_36 : decode cX2_look 36 = .ok (.invokestatic 42, 3) := dk_184 0 42 (dk_at dksX2_look_1 13 rfl rfl)
theorem dX2_look_39 : decode cX2_look 39 = .ok (.istore_n 2, 1) := dk_61 (dk_at dksX2_look_1 16 rfl rfl)
theorem dX2_look_40 : decode cX2_look 40 = .ok (.iinc 3 1, 3) := dk_132 3 1 (dk_at dksX2_look_1 17 rfl rfl)
theorem dX2_look_43 : decode cX2_look 43 = .ok (.goto (-22), 3) := dk_167 255 234 (dk_at dksX2_look_1 20 rfl rfl)
theorem dX2_look_46 : decode cX2_look 46 = .ok (.aload_n 0, 1) := dk_42 (dk_at dksX2_look_1 23 rfl rfl)
theorem dX2_look_47 : decode cX2_look 47 = .ok (.dup, 1) := dk_89 (dk_at dksX2_look_2 0 rfl rfl)
theorem dX2_look_48 : decode cX2_look 48 = .ok (.getfield 46, 3) := dk_180 0 46 (dk_at dksX2_look_2 1 rfl rfl)
theorem dX2_look_51 : decode cX2_look 51 = .ok (.aload_n 0, 1) := dk_42 (dk_at dksX2_look_2 4 rfl rfl)
theorem dX2_look_52 : decode cX2_look 52 = .ok (.getfield 9, 3) := dk_180 0 9 (dk_at dksX2_look_2 5 rfl rfl)
theorem dX2_look_55 : decode cX2_look 55 = .ok (.iload_n 1, 1) := dk_27 (dk_at dksX2_look_2 8 rfl rfl)
theorem dX2_look_56 : decode cX2_look 56 = .ok (.iaload, 1) := dk_46 (dk_at dksX2_look_2 9 rfl rfl)
theorem dX2_look_57 : decode cX2_look 57 = .ok (.iload_n 2, 1) := dk_28 (dk_at dksX2_look_2 10 rfl rfl)
theorem dX2_look_58 : decode cX2_look 58 = .ok (.isub, 1) := dk_100 (dk_at dksX2_look_2 11 rfl rfl)
theorem dX2_look_59 : decode cX2_look 59 = .ok (.iadd, 1) := dk_96 (dk_at dksX2_look_2 12 rfl rfl)
theorem dX2_look_60 : decode cX2_look 60 = .ok (.putfield 46, 3) := dk_181 0 46 (dk_at dksX2_look_2 13 rfl rfl)
theorem dX2_look_63 : decode cX2_look 63 = .ok (.aload_n 0, 1) := dk_42 (dk_at dksX2_look_2 16 rfl rfl)
theorem dX2_look_64 : decode cX2_look 64 = .ok (.getfield 9, 3) := dk_180 0 9 (dk_at dksX2_look_2 17 rfl rfl)
theorem dX2_look_67 : decode cX2_look 67 = .ok (.iload_n 1, 1) := dk_27 (dk_at dksX2_look_2 20 rfl rfl)
theorem dX2_look_68 : decode cX2_look 68 = .ok (.iload_n 2, 1) := dk_28 (dk_at dksX2_look_2 21 rfl rfl)
theorem dX2_look_69 : decode cX2_look 69 = .ok (.iastore, 1) := dk_79 (dk_at dksX2_look_2 22 rfl rfl)
theorem dX2_look_70 : decode cX2_look 70 = .ok (.iinc 1 1, 3) := dk_132 1 1 (dk_at dksX2_look_3 0 rfl rfl)
theorem dX2_look_73 : decode cX2_look 73 = .ok (.goto (-66), 3) := dk_167 255 190 (dk_at dksX2_look_3 3 rfl rfl)
theorem dX2_look_76 : decode cX2_look 76 = .ok (.aload_n 0, 1) := dk_42 (dk_at dksX2_look_3 6 rfl rfl)
theorem dX2_look_77 : decode cX2_look 77 = .ok (.invokevirtual 63, 3) := dk_182 0 63 (dk_at dksX2_look_3 7 rfl rfl)
theorem dX2_look_80 : decode cX2_look 80 = .ok (.return_, 1) := dk_177 (dk_at dksX2_look_3 10 rfl rfl)
abbrev cX2_harm : ByteArray := prog_16_method_10_code
def yX2_harm : MethodName := ⟨RX2, "harm", "()J"⟩
def dkwX2_harm_0 : List UInt8 := [42, 42, 180, 0, 15, 182, 0, 66, 173]
abbrev dktX2_harm_0 : List UInt8 := dkwX2_harm_0 ++ []
theorem dksX2_harm_0 : cX2_harm.data.toList.drop 0 = dktX2_harm_0 := by decide +kernel
theorem dX2_harm_0 : decode cX2_harm 0 = .ok (.aload_n 0, 1) := dk_42 (dk_at dksX2_harm_0 0 rfl rfl)
theorem dX2_harm_1 : decode cX2_harm 1 = .ok (.aload_n 0, 1) := dk_42 (dk_at dksX2_harm_0 1 rfl rfl)
theorem dX2_harm_2 : decode cX2_harm 2 = .ok (.getfield 15, 3) := dk_180 0 15 (dk_at dksX2_harm_0 2 rfl rfl)
theorem dX2_harm_5 : decode cX2_harm 5 = .ok (.invokevirtual 66, 3) := dk_182 0 66 (dk_at dksX2_harm_0 5 rfl rfl)
theorem dX2_harm_8 : decode cX2_harm 8 = .ok (.lreturn, 1) := dk_173 (dk_at dksX2_harm_0 8 rfl rfl)
abbrev cX2_harmIn : ByteArray := prog_16_method_11_code
def yX2_harmIn : MethodName := ⟨RX2, "harmIn", "(LFortyDays$Port;)J"⟩
def dkwX2_harmIn_1 : List UInt8 := [180, 0, 9, 6, 46, 104, 96, 133, 105, 20, 0, 40, 109, 173]
abbrev dktX2_harmIn_1 : List UInt8 := dkwX2_harmIn_1 ++ []
def dkwX2_harmIn_0 : List UInt8 := [43, 180, 0, 60, 6, 46, 133, 42, 180, 0, 9, 4, 46, 5, 42, 180, 0, 9, 5, 46, 104, 96, 6, 42]
abbrev dktX2_harmIn_0 : List UInt8 := dkwX2_harmIn_0 ++ dktX2_harmIn_1
theorem dksX2_harmIn_0 : cX2_harmIn.data.toList.drop 0 = dktX2_harmIn_0 := by decide +kernel
theorem dksX2_harmIn_1 : cX2_harmIn.data.toList.drop 24 = dktX2_harmIn_1 := dk_seg dksX2_harmIn_0 24 rfl rfl
theorem dX2_harmIn_0 : decode cX2_harmIn 0 = .ok (.aload_n 1, 1) := dk_43 (dk_at dksX2_harmIn_0 0 rfl rfl)
theorem dX2_harmIn_1 : decode cX2_harmIn 1 = .ok (.getfield 60, 3) := dk_180 0 60 (dk_at dksX2_harmIn_0 1 rfl rfl)
theorem dX2_harmIn_4 : decode cX2_harmIn 4 = .ok (.iconst 3, 1) := dk_6 (dk_at dksX2_harmIn_0 4 rfl rfl)
theorem dX2_harmIn_5 : decode cX2_harmIn 5 = .ok (.iaload, 1) := dk_46 (dk_at dksX2_harmIn_0 5 rfl rfl)
theorem dX2_harmIn_6 : decode cX2_harmIn 6 = .ok (.i2l, 1) := dk_133 (dk_at dksX2_harmIn_0 6 rfl rfl)
theorem dX2_harmIn_7 : decode cX2_harmIn 7 = .ok (.aload_n 0, 1) := dk_42 (dk_at dksX2_harmIn_0 7 rfl rfl)
theorem dX2_harmIn_8 : decode cX2_harmIn 8 = .ok (.getfield 9, 3) := dk_180 0 9 (dk_at dksX2_harmIn_0 8 rfl rfl)
theorem dX2_harmIn_11 : decode cX2_harmIn 11 = .ok (.iconst 1, 1) := dk_4 (dk_at dksX2_harmIn_0 11 rfl rfl)
theorem dX2_harmIn_12 : decode cX2_harmIn 12 = .ok (.iaload, 1) := dk_46 (dk_at dksX2_harmIn_0 12 rfl rfl)
theorem dX2_harmIn_13 : decode cX2_harmIn 13 = .ok (.iconst 2, 1) := dk_5 (dk_at dksX2_harmIn_0 13 rfl rfl)
theorem dX2_harmIn_14 : decode cX2_harmIn 14 = .ok (.aload_n 0, 1) := dk_42 (dk_at dksX2_harmIn_0 14 rfl rfl)
theorem dX2_harmIn_15 : decode cX2_harmIn 15 = .ok (.getfield 9, 3) := dk_180 0 9 (dk_at dksX2_harmIn_0 15 rfl rfl)
theorem dX2_harmIn_18 : decode cX2_harmIn 18 = .ok (.iconst 2, 1) := dk_5 (dk_at dksX2_harmIn_0 18 rfl rfl)
theorem dX2_harmIn_19 : decode cX2_harmIn 19 = .ok (.iaload, 1) := dk_46 (dk_at dksX2_harmIn_0 19 rfl rfl)
theorem dX2_harmIn_20 : decode cX2_harmIn 20 = .ok (.imul, 1) := dk_104 (dk_at dksX2_harmIn_0 20 rfl rfl)
theorem dX2_harmIn_21 : decode cX2_harmIn 21 = .ok (.iadd, 1) := dk_96 (dk_at dksX2_harmIn_0 21 rfl rfl)
theorem dX2_harmIn_22 : decode cX2_harmIn 22 = .ok (.iconst 3, 1) := dk_6 (dk_at dksX2_harmIn_0 22 rfl rfl)
theorem dX2_harmIn_23 : decode cX2_harmIn 23 = .ok (.aload_n 0, 1) := dk_42 (dk_at dksX2_harmIn_0 23 rfl rfl)
theorem dX2_harmIn_24 : decode cX2_harmIn 24 = .ok (.getfield 9, 3) := dk_180 0 9 (dk_at dksX2_harmIn_1 0 rfl rfl)
theorem dX2_harmIn_27 : decode cX2_harmIn 27 = .ok (.iconst 3, 1) := dk_6 (dk_at dksX2_harmIn_1 3 rfl rfl)
theorem dX2_harmIn_28 : decode cX2_harmIn 28 = .ok (.iaload, 1) := dk_46 (dk_at dksX2_harmIn_1 4 rfl rfl)
theorem dX2_harmIn_29 : decode cX2_harmIn 29 = .ok (.imul, 1) := dk_104 (dk_at dksX2_harmIn_1 5 rfl rfl)
theorem dX2_harmIn_30 : decode cX2_harmIn 30 = .ok (.iadd, 1) := dk_96 (dk_at dksX2_harmIn_1 6 rfl rfl)
theorem dX2_harmIn_31 : decode cX2_harmIn 31 = .ok (.i2l, 1) := dk_133 (dk_at dksX2_harmIn_1 7 rfl rfl)
theorem dX2_harmIn_32 : decode cX2_harmIn 32 = .ok (.lmul, 1) := dk_105 (dk_at dksX2_harmIn_1 8 rfl rfl)
theorem dX2_harmIn_33 : decode cX2_harmIn 33 = .ok (.ldc2_w 40, 3) := dk_20 0 40 (dk_at dksX2_harmIn_1 9 rfl rfl)
theorem dX2_harmIn_36 : decode cX2_harmIn 36 = .ok (.ldiv, 1) := dk_109 (dk_at dksX2_harmIn_1 12 rfl rfl)
theorem dX2_harmIn_37 : decode cX2_harmIn 37 = .ok (.lreturn, 1) := dk_173 (dk_at dksX2_harmIn_1 13 rfl rfl)
abbrev cX2_become : ByteArray := prog_16_method_3_code
def yX2_become : MethodName := ⟨RX2, "become", "(LFortyDays$Thought;)V"⟩
def dkwX2_become_1 : List UInt8 := [180, 0, 19, 181, 0, 19, 42, 43, 180, 0, 23, 181, 0, 23, 42, 43, 180, 0, 26, 181, 0, 26, 177]
abbrev dktX2_become_1 : List UInt8 := dkwX2_become_1 ++ []
def dkwX2_become_0 : List UInt8 := [43, 180, 0, 9, 3, 42, 180, 0, 9, 3, 7, 184, 0, 34, 42, 43, 180, 0, 15, 181, 0, 15, 42, 43]
abbrev dktX2_become_0 : List UInt8 := dkwX2_become_0 ++ dktX2_become_1
theorem dksX2_become_0 : cX2_become.data.toList.drop 0 = dktX2_become_0 := by decide +kernel
theorem dksX2_become_1 : cX2_become.data.toList.drop 24 = dktX2_become_1 := dk_seg dksX2_become_0 24 rfl rfl
theorem dX2_become_0 : decode cX2_become 0 = .ok (.aload_n 1, 1) := dk_43 (dk_at dksX2_become_0 0 rfl rfl)
theorem dX2_become_1 : decode cX2_become 1 = .ok (.getfield 9, 3) := dk_180 0 9 (dk_at dksX2_become_0 1 rfl rfl)
theorem dX2_become_4 : decode cX2_become 4 = .ok (.iconst 0, 1) := dk_3 (dk_at dksX2_become_0 4 rfl rfl)
theorem dX2_become_5 : decode cX2_become 5 = .ok (.aload_n 0, 1) := dk_42 (dk_at dksX2_become_0 5 rfl rfl)
theorem dX2_become_6 : decode cX2_become 6 = .ok (.getfield 9, 3) := dk_180 0 9 (dk_at dksX2_become_0 6 rfl rfl)
theorem dX2_become_9 : decode cX2_become 9 = .ok (.iconst 0, 1) := dk_3 (dk_at dksX2_become_0 9 rfl rfl)
theorem dX2_become_10 : decode cX2_become 10 = .ok (.iconst 4, 1) := dk_7 (dk_at dksX2_become_0 10 rfl rfl)
theorem dX2_become_11 : decode cX2_become 11 = .ok (.invokestatic 34, 3) := dk_184 0 34 (dk_at dksX2_become_0 11 rfl rfl)
theorem dX2_become_14 : decode cX2_become 14 = .ok (.aload_n 0, 1) := dk_42 (dk_at dksX2_become_0 14 rfl rfl)
theorem dX2_become_15 : decode cX2_become 15 = .ok (.aload_n 1, 1) := dk_43 (dk_at dksX2_become_0 15 rfl rfl)
theorem dX2_become_16 : decode cX2_become 16 = .ok (.getfield 15, 3) := dk_180 0 15 (dk_at dksX2_become_0 16 rfl rfl)
theorem dX2_become_19 : decode cX2_become 19 = .ok (.putfield 15, 3) := dk_181 0 15 (dk_at dksX2_become_0 19 rfl rfl)
theorem dX2_become_22 : decode cX2_become 22 = .ok (.aload_n 0, 1) := dk_42 (dk_at dksX2_become_0 22 rfl rfl)
theorem dX2_become_23 : decode cX2_become 23 = .ok (.aload_n 1, 1) := dk_43 (dk_at dksX2_become_0 23 rfl rfl)
theorem dX2_become_24 : decode cX2_become 24 = .ok (.getfield 19, 3) := dk_180 0 19 (dk_at dksX2_become_1 0 rfl rfl)
theorem dX2_become_27 : decode cX2_become 27 = .ok (.putfield 19, 3) := dk_181 0 19 (dk_at dksX2_become_1 3 rfl rfl)
theorem dX2_become_30 : decode cX2_become 30 = .ok (.aload_n 0, 1) := dk_42 (dk_at dksX2_become_1 6 rfl rfl)
theorem dX2_become_31 : decode cX2_become 31 = .ok (.aload_n 1, 1) := dk_43 (dk_at dksX2_become_1 7 rfl rfl)
theorem dX2_become_32 : decode cX2_become 32 = .ok (.getfield 23, 3) := dk_180 0 23 (dk_at dksX2_become_1 8 rfl rfl)
theorem dX2_become_35 : decode cX2_become 35 = .ok (.putfield 23, 3) := dk_181 0 23 (dk_at dksX2_become_1 11 rfl rfl)
theorem dX2_become_38 : decode cX2_become 38 = .ok (.aload_n 0, 1) := dk_42 (dk_at dksX2_become_1 14 rfl rfl)
theorem dX2_become_39 : decode cX2_become 39 = .ok (.aload_n 1, 1) := dk_43 (dk_at dksX2_become_1 15 rfl rfl)
theorem dX2_become_40 : decode cX2_become 40 = .ok (.getfield 26, 3) := dk_180 0 26 (dk_at dksX2_become_1 16 rfl rfl)
theorem dX2_become_43 : decode cX2_become 43 = .ok (.putfield 26, 3) := dk_181 0 26 (dk_at dksX2_become_1 19 rfl rfl)
theorem dX2_become_46 : decode cX2_become 46 = .ok (.return_, 1) := dk_177 (dk_at dksX2_become_1 22 rfl rfl)
abbrev cX2_cost : ByteArray := prog_16_method_12_code
def yX2_cost : MethodName := ⟨RX2, "cost", "(I)J"⟩
def dkwX2_cost_0 : List UInt8 := [42, 180, 0, 15, 27, 42, 180, 0, 19, 42, 180, 0, 23, 182, 0, 70, 133, 20, 0, 40, 105, 173]
abbrev dktX2_cost_0 : List UInt8 := dkwX2_cost_0 ++ []
theorem dksX2_cost_0 : cX2_cost.data.toList.drop 0 = dktX2_cost_0 := by decide +kernel
theorem dX2_cost_0 : decode cX2_cost 0 = .ok (.aload_n 0, 1) := dk_42 (dk_at dksX2_cost_0 0 rfl rfl)
theorem dX2_cost_1 : decode cX2_cost 1 = .ok (.getfield 15, 3) := dk_180 0 15 (dk_at dksX2_cost_0 1 rfl rfl)
theorem dX2_cost_4 : decode cX2_cost 4 = .ok (.iload_n 1, 1) := dk_27 (dk_at dksX2_cost_0 4 rfl rfl)
theorem dX2_cost_5 : decode cX2_cost 5 = .ok (.aload_n 0, 1) := dk_42 (dk_at dksX2_cost_0 5 rfl rfl)
theorem dX2_cost_6 : decode cX2_cost 6 = .ok (.getfield 19, 3) := dk_180 0 19 (dk_at dksX2_cost_0 6 rfl rfl)
theorem dX2_cost_9 : decode cX2_cost 9 = .ok (.aload_n 0, 1) := dk_42 (dk_at dksX2_cost_0 9 rfl rfl)
theorem dX2_cost_10 : decode cX2_cost 10 = .ok (.getfield 23, 3) := dk_180 0 23 (dk_at dksX2_cost_0 10 rfl rfl)
theorem dX2_cost_13 : decode cX2_cost 13 = .ok (.invokevirtual 70, 3) := dk_182 0 70 (dk_at dksX2_cost_0 13 rfl rfl)
theorem dX2_cost_16 : decode cX2_cost 16 = .ok (.i2l, 1) := dk_133 (dk_at dksX2_cost_0 16 rfl rfl)
theorem dX2_cost_17 : decode cX2_cost 17 = .ok (.ldc2_w 40, 3) := dk_20 0 40 (dk_at dksX2_cost_0 17 rfl rfl)
theorem dX2_cost_20 : decode cX2_cost 20 = .ok (.lmul, 1) := dk_105 (dk_at dksX2_cost_0 20 rfl rfl)
theorem dX2_cost_21 : decode cX2_cost 21 = .ok (.lreturn, 1) := dk_173 (dk_at dksX2_cost_0 21 rfl rfl)
theorem q93 : (Jvm.Cond.initialized "FortyDays$Thought") ∈ lw_all := lw_g (lw_at lw_m1 6 rfl) rfl
theorem q186 : (Jvm.Cond.instantiable "FortyDays$Thought" (6 : Nat)) ∈ lw_all := lw_g (lw_at lw_m1 99 rfl) rfl
theorem q188 : (Jvm.Cond.instanceMethod ({ cls := "FortyDays$Thought", name := "<init>", desc := "()V" } : Jvm.MethodName)) ∈ lw_all := lw_g (lw_at lw_m1 101 rfl) rfl
theorem q189 : (Jvm.Cond.code ({ cls := "FortyDays$Thought", name := "<init>", desc := "()V" } : Jvm.MethodName) prog_16_method_1_code (1 : Nat) (Option.none : Option Jvm.ClassFile.FieldType)) ∈ lw_all := lw_g (lw_at lw_m1 102 rfl) rfl
theorem q190 : (Jvm.Cond.methodLink "FortyDays$Thought" (3 : Nat) ({ cls := "java/lang/Object", name := "<init>", desc := "()V" } : Jvm.MethodName)) ∈ lw_all := lw_g (lw_at lw_m1 103 rfl) rfl
theorem q191 : (Jvm.Cond.fieldLink "FortyDays$Thought" (9 : Nat) "FortyDays$Thought" "at" "[I") ∈ lw_all := lw_g (lw_at lw_m1 104 rfl) rfl
theorem q193 : (Jvm.Cond.fieldLink "FortyDays$Thought" (15 : Nat) "FortyDays$Thought" "port" "LFortyDays$Port;") ∈ lw_all := lw_g (lw_at lw_m1 106 rfl) rfl
theorem q196 : (Jvm.Cond.fieldLink "FortyDays$Thought" (19 : Nat) "FortyDays$Thought" "hands" "I") ∈ lw_all := lw_g (lw_at lw_m1 109 rfl) rfl
theorem q197 : (Jvm.Cond.fieldLink "FortyDays$Thought" (23 : Nat) "FortyDays$Thought" "says" "I") ∈ lw_all := lw_g (lw_at lw_m1 110 rfl) rfl
theorem q200 : (Jvm.Cond.fieldLink "FortyDays$Thought" (26 : Nat) "FortyDays$Thought" "days" "I") ∈ lw_all := lw_g (lw_at lw_m1 113 rfl) rfl
theorem q203 : (Jvm.Cond.fieldLink "FortyDays$Thought" (46 : Nat) "FortyDays$Thought" "gone" "I") ∈ lw_all := lw_g (lw_at lw_m1 116 rfl) rfl
theorem q205 : (Jvm.Cond.laysFinal "FortyDays$Thought" "FortyDays$Thought" "at" "[I") ∈ lw_all := lw_g (lw_at lw_m1 118 rfl) rfl
theorem q206 : (Jvm.Cond.soleField "FortyDays$Thought" "at") ∈ lw_all := lw_g (lw_at lw_m1 119 rfl) rfl
theorem q207 : (Jvm.Cond.lays "FortyDays$Thought" "FortyDays$Thought" "port" "LFortyDays$Port;") ∈ lw_all := lw_g (lw_at lw_m1 120 rfl) rfl
theorem q208 : (Jvm.Cond.soleField "FortyDays$Thought" "port") ∈ lw_all := lw_g (lw_at lw_m1 121 rfl) rfl
theorem q209 : (Jvm.Cond.lays "FortyDays$Thought" "FortyDays$Thought" "hands" "I") ∈ lw_all := lw_g (lw_at lw_m1 122 rfl) rfl
theorem q210 : (Jvm.Cond.soleField "FortyDays$Thought" "hands") ∈ lw_all := lw_g (lw_at lw_m1 123 rfl) rfl
theorem q211 : (Jvm.Cond.lays "FortyDays$Thought" "FortyDays$Thought" "says" "I") ∈ lw_all := lw_g (lw_at lw_m1 124 rfl) rfl
theorem q212 : (Jvm.Cond.soleField "FortyDays$Thought" "says") ∈ lw_all := lw_g (lw_at lw_m1 125 rfl) rfl
theorem q213 : (Jvm.Cond.lays "FortyDays$Thought" "FortyDays$Thought" "days" "I") ∈ lw_all := lw_g (lw_at lw_m1 126 rfl) rfl
theorem q214 : (Jvm.Cond.soleField "FortyDays$Thought" "days") ∈ lw_all := lw_g (lw_at lw_m1 127 rfl) rfl
theorem q215 : (Jvm.Cond.lays "FortyDays$Thought" "FortyDays$Thought" "gone" "I") ∈ lw_all := lw_g (lw_at lw_m1 128 rfl) rfl
theorem q216 : (Jvm.Cond.soleField "FortyDays$Thought" "gone") ∈ lw_all := lw_g (lw_at lw_m1 129 rfl) rfl
theorem q217 : (Jvm.Cond.superclass "FortyDays$Thought" "java/lang/Object") ∈ lw_all := lw_g (lw_at lw_m1 130 rfl) rfl
theorem q353 : (Jvm.Cond.fieldLinkNest "FortyDays$Thought" (60 : Nat) "FortyDays$Port" "last" "[I" "FortyDays") ∈ lw_tbl := lw_at lw_m2 26 rfl
theorem q571 : (Jvm.Cond.selects "FortyDays$Thought" ({ cls := "java/lang/Object", name := "getClass", desc := "()Ljava/lang/Class;" } : Jvm.MethodName) ({ cls := "java/lang/Object", name := "getClass", desc := "()Ljava/lang/Class;" } : Jvm.MethodName)) ∈ lw_all := lw_g (lw_at lw_m3 4 rfl) rfl
theorem q673 : (Jvm.Cond.instanceMethod ({ cls := "FortyDays$Thought", name := "begin", desc := "(LFortyDays$Port;III)V" } : Jvm.MethodName)) ∈ lw_all := lw_g (lw_at lw_m3 106 rfl) rfl
theorem q674 : (Jvm.Cond.selects "FortyDays$Thought" ({ cls := "FortyDays$Thought", name := "begin", desc := "(LFortyDays$Port;III)V" } : Jvm.MethodName) ({ cls := "FortyDays$Thought", name := "begin", desc := "(LFortyDays$Port;III)V" } : Jvm.MethodName)) ∈ lw_all := lw_g (lw_at lw_m3 107 rfl) rfl
theorem q675 : (Jvm.Cond.code ({ cls := "FortyDays$Thought", name := "begin", desc := "(LFortyDays$Port;III)V" } : Jvm.MethodName) prog_16_method_2_code (7 : Nat) (Option.none : Option Jvm.ClassFile.FieldType)) ∈ lw_all := lw_g (lw_at lw_m3 108 rfl) rfl
theorem q676 : (Jvm.Cond.constant "FortyDays$Thought" (29 : Nat) (1000000 : Int32)) ∈ lw_all := lw_g (lw_at lw_m3 109 rfl) rfl
theorem q677 : (Jvm.Cond.methodLink "FortyDays$Thought" (30 : Nat) ({ cls := "FortyDays$Thought", name := "move", desc := "(III)V" } : Jvm.MethodName)) ∈ lw_all := lw_g (lw_at lw_m3 110 rfl) rfl
theorem q678 : (Jvm.Cond.privateMethod ({ cls := "FortyDays$Thought", name := "move", desc := "(III)V" } : Jvm.MethodName)) ∈ lw_tbl := lw_at lw_m3 111 rfl
theorem q679 : (Jvm.Cond.instanceMethod ({ cls := "FortyDays$Thought", name := "move", desc := "(III)V" } : Jvm.MethodName)) ∈ lw_all := lw_g (lw_at lw_m3 112 rfl) rfl
theorem q680 : (Jvm.Cond.code ({ cls := "FortyDays$Thought", name := "move", desc := "(III)V" } : Jvm.MethodName) prog_16_method_5_code (5 : Nat) (Option.none : Option Jvm.ClassFile.FieldType)) ∈ lw_all := lw_g (lw_at lw_m3 113 rfl) rfl
theorem q681 : (Jvm.Cond.methodLink "FortyDays$Thought" (42 : Nat) ({ cls := "FortyDays$Thought", name := "share", desc := "(II)I" } : Jvm.MethodName)) ∈ lw_all := lw_g (lw_at lw_m3 114 rfl) rfl
theorem q682 : (Jvm.Cond.static ({ cls := "FortyDays$Thought", name := "share", desc := "(II)I" } : Jvm.MethodName)) ∈ lw_all := lw_g (lw_at lw_m3 115 rfl) rfl
theorem q683 : (Jvm.Cond.code ({ cls := "FortyDays$Thought", name := "share", desc := "(II)I" } : Jvm.MethodName) prog_16_method_4_code (2 : Nat) (Option.some Jvm.ClassFile.FieldType.int)) ∈ lw_all := lw_g (lw_at lw_m3 116 rfl) rfl
theorem q684 : (Jvm.Cond.constantLong "FortyDays$Thought" (40 : Nat) (1000 : Int64)) ∈ lw_all := lw_g (lw_at lw_m3 117 rfl) rfl
theorem q717 : (Jvm.Cond.instanceMethod ({ cls := "FortyDays$Thought", name := "ill", desc := "()I" } : Jvm.MethodName)) ∈ lw_all := lw_g (lw_at lw_m3 150 rfl) rfl
theorem q718 : (Jvm.Cond.selects "FortyDays$Thought" ({ cls := "FortyDays$Thought", name := "ill", desc := "()I" } : Jvm.MethodName) ({ cls := "FortyDays$Thought", name := "ill", desc := "()I" } : Jvm.MethodName)) ∈ lw_all := lw_g (lw_at lw_m3 151 rfl) rfl
theorem q719 : (Jvm.Cond.code ({ cls := "FortyDays$Thought", name := "ill", desc := "()I" } : Jvm.MethodName) prog_16_method_9_code (1 : Nat) (Option.some Jvm.ClassFile.FieldType.int)) ∈ lw_all := lw_g (lw_at lw_m3 152 rfl) rfl
theorem q729 : (Jvm.Cond.instanceMethod ({ cls := "FortyDays$Thought", name := "day", desc := "()V" } : Jvm.MethodName)) ∈ lw_all := lw_g (lw_at lw_m3 162 rfl) rfl
theorem q730 : (Jvm.Cond.selects "FortyDays$Thought" ({ cls := "FortyDays$Thought", name := "day", desc := "()V" } : Jvm.MethodName) ({ cls := "FortyDays$Thought", name := "day", desc := "()V" } : Jvm.MethodName)) ∈ lw_all := lw_g (lw_at lw_m3 163 rfl) rfl
theorem q731 : (Jvm.Cond.code ({ cls := "FortyDays$Thought", name := "day", desc := "()V" } : Jvm.MethodName) prog_16_method_7_code (3 : Nat) (Option.none : Option Jvm.ClassFile.FieldType)) ∈ lw_all := lw_g (lw_at lw_m3 164 rfl) rfl
theorem q732 : (Jvm.Cond.methodLink "FortyDays$Thought" (51 : Nat) ({ cls := "FortyDays$Port", name := "give", desc := "()I" } : Jvm.MethodName)) ∈ lw_all := lw_g (lw_at lw_m3 165 rfl) rfl
theorem q736 : (Jvm.Cond.methodLink "FortyDays$Thought" (57 : Nat) ({ cls := "FortyDays$Port", name := "times", desc := "(II)I" } : Jvm.MethodName)) ∈ lw_all := lw_g (lw_at lw_m3 169 rfl) rfl
theorem q740 : (Jvm.Cond.methodLink "FortyDays$Thought" (63 : Nat) ({ cls := "FortyDays$Thought", name := "lead", desc := "()V" } : Jvm.MethodName)) ∈ lw_all := lw_g (lw_at lw_m3 173 rfl) rfl
theorem q741 : (Jvm.Cond.privateMethod ({ cls := "FortyDays$Thought", name := "lead", desc := "()V" } : Jvm.MethodName)) ∈ lw_tbl := lw_at lw_m3 174 rfl
theorem q742 : (Jvm.Cond.instanceMethod ({ cls := "FortyDays$Thought", name := "lead", desc := "()V" } : Jvm.MethodName)) ∈ lw_all := lw_g (lw_at lw_m3 175 rfl) rfl
theorem q743 : (Jvm.Cond.code ({ cls := "FortyDays$Thought", name := "lead", desc := "()V" } : Jvm.MethodName) prog_16_method_6_code (4 : Nat) (Option.none : Option Jvm.ClassFile.FieldType)) ∈ lw_all := lw_g (lw_at lw_m3 176 rfl) rfl
theorem q744 : (Jvm.Cond.constantLong "FortyDays$Thought" (49 : Nat) (1000000 : Int64)) ∈ lw_all := lw_g (lw_at lw_m3 177 rfl) rfl
theorem q750 : (Jvm.Cond.instanceMethod ({ cls := "FortyDays$Thought", name := "look", desc := "()V" } : Jvm.MethodName)) ∈ lw_all := lw_g (lw_at lw_m3 183 rfl) rfl
theorem q751 : (Jvm.Cond.selects "FortyDays$Thought" ({ cls := "FortyDays$Thought", name := "look", desc := "()V" } : Jvm.MethodName) ({ cls := "FortyDays$Thought", name := "look", desc := "()V" } : Jvm.MethodName)) ∈ lw_all := lw_g (lw_at lw_m3 184 rfl) rfl
theorem q752 : (Jvm.Cond.code ({ cls := "FortyDays$Thought", name := "look", desc := "()V" } : Jvm.MethodName) prog_16_method_8_code (4 : Nat) (Option.none : Option Jvm.ClassFile.FieldType)) ∈ lw_all := lw_g (lw_at lw_m3 185 rfl) rfl
theorem q759 : (Jvm.Cond.instanceMethod ({ cls := "FortyDays$Thought", name := "harm", desc := "()J" } : Jvm.MethodName)) ∈ lw_all := lw_g (lw_at lw_m3 192 rfl) rfl
theorem q760 : (Jvm.Cond.selects "FortyDays$Thought" ({ cls := "FortyDays$Thought", name := "harm", desc := "()J" } : Jvm.MethodName) ({ cls := "FortyDays$Thought", name := "harm", desc := "()J" } : Jvm.MethodName)) ∈ lw_all := lw_g (lw_at lw_m3 193 rfl) rfl
theorem q761 : (Jvm.Cond.code ({ cls := "FortyDays$Thought", name := "harm", desc := "()J" } : Jvm.MethodName) prog_16_method_10_code (1 : Nat) (Option.some Jvm.ClassFile.FieldType.long)) ∈ lw_all := lw_g (lw_at lw_m3 194 rfl) rfl
theorem q762 : (Jvm.Cond.methodLink "FortyDays$Thought" (66 : Nat) ({ cls := "FortyDays$Thought", name := "harmIn", desc := "(LFortyDays$Port;)J" } : Jvm.MethodName)) ∈ lw_all := lw_g (lw_at lw_m3 195 rfl) rfl
theorem q763 : (Jvm.Cond.instanceMethod ({ cls := "FortyDays$Thought", name := "harmIn", desc := "(LFortyDays$Port;)J" } : Jvm.MethodName)) ∈ lw_all := lw_g (lw_at lw_m3 196 rfl) rfl
theorem q764 : (Jvm.Cond.selects "FortyDays$Thought" ({ cls := "FortyDays$Thought", name := "harmIn", desc := "(LFortyDays$Port;)J" } : Jvm.MethodName) ({ cls := "FortyDays$Thought", name := "harmIn", desc := "(LFortyDays$Port;)J" } : Jvm.MethodName)) ∈ lw_all := lw_g (lw_at lw_m3 197 rfl) rfl
theorem q765 : (Jvm.Cond.code ({ cls := "FortyDays$Thought", name := "harmIn", desc := "(LFortyDays$Port;)J" } : Jvm.MethodName) prog_16_method_11_code (2 : Nat) (Option.some Jvm.ClassFile.FieldType.long)) ∈ lw_all := lw_g (lw_at lw_m3 198 rfl) rfl
theorem q918 : (Jvm.Cond.instanceMethod ({ cls := "FortyDays$Thought", name := "become", desc := "(LFortyDays$Thought;)V" } : Jvm.MethodName)) ∈ lw_all := lw_g (lw_at lw_m4 111 rfl) rfl
theorem q919 : (Jvm.Cond.selects "FortyDays$Thought" ({ cls := "FortyDays$Thought", name := "become", desc := "(LFortyDays$Thought;)V" } : Jvm.MethodName) ({ cls := "FortyDays$Thought", name := "become", desc := "(LFortyDays$Thought;)V" } : Jvm.MethodName)) ∈ lw_all := lw_g (lw_at lw_m4 112 rfl) rfl
theorem q920 : (Jvm.Cond.code ({ cls := "FortyDays$Thought", name := "become", desc := "(LFortyDays$Thought;)V" } : Jvm.MethodName) prog_16_method_3_code (2 : Nat) (Option.none : Option Jvm.ClassFile.FieldType)) ∈ lw_all := lw_g (lw_at lw_m4 113 rfl) rfl
theorem q921 : (Jvm.Cond.methodLink "FortyDays$Thought" (34 : Nat) ({ cls := "java/lang/System", name := "arraycopy", desc := "(Ljava/lang/Object;ILjava/lang/Object;II)V" } : Jvm.MethodName)) ∈ lw_all := lw_g (lw_at lw_m4 114 rfl) rfl
theorem q923 : (Jvm.Cond.instanceMethod ({ cls := "FortyDays$Thought", name := "cost", desc := "(I)J" } : Jvm.MethodName)) ∈ lw_all := lw_g (lw_at lw_m4 116 rfl) rfl
theorem q924 : (Jvm.Cond.selects "FortyDays$Thought" ({ cls := "FortyDays$Thought", name := "cost", desc := "(I)J" } : Jvm.MethodName) ({ cls := "FortyDays$Thought", name := "cost", desc := "(I)J" } : Jvm.MethodName)) ∈ lw_all := lw_g (lw_at lw_m4 117 rfl) rfl
theorem q925 : (Jvm.Cond.code ({ cls := "FortyDays$Thought", name := "cost", desc := "(I)J" } : Jvm.MethodName) prog_16_method_12_code (2 : Nat) (Option.some Jvm.ClassFile.FieldType.long)) ∈ lw_all := lw_g (lw_at lw_m4 118 rfl) rfl
theorem q926 : (Jvm.Cond.methodLink "FortyDays$Thought" (70 : Nat) ({ cls := "FortyDays$Port", name := "holdOf", desc := "(III)I" } : Jvm.MethodName)) ∈ lw_all := lw_g (lw_at lw_m4 119 rfl) rfl
theorem q1764 : (Jvm.Cond.castable "FortyDays$Thought" "java/lang/Object") ∈ lw_tbl := lw_at lw_m7 237 rfl
theorem in_X2 : ∀ w ∈ wsX20, w ∈ lw_all := lw_in wsX20 [205, 207, 209, 211, 213, 215] (by decide +kernel) (by decide +kernel)

/-! FortyDays$Beside -/
set_option maxRecDepth 100000
def RX3 : String := "FortyDays$Beside"
def TX3 : u_T := fun k => match k with
  | 0 => ("FortyDays$Beside", "on", "[LFortyDays$Thought;", true)
  | 1 => ("FortyDays$Beside", "costs", "[J", true)
  | 2 => ("FortyDays$Beside", "harms", "[J", true)
  | 3 => ("FortyDays$Beside", "shown", "[I", true)
  | _ => ("FortyDays$Beside", "this$0", "LFortyDays;", true)
def tyX3 : Nat → FieldType := fun k => match k with
  | 0 => .array (.object "FortyDays$Thought")
  | 1 => .array .long
  | 2 => .array .long
  | 3 => .array .int
  | _ => .object "FortyDays"
abbrev wsX30 : List Cond := u_ws RX3 TX3 5
theorem nmX3 : ∀ a, a < 5 → ∀ b, b < 5 → a ≠ b → (TX3 a).2.1 ≠ (TX3 b).2.1 := by decide +kernel
theorem tyX3_ok : ∀ k, k < 5 → parseFieldDescriptor (TX3 k).2.2.1 = some (tyX3 k) := by decide +kernel
abbrev cX3_init : ByteArray := prog_2_method_1_code
def yX3_init : MethodName := ⟨RX3, "<init>", "(LFortyDays;)V"⟩
def dkwX3_init_2 : List UInt8 := [163, 0, 22, 42, 180, 0, 17, 28, 187, 0, 15, 89, 183, 0, 32, 83, 132, 2, 1, 167, 255, 234, 177]
abbrev dktX3_init_2 : List UInt8 := dkwX3_init_2 ++ []
def dkwX3_init_1 : List UInt8 := [181, 0, 21, 42, 16, 10, 188, 11, 181, 0, 25, 42, 16, 10, 188, 10, 181, 0, 28, 3, 61, 28, 16, 9]
abbrev dktX3_init_1 : List UInt8 := dkwX3_init_1 ++ dktX3_init_2
def dkwX3_init_0 : List UInt8 := [42, 43, 181, 0, 3, 42, 183, 0, 9, 42, 16, 10, 189, 0, 15, 181, 0, 17, 42, 16, 10, 188, 11]
abbrev dktX3_init_0 : List UInt8 := dkwX3_init_0 ++ dktX3_init_1
theorem dksX3_init_0 : cX3_init.data.toList.drop 0 = dktX3_init_0 := by decide +kernel
theorem dksX3_init_1 : cX3_init.data.toList.drop 23 = dktX3_init_1 := dk_seg dksX3_init_0 23 rfl rfl
theorem dksX3_init_2 : cX3_init.data.toList.drop 47 = dktX3_init_2 := dk_seg dksX3_init_1 24 rfl rfl
theorem dX3_init_0 : decode cX3_init 0 = .ok (.aload_n 0, 1) := dk_42 (dk_at dksX3_init_0 0 rfl rfl)
theorem dX3_init_1 : decode cX3_init 1 = .ok (.aload_n 1, 1) := dk_43 (dk_at dksX3_init_0 1 rfl rfl)
theorem dX3_init_2 : decode cX3_init 2 = .ok (.putfield 3, 3) := dk_181 0 3 (dk_at dksX3_init_0 2 rfl rfl)
theorem dX3_init_5 : decode cX3_init 5 = .ok (.aload_n 0, 1) := dk_42 (dk_at dksX3_init_0 5 rfl rfl)
theorem dX3_init_6 : decode cX3_init 6 = .ok (.invokespecial 9, 3) := dk_183 0 9 (dk_at dksX3_init_0 6 rfl rfl)
theorem dX3_init_9 : decode cX3_init 9 = .ok (.aload_n 0, 1) := dk_42 (dk_at dksX3_init_0 9 rfl rfl)
theorem dX3_init_10 : decode cX3_init 10 = .ok (.bipush 10, 2) := dk_16 10 (dk_at dksX3_init_0 10 rfl rfl)
theorem dX3_init_12 : decode cX3_init 12 = .ok (.anewarray 15, 3) := dk_189 0 15 (dk_at dksX3_init_0 12 rfl rfl)
theorem dX3_init_15 : decode cX3_init 15 = .ok (.putfield 17, 3) := dk_181 0 17 (dk_at dksX3_init_0 15 rfl rfl)
theorem dX3_init_18 : decode cX3_init 18 = .ok (.aload_n 0, 1) := dk_42 (dk_at dksX3_init_0 18 rfl rfl)
theorem dX3_init_19 : decode cX3_init 19 = .ok (.bipush 10, 2) := dk_16 10 (dk_at dksX3_init_0 19 rfl rfl)
theorem dX3_init_21 : decode cX3_init 21 = .ok (.newarray .long, 2) := dk_188_11 (dk_at dksX3_init_0 21 rfl rfl)
theorem dX3_init_23 : decode cX3_init 23 = .ok (.putfield 21, 3) := dk_181 0 21 (dk_at dksX3_init_1 0 rfl rfl)
theorem dX3_init_26 : decode cX3_init 26 = .ok (.aload_n 0, 1) := dk_42 (dk_at dksX3_init_1 3 rfl rfl)
theorem dX3_init_27 : decode cX3_init 27 = .ok (.bipush 10, 2) := dk_16 10 (dk_at dksX3_init_1 4 rfl rfl)
theorem dX3_init_29 : decode cX3_init 29 = .ok (.newarray .long, 2) := dk_188_11 (dk_at dksX3_init_1 6 rfl rfl)
theorem dX3_init_31 : decode cX3_init 31 = .ok (.putfield 25, 3) := dk_181 0 25 (dk_at dksX3_init_1 8 rfl rfl)
theorem dX3_init_34 : decode cX3_init 34 = .ok (.aload_n 0, 1) := dk_42 (dk_at dksX3_init_1 11 rfl rfl)
theorem dX3_init_35 : decode cX3_init 35 = .ok (.bipush 10, 2) := dk_16 10 (dk_at dksX3_init_1 12 rfl rfl)
theorem dX3_init_37 : decode cX3_init 37 = .ok (.newarray .int, 2) := dk_188_10 (dk_at dksX3_init_1 14 rfl rfl)
theorem dX3_init_39 : decode cX3_init 39 = .ok (.putfield 28, 3) := dk_181 0 28 (dk_at dksX3_init_1 16 rfl rfl)
theorem dX3_init_42 : decode cX3_init 42 = .ok (.iconst 0, 1) := dk_3 (dk_at dksX3_init_1 19 rfl rfl)
theorem dX3_init_43 : decode cX3_init 43 = .ok (.istore_n 2, 1) := dk_61 (dk_at dksX3_init_1 20 rfl rfl)
theorem dX3_init_44 : decode cX3_init 44 = .ok (.iload_n 2, 1) := dk_28 (dk_at dksX3_init_1 21 rfl rfl)
theorem dX3_init_45 : decode cX3_init 45 = .ok (.bipush 9, 2) := dk_16 9 (dk_at dksX3_init_1 22 rfl rfl)
theorem dX3_init_47 : decode cX3_init 47 = .ok (.if_icmp .gt 22, 3) := dk_163 0 22 (dk_at dksX3_init_2 0 rfl rfl)
theorem dX3_init_50 : decode cX3_init 50 = .ok (.aload_n 0, 1) := dk_42 (dk_at dksX3_init_2 3 rfl rfl)
theorem dX3_init_51 : decode cX3_init 51 = .ok (.getfield 17, 3) := dk_180 0 17 (dk_at dksX3_init_2 4 rfl rfl)
theorem dX3_init_54 : decode cX3_init 54 = .ok (.iload_n 2, 1) := dk_28 (dk_at dksX3_init_2 7 rfl rfl)
theorem dX3_init_55 : decode cX3_init 55 = .ok (.new 15, 3) := dk_187 0 15 (dk_at dksX3_init_2 8 rfl rfl)
theorem dX3_init_58 : decode cX3_init 58 = .ok (.dup, 1) := dk_89 (dk_at dksX3_init_2 11 rfl rfl)
theorem dX3_init_59 : decode cX3_init 59 = .ok (.invokespecial 32, 3) := dk_183 0 32 (dk_at dksX3_init_2 12 rfl rfl)
theorem dX3_init_62 : decode cX3_init 62 = .ok (.aastore, 1) := dk_83 (dk_at dksX3_init_2 15 rfl rfl)
theorem dX3_init_63 : decode cX3_init 63 = .ok (.iinc 2 1, 3) := dk_132 2 1 (dk_at dksX3_init_2 16 rfl rfl)
theorem dX3_init_66 : decode cX3_init 66 = .ok (.goto (-22), 3) := dk_167 255 234 (dk_at dksX3_init_2 19 rfl rfl)
theorem dX3_init_69 : decode cX3_init 69 = .ok (.return_, 1) := dk_177 (dk_at dksX3_init_2 22 rfl rfl)
abbrev cX3_isBestFor : ByteArray := prog_2_method_2_code
def yX3_isBestFor : MethodName := ⟨RX3, "isBestFor", "(LFortyDays$Thought;II)Z"⟩
def dkwX3_isBestFor_8 : List UInt8 := [3, 172]
abbrev dktX3_isBestFor_8 : List UInt8 := dkwX3_isBestFor_8 ++ []
def dkwX3_isBestFor_7 : List UInt8 := [167, 255, 228, 42, 180, 0, 25, 3, 47, 42, 3, 22, 4, 182, 0, 52, 148, 157, 0, 7, 4, 167, 0, 4]
abbrev dktX3_isBestFor_7 : List UInt8 := dkwX3_isBestFor_7 ++ dktX3_isBestFor_8
def dkwX3_isBestFor_6 : List UInt8 := [42, 180, 0, 25, 21, 6, 47, 42, 21, 6, 22, 4, 182, 0, 52, 184, 0, 56, 55, 4, 132, 6, 255]
abbrev dktX3_isBestFor_6 : List UInt8 := dkwX3_isBestFor_6 ++ dktX3_isBestFor_7
def dkwX3_isBestFor_5 : List UInt8 := [132, 4, 1, 167, 255, 150, 42, 180, 0, 25, 29, 47, 55, 4, 29, 4, 100, 54, 6, 21, 6, 158, 0, 29]
abbrev dktX3_isBestFor_5 : List UInt8 := dkwX3_isBestFor_5 ++ dktX3_isBestFor_6
def dkwX3_isBestFor_4 : List UInt8 := [182, 0, 45, 42, 180, 0, 28, 21, 4, 42, 180, 0, 17, 21, 4, 4, 96, 50, 180, 0, 48, 79]
abbrev dktX3_isBestFor_4 : List UInt8 := dkwX3_isBestFor_4 ++ dktX3_isBestFor_5
def dkwX3_isBestFor_3 : List UInt8 := [21, 4, 4, 96, 50, 42, 180, 0, 17, 21, 4, 50, 182, 0, 33, 42, 180, 0, 17, 21, 4, 4, 96, 50]
abbrev dktX3_isBestFor_3 : List UInt8 := dkwX3_isBestFor_3 ++ dktX3_isBestFor_4
def dkwX3_isBestFor_2 : List UInt8 := [180, 0, 17, 21, 4, 50, 182, 0, 41, 80, 21, 4, 29, 160, 0, 6, 167, 0, 59, 42, 180, 0, 17]
abbrev dktX3_isBestFor_2 : List UInt8 := dkwX3_isBestFor_2 ++ dktX3_isBestFor_3
def dkwX3_isBestFor_1 : List UInt8 := [21, 4, 42, 180, 0, 17, 21, 4, 50, 28, 21, 4, 96, 182, 0, 37, 80, 42, 180, 0, 25, 21, 4, 42]
abbrev dktX3_isBestFor_1 : List UInt8 := dkwX3_isBestFor_1 ++ dktX3_isBestFor_2
def dkwX3_isBestFor_0 : List UInt8 := [42, 180, 0, 17, 3, 50, 43, 182, 0, 33, 3, 54, 4, 21, 4, 29, 163, 0, 106, 42, 180, 0, 21]
abbrev dktX3_isBestFor_0 : List UInt8 := dkwX3_isBestFor_0 ++ dktX3_isBestFor_1
theorem dksX3_isBestFor_0 : cX3_isBestFor.data.toList.drop 0 = dktX3_isBestFor_0 := by decide +kernel
theorem dksX3_isBestFor_1 : cX3_isBestFor.data.toList.drop 23 = dktX3_isBestFor_1 := dk_seg dksX3_isBestFor_0 23 rfl rfl
theorem dksX3_isBestFor_2 : cX3_isBestFor.data.toList.drop 47 = dktX3_isBestFor_2 := dk_seg dksX3_isBestFor_1 24 rfl rfl
theorem dksX3_isBestFor_3 : cX3_isBestFor.data.toList.drop 70 = dktX3_isBestFor_3 := dk_seg dksX3_isBestFor_2 23 rfl rfl
theorem dksX3_isBestFor_4 : cX3_isBestFor.data.toList.drop 94 = dktX3_isBestFor_4 := dk_seg dksX3_isBestFor_3 24 rfl rfl
theorem dksX3_isBestFor_5 : cX3_isBestFor.data.toList.drop 116 = dktX3_isBestFor_5 := dk_seg dksX3_isBestFor_4 22 rfl rfl
theorem dksX3_isBestFor_6 : cX3_isBestFor.data.toList.drop 140 = dktX3_isBestFor_6 := dk_seg dksX3_isBestFor_5 24 rfl rfl
theorem dksX3_isBestFor_7 : cX3_isBestFor.data.toList.drop 163 = dktX3_isBestFor_7 := dk_seg dksX3_isBestFor_6 23 rfl rfl
theorem dksX3_isBestFor_8 : cX3_isBestFor.data.toList.drop 187 = dktX3_isBestFor_8 := dk_seg dksX3_isBestFor_7 24 rfl rfl
theorem dX3_isBestFor_0 : decode cX3_isBestFor 0 = .ok (.aload_n 0, 1) := dk_42 (dk_at dksX3_isBestFor_0 0 rfl rfl)
theorem dX3_isBestFor_1 : decode cX3_isBestFor 1 = .ok (.getfield 17, 3) := dk_180 0 17 (dk_at dksX3_isBestFor_0 1 rfl rfl)
theorem dX3_isBestFor_4 : decode cX3_isBestFor 4 = .ok (.iconst 0, 1) := dk_3 (dk_at dksX3_isBestFor_0 4 rfl rfl)
theorem dX3_isBestFor_5 : decode cX3_isBestFor 5 = .ok (.aaload, 1) := dk_50 (dk_at dksX3_isBestFor_0 5 rfl rfl)
theorem dX3_isBestFor_6 : decode cX3_isBestFor 6 = .ok (.aload_n 1, 1) := dk_43 (dk_at dksX3_isBestFor_0 6 rfl rfl)
theorem dX3_isBestFor_7 : decode cX3_isBestFor 7 = .ok (.invokevirtual 33, 3) := dk_182 0 33 (dk_at dksX3_isBestFor_0 7 rfl rfl)
theorem dX3_isBestFor_10 : decode cX3_isBestFor 10 = .ok (.iconst 0, 1) := dk_3 (dk_at dksX3_isBestFor_0 10 rfl rfl)
theorem dX3_isBestFor_11 : decode cX3_isBestFor 11 = .ok (.istore 4, 2) := dk_54 4 (dk_at dksX3_isBestFor_0 11 rfl rfl)
theorem dX3_isBestFor_13 : decode cX3_isBestFor 13 = .ok (.iload 4, 2) := dk_21 4 (dk_at dksX3_isBestFor_0 13 rfl rfl)
theorem dX3_isBestFor_15 : decode cX3_isBestFor 15 = .ok (.iload_n 3, 1) := dk_29 (dk_at dksX3_isBestFor_0 15 rfl rfl)
theorem dX3_isBestFor_16 : decode cX3_isBestFor 16 = .ok (.if_icmp .gt 106, 3) := dk_163 0 106 (dk_at dksX3_isBestFor_0 16 rfl rfl)
theorem dX3_isBestFor_19 : decode cX3_isBestFor 19 = .ok (.aload_n 0, 1) := dk_42 (dk_at dksX3_isBestFor_0 19 rfl rfl)
theorem dX3_isBestFor_20 : decode cX3_isBestFor 20 = .ok (.getfield 21, 3) := dk_180 0 21 (dk_at dksX3_isBestFor_0 20 rfl rfl)
theorem dX3_isBestFor_23 : decode cX3_isBestFor 23 = .ok (.iload 4, 2) := dk_21 4 (dk_at dksX3_isBestFor_1 0 rfl rfl)
theorem dX3_isBestFor_25 : decode cX3_isBestFor 25 = .ok (.aload_n 0, 1) := dk_42 (dk_at dksX3_isBestFor_1 2 rfl rfl)
theorem dX3_isBestFor_26 : decode cX3_isBestFor 26 = .ok (.getfield 17, 3) := dk_180 0 17 (dk_at dksX3_isBestFor_1 3 rfl rfl)
theorem dX3_isBestFor_29 : decode cX3_isBestFor 29 = .ok (.iload 4, 2) := dk_21 4 (dk_at dksX3_isBestFor_1 6 rfl rfl)
theorem dX3_isBestFor_31 : decode cX3_isBestFor 31 = .ok (.aaload, 1) := dk_50 (dk_at dksX3_isBestFor_1 8 rfl rfl)
theorem dX3_isBestFor_32 : decode cX3_isBestFor 32 = .ok (.iload_n 2, 1) := dk_28 (dk_at dksX3_isBestFor_1 9 rfl rfl)
theorem dX3_isBestFor_33 : decode cX3_isBestFor 33 = .ok (.iload 4, 2) := dk_21 4 (dk_at dksX3_isBestFor_1 10 rfl rfl)
theorem dX3_isBestFor_35 : decode cX3_isBestFor 35 = .ok (.iadd, 1) := dk_96 (dk_at dksX3_isBestFor_1 12 rfl rfl)
theorem dX3_isBestFor_36 : decode cX3_isBestFor 36 = .ok (.invokevirtual 37, 3) := dk_182 0 37 (dk_at dksX3_isBestFor_1 13 rfl rfl)
theorem dX3_isBestFor_39 : decode cX3_isBestFor 39 = .ok (.lastore, 1) := dk_80 (dk_at dksX3_isBestFor_1 16 rfl rfl)
theorem dX3_isBestFor_40 : decode cX3_isBestFor 40 = .ok (.aload_n 0, 1) := dk_42 (dk_at dksX3_isBestFor_1 17 rfl rfl)
theorem dX3_isBestFor_41 : decode cX3_isBestFor 41 = .ok (.getfield 25, 3) := dk_180 0 25 (dk_at dksX3_isBestFor_1 18 rfl rfl)
theorem dX3_isBestFor_44 : decode cX3_isBestFor 44 = .ok (.iload 4, 2) := dk_21 4 (dk_at dksX3_isBestFor_1 21 rfl rfl)
theorem dX3_isBestFor_46 : decode cX3_isBestFor 46 = .ok (.aload_n 0, 1) := dk_42 (dk_at dksX3_isBestFor_1 23 rfl rfl)
theorem dX3_isBestFor_47 : decode cX3_isBestFor 47 = .ok (.getfield 17, 3) := dk_180 0 17 (dk_at dksX3_isBestFor_2 0 rfl rfl)
theorem dX3_isBestFor_50 : decode cX3_isBestFor 50 = .ok (.iload 4, 2) := dk_21 4 (dk_at dksX3_isBestFor_2 3 rfl rfl)
theorem dX3_isBestFor_52 : decode cX3_isBestFor 52 = .ok (.aaload, 1) := dk_50 (dk_at dksX3_isBestFor_2 5 rfl rfl)
theorem dX3_isBestFor_53 : decode cX3_isBestFor 53 = .ok (.invokevirtual 41, 3) := dk_182 0 41 (dk_at dksX3_isBestFor_2 6 rfl rfl)
theorem dX3_isBestFor_56 : decode cX3_isBestFor 56 = .ok (.lastore, 1) := dk_80 (dk_at dksX3_isBestFor_2 9 rfl rfl)
theorem dX3_isBestFor_57 : decode cX3_isBestFor 57 = .ok (.iload 4, 2) := dk_21 4 (dk_at dksX3_isBestFor_2 10 rfl rfl)
theorem dX3_isBestFor_59 : decode cX3_isBestFor 59 = .ok (.iload_n 3, 1) := dk_29 (dk_at dksX3_isBestFor_2 12 rfl rfl)
theorem dX3_isBestFor_60 : decode cX3_isBestFor 60 = .ok (.if_icmp .ne 6, 3) := dk_160 0 6 (dk_at dksX3_isBestFor_2 13 rfl rfl)
theorem dX3_isBestFor_63 : decode cX3_isBestFor 63 = .ok (.goto 59, 3) := dk_167 0 59 (dk_at dksX3_isBestFor_2 16 rfl rfl)
theorem dX3_isBestFor_66 : decode cX3_isBestFor 66 = .ok (.aload_n 0, 1) := dk_42 (dk_at dksX3_isBestFor_2 19 rfl rfl)
theorem dX3_isBestFor_67 : decode cX3_isBestFor 67 = .ok (.getfield 17, 3) := dk_180 0 17 (dk_at dksX3_isBestFor_2 20 rfl rfl)
theorem dX3_isBestFor_70 : decode cX3_isBestFor 70 = .ok (.iload 4, 2) := dk_21 4 (dk_at dksX3_isBestFor_3 0 rfl rfl)
theorem dX3_isBestFor_72 : decode cX3_isBestFor 72 = .ok (.iconst 1, 1) := dk_4 (dk_at dksX3_isBestFor_3 2 rfl rfl)
theorem dX3_isBestFor_73 : decode cX3_isBestFor 73 = .ok (.iadd, 1) := dk_96 (dk_at dksX3_isBestFor_3 3 rfl rfl)
theorem dX3_isBestFor_74 : decode cX3_isBestFor 74 = .ok (.aaload, 1) := dk_50 (dk_at dksX3_isBestFor_3 4 rfl rfl)
theorem dX3_isBestFor_75 : decode cX3_isBestFor 75 = .ok (.aload_n 0, 1) := dk_42 (dk_at dksX3_isBestFor_3 5 rfl rfl)
theorem dX3_isBestFor_76 : decode cX3_isBestFor 76 = .ok (.getfield 17, 3) := dk_180 0 17 (dk_at dksX3_isBestFor_3 6 rfl rfl)
theorem dX3_isBestFor_79 : decode cX3_isBestFor 79 = .ok (.iload 4, 2) := dk_21 4 (dk_at dksX3_isBestFor_3 9 rfl rfl)
theorem dX3_isBestFor_81 : decode cX3_isBestFor 81 = .ok (.aaload, 1) := dk_50 (dk_at dksX3_isBestFor_3 11 rfl rfl)
theorem dX3_isBestFor_82 : decode cX3_isBestFor 82 = .ok (.invokevirtual 33, 3) := dk_182 0 33 (dk_at dksX3_isBestFor_3 12 rfl rfl)
theorem dX3_isBestFor_85 : decode cX3_isBestFor 85 = .ok (.aload_n 0, 1) := dk_42 (dk_at dksX3_isBestFor_3 15 rfl rfl)
theorem dX3_isBestFor_86 : decode cX3_isBestFor 86 = .ok (.getfield 17, 3) := dk_180 0 17 (dk_at dksX3_isBestFor_3 16 rfl rfl)
theorem dX3_isBestFor_89 : decode cX3_isBestFor 89 = .ok (.iload 4, 2) := dk_21 4 (dk_at dksX3_isBestFor_3 19 rfl rfl)
theorem dX3_isBestFor_91 : decode cX3_isBestFor 91 = .ok (.iconst 1, 1) := dk_4 (dk_at dksX3_isBestFor_3 21 rfl rfl)
theorem dX3_isBestFor_92 : decode cX3_isBestFor 92 = .ok (.iadd, 1) := dk_96 (dk_at dksX3_isBestFor_3 22 rfl rfl)
theorem dX3_isBestFor_93 : decode cX3_isBestFor 93 = .ok (.aaload, 1) := dk_50 (dk_at dksX3_isBestFor_3 23 rfl rfl)
theorem dX3_isBestFor_94 : decode cX3_isBestFor 94 = .ok (.invokevirtual 45, 3) := dk_182 0 45 (dk_at dksX3_isBestFor_4 0 rfl rfl)
theorem dX3_isBestFor_97 : decode cX3_isBestFor 97 = .ok (.aload_n 0, 1) := dk_42 (dk_at dksX3_isBestFor_4 3 rfl rfl)
theorem dX3_isBestFor_98 : decode cX3_isBestFor 98 = .ok (.getfield 28, 3) := dk_180 0 28 (dk_at dksX3_isBestFor_4 4 rfl rfl)
theorem dX3_isBestFor_101 : decode cX3_isBestFor 101 = .ok (.iload 4, 2) := dk_21 4 (dk_at dksX3_isBestFor_4 7 rfl rfl)
theorem dX3_isBestFor_103 : decode cX3_isBestFor 103 = .ok (.aload_n 0, 1) := dk_42 (dk_at dksX3_isBestFor_4 9 rfl rfl)
theorem dX3_isBestFor_104 : decode cX3_isBestFor 104 = .ok (.getfield 17, 3) := dk_180 0 17 (dk_at dksX3_isBestFor_4 10 rfl rfl)
theorem dX3_isBestFor_107 : decode cX3_isBestFor 107 = .ok (.iload 4, 2) := dk_21 4 (dk_at dksX3_isBestFor_4 13 rfl rfl)
theorem dX3_isBestFor_109 : decode cX3_isBestFor 109 = .ok (.iconst 1, 1) := dk_4 (dk_at dksX3_isBestFor_4 15 rfl rfl)
theorem dX3_isBestFor_110 : decode cX3_isBestFor 110 = .ok (.iadd, 1) := dk_96 (dk_at dksX3_isBestFor_4 16 rfl rfl)
theorem dX3_isBestFor_111 : decode cX3_isBestFor 111 = .ok (.aaload, 1) := dk_50 (dk_at dksX3_isBestFor_4 17 rfl rfl)
theorem dX3_isBestFor_112 : decode cX3_isBestFor 112 = .ok (.getfield 48, 3) := dk_180 0 48 (dk_at dksX3_isBestFor_4 18 rfl rfl)
theorem dX3_isBestFor_115 : decode cX3_isBestFor 115 = .ok (.iastore, 1) := dk_79 (dk_at dksX3_isBestFor_4 21 rfl rfl)
theorem dX3_isBestFor_116 : decode cX3_isBestFor 116 = .ok (.iinc 4 1, 3) := dk_132 4 1 (dk_at dksX3_isBestFor_5 0 rfl rfl)
theorem dX3_isBestFor_119 : decode cX3_isBestFor 119 = .ok (.goto (-106), 3) := dk_167 255 150 (dk_at dksX3_isBestFor_5 3 rfl rfl)
theorem dX3_isBestFor_122 : decode cX3_isBestFor 122 = .ok (.aload_n 0, 1) := dk_42 (dk_at dksX3_isBestFor_5 6 rfl rfl)
theorem dX3_isBestFor_123 : decode cX3_isBestFor 123 = .ok (.getfield 25, 3) := dk_180 0 25 (dk_at dksX3_isBestFor_5 7 rfl rfl)
theorem dX3_isBestFor_126 : decode cX3_isBestFor 126 = .ok (.iload_n 3, 1) := dk_29 (dk_at dksX3_isBestFor_5 10 rfl rfl)
theorem dX3_isBestFor_127 : decode cX3_isBestFor 127 = .ok (.laload, 1) := dk_47 (dk_at dksX3_isBestFor_5 11 rfl rfl)
theorem dX3_isBestFor_128 : decode cX3_isBestFor 128 = .ok (.lstore 4, 2) := dk_55 4 (dk_at dksX3_isBestFor_5 12 rfl rfl)
theorem dX3_isBestFor_130 : decode cX3_isBestFor 130 = .ok (.iload_n 3, 1) := dk_29 (dk_at dksX3_isBestFor_5 14 rfl rfl)
theorem dX3_isBestFor_131 : decode cX3_isBestFor 131 = .ok (.iconst 1, 1) := dk_4 (dk_at dksX3_isBestFor_5 15 rfl rfl)
theorem dX3_isBestFor_132 : decode cX3_isBestFor 132 = .ok (.isub, 1) := dk_100 (dk_at dksX3_isBestFor_5 16 rfl rfl)
theorem dX3_isBestFor_133 : decode cX3_isBestFor 133 = .ok (.istore 6, 2) := dk_54 6 (dk_at dksX3_isBestFor_5 17 rfl rfl)
theorem dX3_isBestFor_135 : decode cX3_isBestFor 135 = .ok (.iload 6, 2) := dk_21 6 (dk_at dksX3_isBestFor_5 19 rfl rfl)
theorem dX3_isBestFor_137 : decode cX3_isBestFor 137 = .ok (.ifCond .le 29, 3) := dk_158 0 29 (dk_at dksX3_isBestFor_5 21 rfl rfl)
theorem dX3_isBestFor_140 : decode cX3_isBestFor 140 = .ok (.aload_n 0, 1) := dk_42 (dk_at dksX3_isBestFor_6 0 rfl rfl)
theorem dX3_isBestFor_141 : decode cX3_isBestFor 141 = .ok (.getfield 25, 3) := dk_180 0 25 (dk_at dksX3_isBestFor_6 1 rfl rfl)
theorem dX3_isBestFor_144 : decode cX3_isBestFor 144 = .ok (.iload 6, 2) := dk_21 6 (dk_at dksX3_isBestFor_6 4 rfl rfl)
theorem dX3_isBestFor_146 : decode cX3_isBestFor 146 = .ok (.laload, 1) := dk_47 (dk_at dksX3_isBestFor_6 6 rfl rfl)
theorem dX3_isBestFor_147 : decode cX3_isBestFor 147 = .ok (.aload_n 0, 1) := dk_42 (dk_at dksX3_isBestFor_6 7 rfl rfl)
theorem dX3_isBestFor_148 : decode cX3_isBestFor 148 = .ok (.iload 6, 2) := dk_21 6 (dk_at dksX3_isBestFor_6 8 rfl rfl)
theorem dX3_isBestFor_150 : decode cX3_isBestFor 150 = .ok (.lload 4, 2) := dk_22 4 (dk_at dksX3_isBestFor_6 10 rfl rfl)
theorem dX3_isBestFor_152 : decode cX3_isBestFor 152 = .ok (.invokevirtual 52, 3) := dk_182 0 52 (dk_at dksX3_isBestFor_6 12 rfl rfl)
theorem dX3_isBestFor_155 : decode cX3_isBestFor 155 = .ok (.invokestatic 56, 3) := dk_184 0 56 (dk_at dksX3_isBestFor_6 15 rfl rfl)
theorem dX3_isBestFor_158 : decode cX3_isBestFor 158 = .ok (.lstore 4, 2) := dk_55 4 (dk_at dksX3_isBestFor_6 18 rfl rfl)
theorem dX3_isBestFor_160 : decode cX3_isBestFor 160 = .ok (.iinc 6 (-1), 3) := dk_132 6 255 (dk_at dksX3_isBestFor_6 20 rfl rfl)
theorem dX3_isBestFor_163 : decode cX3_isBestFor 163 = .ok (.goto (-28), 3) := dk_167 255 228 (dk_at dksX3_isBestFor_7 0 rfl rfl)
theorem dX3_isBestFor_166 : decode cX3_isBestFor 166 = .ok (.aload_n 0, 1) := dk_42 (dk_at dksX3_isBestFor_7 3 rfl rfl)
theorem dX3_isBestFor_167 : decode cX3_isBestFor 167 = .ok (.getfield 25, 3) := dk_180 0 25 (dk_at dksX3_isBestFor_7 4 rfl rfl)
theorem dX3_isBestFor_170 : decode cX3_isBestFor 170 = .ok (.iconst 0, 1) := dk_3 (dk_at dksX3_isBestFor_7 7 rfl rfl)
theorem dX3_isBestFor_171 : decode cX3_isBestFor 171 = .ok (.laload, 1) := dk_47 (dk_at dksX3_isBestFor_7 8 rfl rfl)
theorem dX3_isBestFor_172 : decode cX3_isBestFor 172 = .ok (.aload_n 0, 1) := dk_42 (dk_at dksX3_isBestFor_7 9 rfl rfl)
theorem dX3_isBestFor_173 : decode cX3_isBestFor 173 = .ok (.iconst 0, 1) := dk_3 (dk_at dksX3_isBestFor_7 10 rfl rfl)
theorem dX3_isBestFor_174 : decode cX3_isBestFor 174 = .ok (.lload 4, 2) := dk_22 4 (dk_at dksX3_isBestFor_7 11 rfl rfl)
theorem dX3_isBestFor_176 : decode cX3_isBestFor 176 = .ok (.invokevirtual 52, 3) := dk_182 0 52 (dk_at dksX3_isBestFor_7 13 rfl rfl)
theorem dX3_isBestFor_179 : decode cX3_isBestFor 179 = .ok (.lcmp, 1) := dk_148 (dk_at dksX3_isBestFor_7 16 rfl rfl)
theorem dX3_isBestFor_180 : decode cX3_isBestFor 180 = .ok (.ifCond .gt 7, 3) := dk_157 0 7 (dk_at dksX3_isBestFor_7 17 rfl rfl)
theorem dX3_isBestFor_183 : decode cX3_isBestFor 183 = .ok (.iconst 1, 1) := dk_4 (dk_at dksX3_isBestFor_7 20 rfl rfl)
theorem dX3_isBestFor_184 : decode cX3_isBestFor 184 = .ok (.goto 4, 3) := dk_167 0 4 (dk_at dksX3_isBestFor_7 21 rfl rfl)
theorem dX3_isBestFor_187 : decode cX3_isBestFor 187 = .ok (.iconst 0, 1) := dk_3 (dk_at dksX3_isBestFor_8 0 rfl rfl)
theorem dX3_isBestFor_188 : decode cX3_isBestFor 188 = .ok (.ireturn, 1) := dk_172 (dk_at dksX3_isBestFor_8 1 rfl rfl)
abbrev cX3_held : ByteArray := prog_2_method_3_code
def yX3_held : MethodName := ⟨RX3, "held", "(IJ)J"⟩
def dkwX3_held_1 : List UInt8 := [184, 0, 64, 97, 173]
abbrev dktX3_held_1 : List UInt8 := dkwX3_held_1 ++ []
def dkwX3_held_0 : List UInt8 := [42, 180, 0, 21, 27, 47, 32, 20, 0, 62, 42, 180, 0, 21, 27, 47, 105, 42, 180, 0, 28, 27, 46]
abbrev dktX3_held_0 : List UInt8 := dkwX3_held_0 ++ dktX3_held_1
theorem dksX3_held_0 : cX3_held.data.toList.drop 0 = dktX3_held_0 := by decide +kernel
theorem dksX3_held_1 : cX3_held.data.toList.drop 23 = dktX3_held_1 := dk_seg dksX3_held_0 23 rfl rfl
theorem dX3_held_0 : decode cX3_held 0 = .ok (.aload_n 0, 1) := dk_42 (dk_at dksX3_held_0 0 rfl rfl)
theorem dX3_held_1 : decode cX3_held 1 = .ok (.getfield 21, 3) := dk_180 0 21 (dk_at dksX3_held_0 1 rfl rfl)
theorem dX3_held_4 : decode cX3_held 4 = .ok (.iload_n 1, 1) := dk_27 (dk_at dksX3_held_0 4 rfl rfl)
theorem dX3_held_5 : decode cX3_held 5 = .ok (.laload, 1) := dk_47 (dk_at dksX3_held_0 5 rfl rfl)
theorem dX3_held_6 : decode cX3_held 6 = .ok (.lload_n 2, 1) := dk_32 (dk_at dksX3_held_0 6 rfl rfl)
theorem dX3_held_7 : decode cX3_held 7 = .ok (.ldc2_w 62, 3) := dk_20 0 62 (dk_at dksX3_held_0 7 rfl rfl)
theorem dX3_held_10 : decode cX3_held 10 = .ok (.aload_n 0, 1) := dk_42 (dk_at dksX3_held_0 10 rfl rfl)
theorem dX3_held_11 : decode cX3_held 11 = .ok (.getfield 21, 3) := dk_180 0 21 (dk_at dksX3_held_0 11 rfl rfl)
theorem dX3_held_14 : decode cX3_held 14 = .ok (.iload_n 1, 1) := dk_27 (dk_at dksX3_held_0 14 rfl rfl)
theorem dX3_held_15 : decode cX3_held 15 = .ok (.laload, 1) := dk_47 (dk_at dksX3_held_0 15 rfl rfl)
theorem dX3_held_16 : decode cX3_held 16 = .ok (.lmul, 1) := dk_105 (dk_at dksX3_held_0 16 rfl rfl)
theorem dX3_held_17 : decode cX3_held 17 = .ok (.aload_n 0, 1) := dk_42 (dk_at dksX3_held_0 17 rfl rfl)
theorem dX3_held_18 : decode cX3_held 18 = .ok (.getfield 28, 3) := dk_180 0 28 (dk_at dksX3_held_0 18 rfl rfl)
theorem dX3_held_21 : decode cX3_held 21 = .ok (.iload_n 1, 1) := dk_27 (dk_at dksX3_held_0 21 rfl rfl)
theorem dX3_held_22 : decode cX3_held 22 = .ok (.iaload, 1) := dk_46 (dk_at dksX3_held_0 22 rfl rfl)
theorem dX3_held_23 : decode cX3_held 23 = .ok (.invokestatic 64, 3) := dk_184 0 64 (dk_at dksX3_held_1 0 rfl rfl)
theorem dX3_held_26 : decode cX3_held 26 = .ok (.ladd, 1) := dk_97 (dk_at dksX3_held_1 3 rfl rfl)
theorem dX3_held_27 : decode cX3_held 27 = .ok (.lreturn, 1) := dk_173 (dk_at dksX3_held_1 4 rfl rfl)
theorem q94 : (Jvm.Cond.initialized "FortyDays$Beside") ∈ lw_all := lw_g (lw_at lw_m1 7 rfl) rfl
theorem q202 : (Jvm.Cond.fieldLinkNest "FortyDays$Beside" (48 : Nat) "FortyDays$Thought" "gone" "I" "FortyDays") ∈ lw_tbl := lw_at lw_m1 115 rfl
theorem q221 : (Jvm.Cond.instantiable "FortyDays$Beside" (5 : Nat)) ∈ lw_all := lw_g (lw_at lw_m1 134 rfl) rfl
theorem q223 : (Jvm.Cond.instanceMethod ({ cls := "FortyDays$Beside", name := "<init>", desc := "(LFortyDays;)V" } : Jvm.MethodName)) ∈ lw_all := lw_g (lw_at lw_m1 136 rfl) rfl
theorem q224 : (Jvm.Cond.code ({ cls := "FortyDays$Beside", name := "<init>", desc := "(LFortyDays;)V" } : Jvm.MethodName) prog_2_method_1_code (3 : Nat) (Option.none : Option Jvm.ClassFile.FieldType)) ∈ lw_all := lw_g (lw_at lw_m1 137 rfl) rfl
theorem q225 : (Jvm.Cond.methodLink "FortyDays$Beside" (9 : Nat) ({ cls := "java/lang/Object", name := "<init>", desc := "()V" } : Jvm.MethodName)) ∈ lw_all := lw_g (lw_at lw_m1 138 rfl) rfl
theorem q226 : (Jvm.Cond.classLink "FortyDays$Beside" (15 : Nat) "FortyDays$Thought") ∈ lw_all := lw_g (lw_at lw_m1 139 rfl) rfl
theorem q227 : (Jvm.Cond.methodLinkNest "FortyDays$Beside" (32 : Nat) ({ cls := "FortyDays$Thought", name := "<init>", desc := "()V" } : Jvm.MethodName) "FortyDays") ∈ lw_tbl := lw_at lw_m1 140 rfl
theorem q228 : (Jvm.Cond.fieldLink "FortyDays$Beside" (17 : Nat) "FortyDays$Beside" "on" "[LFortyDays$Thought;") ∈ lw_all := lw_g (lw_at lw_m1 141 rfl) rfl
theorem q229 : (Jvm.Cond.fieldLink "FortyDays$Beside" (21 : Nat) "FortyDays$Beside" "costs" "[J") ∈ lw_all := lw_g (lw_at lw_m1 142 rfl) rfl
theorem q230 : (Jvm.Cond.fieldLink "FortyDays$Beside" (25 : Nat) "FortyDays$Beside" "harms" "[J") ∈ lw_all := lw_g (lw_at lw_m1 143 rfl) rfl
theorem q231 : (Jvm.Cond.fieldLink "FortyDays$Beside" (28 : Nat) "FortyDays$Beside" "shown" "[I") ∈ lw_all := lw_g (lw_at lw_m1 144 rfl) rfl
theorem q232 : (Jvm.Cond.fieldLink "FortyDays$Beside" (3 : Nat) "FortyDays$Beside" "this$0" "LFortyDays;") ∈ lw_all := lw_g (lw_at lw_m1 145 rfl) rfl
theorem q233 : (Jvm.Cond.laysFinal "FortyDays$Beside" "FortyDays$Beside" "on" "[LFortyDays$Thought;") ∈ lw_all := lw_g (lw_at lw_m1 146 rfl) rfl
theorem q234 : (Jvm.Cond.soleField "FortyDays$Beside" "on") ∈ lw_all := lw_g (lw_at lw_m1 147 rfl) rfl
theorem q235 : (Jvm.Cond.laysFinal "FortyDays$Beside" "FortyDays$Beside" "costs" "[J") ∈ lw_all := lw_g (lw_at lw_m1 148 rfl) rfl
theorem q236 : (Jvm.Cond.soleField "FortyDays$Beside" "costs") ∈ lw_all := lw_g (lw_at lw_m1 149 rfl) rfl
theorem q237 : (Jvm.Cond.laysFinal "FortyDays$Beside" "FortyDays$Beside" "harms" "[J") ∈ lw_all := lw_g (lw_at lw_m1 150 rfl) rfl
theorem q238 : (Jvm.Cond.soleField "FortyDays$Beside" "harms") ∈ lw_all := lw_g (lw_at lw_m1 151 rfl) rfl
theorem q239 : (Jvm.Cond.laysFinal "FortyDays$Beside" "FortyDays$Beside" "shown" "[I") ∈ lw_all := lw_g (lw_at lw_m1 152 rfl) rfl
theorem q240 : (Jvm.Cond.soleField "FortyDays$Beside" "shown") ∈ lw_all := lw_g (lw_at lw_m1 153 rfl) rfl
theorem q241 : (Jvm.Cond.laysFinal "FortyDays$Beside" "FortyDays$Beside" "this$0" "LFortyDays;") ∈ lw_all := lw_g (lw_at lw_m1 154 rfl) rfl
theorem q242 : (Jvm.Cond.soleField "FortyDays$Beside" "this$0") ∈ lw_all := lw_g (lw_at lw_m1 155 rfl) rfl
theorem q243 : (Jvm.Cond.superclass "FortyDays$Beside" "java/lang/Object") ∈ lw_all := lw_g (lw_at lw_m1 156 rfl) rfl
theorem q558 : (Jvm.Cond.selects "FortyDays$Beside" ({ cls := "java/lang/Object", name := "getClass", desc := "()Ljava/lang/Class;" } : Jvm.MethodName) ({ cls := "java/lang/Object", name := "getClass", desc := "()Ljava/lang/Class;" } : Jvm.MethodName)) ∈ lw_all := lw_g (lw_at lw_m2 231 rfl) rfl
theorem q914 : (Jvm.Cond.instanceMethod ({ cls := "FortyDays$Beside", name := "isBestFor", desc := "(LFortyDays$Thought;II)Z" } : Jvm.MethodName)) ∈ lw_all := lw_g (lw_at lw_m4 107 rfl) rfl
theorem q915 : (Jvm.Cond.selects "FortyDays$Beside" ({ cls := "FortyDays$Beside", name := "isBestFor", desc := "(LFortyDays$Thought;II)Z" } : Jvm.MethodName) ({ cls := "FortyDays$Beside", name := "isBestFor", desc := "(LFortyDays$Thought;II)Z" } : Jvm.MethodName)) ∈ lw_all := lw_g (lw_at lw_m4 108 rfl) rfl
theorem q916 : (Jvm.Cond.code ({ cls := "FortyDays$Beside", name := "isBestFor", desc := "(LFortyDays$Thought;II)Z" } : Jvm.MethodName) prog_2_method_2_code (7 : Nat) (Option.some Jvm.ClassFile.FieldType.boolean)) ∈ lw_all := lw_g (lw_at lw_m4 109 rfl) rfl
theorem q917 : (Jvm.Cond.methodLink "FortyDays$Beside" (33 : Nat) ({ cls := "FortyDays$Thought", name := "become", desc := "(LFortyDays$Thought;)V" } : Jvm.MethodName)) ∈ lw_all := lw_g (lw_at lw_m4 110 rfl) rfl
theorem q922 : (Jvm.Cond.methodLink "FortyDays$Beside" (37 : Nat) ({ cls := "FortyDays$Thought", name := "cost", desc := "(I)J" } : Jvm.MethodName)) ∈ lw_all := lw_g (lw_at lw_m4 115 rfl) rfl
theorem q927 : (Jvm.Cond.methodLink "FortyDays$Beside" (41 : Nat) ({ cls := "FortyDays$Thought", name := "harm", desc := "()J" } : Jvm.MethodName)) ∈ lw_all := lw_g (lw_at lw_m4 120 rfl) rfl
theorem q928 : (Jvm.Cond.methodLink "FortyDays$Beside" (45 : Nat) ({ cls := "FortyDays$Thought", name := "day", desc := "()V" } : Jvm.MethodName)) ∈ lw_all := lw_g (lw_at lw_m4 121 rfl) rfl
theorem q929 : (Jvm.Cond.methodLink "FortyDays$Beside" (52 : Nat) ({ cls := "FortyDays$Beside", name := "held", desc := "(IJ)J" } : Jvm.MethodName)) ∈ lw_all := lw_g (lw_at lw_m4 122 rfl) rfl
theorem q930 : (Jvm.Cond.privateMethod ({ cls := "FortyDays$Beside", name := "held", desc := "(IJ)J" } : Jvm.MethodName)) ∈ lw_tbl := lw_at lw_m4 123 rfl
theorem q931 : (Jvm.Cond.instanceMethod ({ cls := "FortyDays$Beside", name := "held", desc := "(IJ)J" } : Jvm.MethodName)) ∈ lw_all := lw_g (lw_at lw_m4 124 rfl) rfl
theorem q932 : (Jvm.Cond.code ({ cls := "FortyDays$Beside", name := "held", desc := "(IJ)J" } : Jvm.MethodName) prog_2_method_3_code (4 : Nat) (Option.some Jvm.ClassFile.FieldType.long)) ∈ lw_all := lw_g (lw_at lw_m4 125 rfl) rfl
theorem q933 : (Jvm.Cond.constantLong "FortyDays$Beside" (62 : Nat) (10 : Int64)) ∈ lw_all := lw_g (lw_at lw_m4 126 rfl) rfl
theorem q934 : (Jvm.Cond.methodLinkNest "FortyDays$Beside" (64 : Nat) ({ cls := "FortyDays", name := "joint", desc := "(JJI)J" } : Jvm.MethodName) "FortyDays") ∈ lw_tbl := lw_at lw_m4 127 rfl
theorem q939 : (Jvm.Cond.methodLink "FortyDays$Beside" (56 : Nat) ({ cls := "java/lang/Math", name := "min", desc := "(JJ)J" } : Jvm.MethodName)) ∈ lw_all := lw_g (lw_at lw_m4 132 rfl) rfl
theorem q1768 : (Jvm.Cond.castable "FortyDays$Beside" "java/lang/Object") ∈ lw_tbl := lw_at lw_m8 1 rfl
theorem in_X3 : ∀ w ∈ wsX30, w ∈ lw_all := lw_in wsX30 [233, 235, 237, 239, 241] (by decide +kernel) (by decide +kernel)

/-! FortyDays$Port -/
set_option maxRecDepth 100000
def RX5 : String := "FortyDays$Port"
def TX5 : u_T := fun k => match k with
  | 0 => ("FortyDays$Port", "number", "I", true)
  | 1 => ("FortyDays$Port", "clauses", "I", false)
  | 2 => ("FortyDays$Port", "have", "[I", true)
  | 3 => ("FortyDays$Port", "last", "[I", true)
  | 4 => ("FortyDays$Port", "numbers", "[I", true)
  | 5 => ("FortyDays$Port", "holds", "Ljava/util/ArrayList;", true)
  | _ => ("FortyDays$Port", "more", "I", false)
def tyX5 : Nat → FieldType := fun k => match k with
  | 0 => .int
  | 1 => .int
  | 2 => .array .int
  | 3 => .array .int
  | 4 => .array .int
  | 5 => .object "java/util/ArrayList"
  | _ => .int
abbrev wsX50 : List Cond := u_ws RX5 TX5 7
theorem nmX5 : ∀ a, a < 7 → ∀ b, b < 7 → a ≠ b → (TX5 a).2.1 ≠ (TX5 b).2.1 := by decide +kernel
theorem tyX5_ok : ∀ k, k < 7 → parseFieldDescriptor (TX5 k).2.2.1 = some (tyX5 k) := by decide +kernel
abbrev cX5_init : ByteArray := prog_10_method_1_code
def yX5_init : MethodName := ⟨RX5, "<init>", "(I)V"⟩
def dkwX5_init_1 : List UInt8 := [181, 0, 18, 42, 187, 0, 21, 89, 183, 0, 23, 181, 0, 24, 42, 27, 181, 0, 28, 177]
abbrev dktX5_init_1 : List UInt8 := dkwX5_init_1 ++ []
def dkwX5_init_0 : List UInt8 := [42, 183, 0, 3, 42, 7, 188, 10, 181, 0, 9, 42, 16, 6, 188, 10, 181, 0, 15, 42, 16, 12, 188, 10]
abbrev dktX5_init_0 : List UInt8 := dkwX5_init_0 ++ dktX5_init_1
theorem dksX5_init_0 : cX5_init.data.toList.drop 0 = dktX5_init_0 := by decide +kernel
theorem dksX5_init_1 : cX5_init.data.toList.drop 24 = dktX5_init_1 := dk_seg dksX5_init_0 24 rfl rfl
theorem dX5_init_0 : decode cX5_init 0 = .ok (.aload_n 0, 1) := dk_42 (dk_at dksX5_init_0 0 rfl rfl)
theorem dX5_init_1 : decode cX5_init 1 = .ok (.invokespecial 3, 3) := dk_183 0 3 (dk_at dksX5_init_0 1 rfl rfl)
theorem dX5_init_4 : decode cX5_init 4 = .ok (.aload_n 0, 1) := dk_42 (dk_at dksX5_init_0 4 rfl rfl)
theorem dX5_init_5 : decode cX5_init 5 = .ok (.iconst 4, 1) := dk_7 (dk_at dksX5_init_0 5 rfl rfl)
theorem dX5_init_6 : decode cX5_init 6 = .ok (.newarray .int, 2) := dk_188_10 (dk_at dksX5_init_0 6 rfl rfl)
theorem dX5_init_8 : decode cX5_init 8 = .ok (.putfield 9, 3) := dk_181 0 9 (dk_at dksX5_init_0 8 rfl rfl)
theorem dX5_init_11 : decode cX5_init 11 = .ok (.aload_n 0, 1) := dk_42 (dk_at dksX5_init_0 11 rfl rfl)
theorem dX5_init_12 : decode cX5_init 12 = .ok (.bipush 6, 2) := dk_16 6 (dk_at dksX5_init_0 12 rfl rfl)
theorem dX5_init_14 : decode cX5_init 14 = .ok (.newarray .int, 2) := dk_188_10 (dk_at dksX5_init_0 14 rfl rfl)
theorem dX5_init_16 : decode cX5_init 16 = .ok (.putfield 15, 3) := dk_181 0 15 (dk_at dksX5_init_0 16 rfl rfl)
theorem dX5_init_19 : decode cX5_init 19 = .ok (.aload_n 0, 1) := dk_42 (dk_at dksX5_init_0 19 rfl rfl)
theorem dX5_init_20 : decode cX5_init 20 = .ok (.bipush 12, 2) := dk_16 12 (dk_at dksX5_init_0 20 rfl rfl)
theorem dX5_init_22 : decode cX5_init 22 = .ok (.newarray .int, 2) := dk_188_10 (dk_at dksX5_init_0 22 rfl rfl)
theorem dX5_init_24 : decode cX5_init 24 = .ok (.putfield 18, 3) := dk_181 0 18 (dk_at dksX5_init_1 0 rfl rfl)
theorem dX5_init_27 : decode cX5_init 27 = .ok (.aload_n 0, 1) := dk_42 (dk_at dksX5_init_1 3 rfl rfl)
theorem dX5_init_28 : decode cX5_init 28 = .ok (.new 21, 3) := dk_187 0 21 (dk_at dksX5_init_1 4 rfl rfl)
theorem dX5_init_31 : decode cX5_init 31 = .ok (.dup, 1) := dk_89 (dk_at dksX5_init_1 7 rfl rfl)
theorem dX5_init_32 : decode cX5_init 32 = .ok (.invokespecial 23, 3) := dk_183 0 23 (dk_at dksX5_init_1 8 rfl rfl)
theorem dX5_init_35 : decode cX5_init 35 = .ok (.putfield 24, 3) := dk_181 0 24 (dk_at dksX5_init_1 11 rfl rfl)
theorem dX5_init_38 : decode cX5_init 38 = .ok (.aload_n 0, 1) := dk_42 (dk_at dksX5_init_1 14 rfl rfl)
theorem dX5_init_39 : decode cX5_init 39 = .ok (.iload_n 1, 1) := dk_27 (dk_at dksX5_init_1 15 rfl rfl)
theorem dX5_init_40 : decode cX5_init 40 = .ok (.putfield 28, 3) := dk_181 0 28 (dk_at dksX5_init_1 16 rfl rfl)
theorem dX5_init_43 : decode cX5_init 43 = .ok (.return_, 1) := dk_177 (dk_at dksX5_init_1 19 rfl rfl)
abbrev cX5_holdOf : ByteArray := prog_10_method_2_code
def yX5_holdOf : MethodName := ⟨RX5, "holdOf", "(III)I"⟩
def dkwX5_holdOf_2 : List UInt8 := [21, 5, 46, 167, 0, 4, 3, 96, 54, 4, 132, 5, 1, 167, 255, 202, 21, 4, 172]
abbrev dktX5_holdOf_2 : List UInt8 := dkwX5_holdOf_2 ++ []
def dkwX5_holdOf_1 : List UInt8 := [21, 5, 182, 0, 36, 192, 0, 40, 27, 28, 29, 185, 0, 42, 4, 0, 153, 0, 13, 42, 180, 0, 18]
abbrev dktX5_holdOf_1 : List UInt8 := dkwX5_holdOf_1 ++ dktX5_holdOf_2
def dkwX5_holdOf_0 : List UInt8 := [3, 54, 4, 3, 54, 5, 21, 5, 42, 180, 0, 24, 182, 0, 32, 162, 0, 48, 21, 4, 42, 180, 0, 24]
abbrev dktX5_holdOf_0 : List UInt8 := dkwX5_holdOf_0 ++ dktX5_holdOf_1
theorem dksX5_holdOf_0 : cX5_holdOf.data.toList.drop 0 = dktX5_holdOf_0 := by decide +kernel
theorem dksX5_holdOf_1 : cX5_holdOf.data.toList.drop 24 = dktX5_holdOf_1 := dk_seg dksX5_holdOf_0 24 rfl rfl
theorem dksX5_holdOf_2 : cX5_holdOf.data.toList.drop 47 = dktX5_holdOf_2 := dk_seg dksX5_holdOf_1 23 rfl rfl
theorem dX5_holdOf_0 : decode cX5_holdOf 0 = .ok (.iconst 0, 1) := dk_3 (dk_at dksX5_holdOf_0 0 rfl rfl)
theorem dX5_holdOf_1 : decode cX5_holdOf 1 = .ok (.istore 4, 2) := dk_54 4 (dk_at dksX5_holdOf_0 1 rfl rfl)
theorem dX5_holdOf_3 : decode cX5_holdOf 3 = .ok (.iconst 0, 1) := dk_3 (dk_at dksX5_holdOf_0 3 rfl rfl)
theorem dX5_holdOf_4 : decode cX5_holdOf 4 = .ok (.istore 5, 2) := dk_54 5 (dk_at dksX5_holdOf_0 4 rfl rfl)
theorem dX5_holdOf_6 : decode cX5_holdOf 6 = .ok (.iload 5, 2) := dk_21 5 (dk_at dksX5_holdOf_0 6 rfl rfl)
theorem dX5_holdOf_8 : decode cX5_holdOf 8 = .ok (.aload_n 0, 1) := dk_42 (dk_at dksX5_holdOf_0 8 rfl rfl)
theorem dX5_holdOf_9 : decode cX5_holdOf 9 = .ok (.getfield 24, 3) := dk_180 0 24 (dk_at dksX5_holdOf_0 9 rfl rfl)
theorem dX5_holdOf_12 : decode cX5_holdOf 12 = .ok (.invokevirtual 32, 3) := dk_182 0 32 (dk_at dksX5_holdOf_0 12 rfl rfl)
theorem dX5_holdOf_15 : decode cX5_holdOf 15 = .ok (.if_icmp .ge 48, 3) := dk_162 0 48 (dk_at dksX5_holdOf_0 15 rfl rfl)
theorem dX5_holdOf_18 : decode cX5_holdOf 18 = .ok (.iload 4, 2) := dk_21 4 (dk_at dksX5_holdOf_0 18 rfl rfl)
theorem dX5_holdOf_20 : decode cX5_holdOf 20 = .ok (.aload_n 0, 1) := dk_42 (dk_at dksX5_holdOf_0 20 rfl rfl)
theorem dX5_holdOf_21 : decode cX5_holdOf 21 = .ok (.getfield 24, 3) := dk_180 0 24 (dk_at dksX5_holdOf_0 21 rfl rfl)
theorem dX5_holdOf_24 : decode cX5_holdOf 24 = .ok (.iload 5, 2) := dk_21 5 (dk_at dksX5_holdOf_1 0 rfl rfl)
theorem dX5_holdOf_26 : decode cX5_holdOf 26 = .ok (.invokevirtual 36, 3) := dk_182 0 36 (dk_at dksX5_holdOf_1 2 rfl rfl)
theorem dX5_holdOf_29 : decode cX5_holdOf 29 = .ok (.checkcast 40, 3) := dk_192 0 40 (dk_at dksX5_holdOf_1 5 rfl rfl)
theorem dX5_holdOf_32 : decode cX5_holdOf 32 = .ok (.iload_n 1, 1) := dk_27 (dk_at dksX5_holdOf_1 8 rfl rfl)
theorem dX5_holdOf_33 : decode cX5_holdOf 33 = .ok (.iload_n 2, 1) := dk_28 (dk_at dksX5_holdOf_1 9 rfl rfl)
theorem dX5_holdOf_34 : decode cX5_holdOf 34 = .ok (.iload_n 3, 1) := dk_29 (dk_at dksX5_holdOf_1 10 rfl rfl)
theorem dX5_holdOf_35 : decode cX5_holdOf 35 = .ok (.invokeinterface 42 4, 5) := by decide +kernel
theorem dX5_holdOf_40 : decode cX5_holdOf 40 = .ok (.ifCond .eq 13, 3) := dk_153 0 13 (dk_at dksX5_holdOf_1 16 rfl rfl)
theorem dX5_holdOf_43 : decode cX5_holdOf 43 = .ok (.aload_n 0, 1) := dk_42 (dk_at dksX5_holdOf_1 19 rfl rfl)
theorem dX5_holdOf_44 : decode cX5_holdOf 44 = .ok (.getfield 18, 3) := dk_180 0 18 (dk_at dksX5_holdOf_1 20 rfl rfl)
theorem dX5_holdOf_47 : decode cX5_holdOf 47 = .ok (.iload 5, 2) := dk_21 5 (dk_at dksX5_holdOf_2 0 rfl rfl)
theorem dX5_holdOf_49 : decode cX5_holdOf 49 = .ok (.iaload, 1) := dk_46 (dk_at dksX5_holdOf_2 2 rfl rfl)
theorem dX5_holdOf_50 : decode cX5_holdOf 50 = .ok (.goto 4, 3) := dk_167 0 4 (dk_at dksX5_holdOf_2 3 rfl rfl)
theorem dX5_holdOf_53 : decode cX5_holdOf 53 = .ok (.iconst 0, 1) := dk_3 (dk_at dksX5_holdOf_2 6 rfl rfl)
theorem dX5_holdOf_54 : decode cX5_holdOf 54 = .ok (.iadd, 1) := dk_96 (dk_at dksX5_holdOf_2 7 rfl rfl)
theorem dX5_holdOf_55 : decode cX5_holdOf 55 = .ok (.istore 4, 2) := dk_54 4 (dk_at dksX5_holdOf_2 8 rfl rfl)
theorem dX5_holdOf_57 : decode cX5_holdOf 57 = .ok (.iinc 5 1, 3) := dk_132 5 1 (dk_at dksX5_holdOf_2 10 rfl rfl)
theorem dX5_holdOf_60 : decode cX5_holdOf 60 = .ok (.goto (-54), 3) := dk_167 255 202 (dk_at dksX5_holdOf_2 13 rfl rfl)
theorem dX5_holdOf_63 : decode cX5_holdOf 63 = .ok (.iload 4, 2) := dk_21 4 (dk_at dksX5_holdOf_2 16 rfl rfl)
theorem dX5_holdOf_65 : decode cX5_holdOf 65 = .ok (.ireturn, 1) := dk_172 (dk_at dksX5_holdOf_2 18 rfl rfl)
abbrev cX5_give : ByteArray := prog_10_method_3_code
def yX5_give : MethodName := ⟨RX5, "give", "()I"⟩
def dkwX5_give_0 : List UInt8 := [42, 180, 0, 15, 3, 46, 42, 180, 0, 45, 96, 172]
abbrev dktX5_give_0 : List UInt8 := dkwX5_give_0 ++ []
theorem dksX5_give_0 : cX5_give.data.toList.drop 0 = dktX5_give_0 := by decide +kernel
theorem dX5_give_0 : decode cX5_give 0 = .ok (.aload_n 0, 1) := dk_42 (dk_at dksX5_give_0 0 rfl rfl)
theorem dX5_give_1 : decode cX5_give 1 = .ok (.getfield 15, 3) := dk_180 0 15 (dk_at dksX5_give_0 1 rfl rfl)
theorem dX5_give_4 : decode cX5_give 4 = .ok (.iconst 0, 1) := dk_3 (dk_at dksX5_give_0 4 rfl rfl)
theorem dX5_give_5 : decode cX5_give 5 = .ok (.iaload, 1) := dk_46 (dk_at dksX5_give_0 5 rfl rfl)
theorem dX5_give_6 : decode cX5_give 6 = .ok (.aload_n 0, 1) := dk_42 (dk_at dksX5_give_0 6 rfl rfl)
theorem dX5_give_7 : decode cX5_give 7 = .ok (.getfield 45, 3) := dk_180 0 45 (dk_at dksX5_give_0 7 rfl rfl)
theorem dX5_give_10 : decode cX5_give 10 = .ok (.iadd, 1) := dk_96 (dk_at dksX5_give_0 10 rfl rfl)
theorem dX5_give_11 : decode cX5_give 11 = .ok (.ireturn, 1) := dk_172 (dk_at dksX5_give_0 11 rfl rfl)
abbrev cX5_times : ByteArray := prog_10_method_4_code
def yX5_times : MethodName := ⟨RX5, "times", "(II)I"⟩
def dkwX5_times_0 : List UInt8 := [17, 3, 232, 26, 27, 104, 184, 0, 48, 172]
abbrev dktX5_times_0 : List UInt8 := dkwX5_times_0 ++ []
theorem dksX5_times_0 : cX5_times.data.toList.drop 0 = dktX5_times_0 := by decide +kernel
theorem dX5_times_0 : decode cX5_times 0 = .ok (.sipush 1000, 3) := dk_17 3 232 (dk_at dksX5_times_0 0 rfl rfl)
theorem dX5_times_3 : decode cX5_times 3 = .ok (.iload_n 0, 1) := dk_26 (dk_at dksX5_times_0 3 rfl rfl)
theorem dX5_times_4 : decode cX5_times 4 = .ok (.iload_n 1, 1) := dk_27 (dk_at dksX5_times_0 4 rfl rfl)
theorem dX5_times_5 : decode cX5_times 5 = .ok (.imul, 1) := dk_104 (dk_at dksX5_times_0 5 rfl rfl)
theorem dX5_times_6 : decode cX5_times 6 = .ok (.invokestatic 48, 3) := dk_184 0 48 (dk_at dksX5_times_0 6 rfl rfl)
theorem dX5_times_9 : decode cX5_times 9 = .ok (.ireturn, 1) := dk_172 (dk_at dksX5_times_0 9 rfl rfl)
theorem q96 : (Jvm.Cond.initialized "FortyDays$Port") ∈ lw_all := lw_g (lw_at lw_m1 9 rfl) rfl
theorem q336 : (Jvm.Cond.instantiable "FortyDays$Port" (7 : Nat)) ∈ lw_all := lw_g (lw_at lw_m2 9 rfl) rfl
theorem q339 : (Jvm.Cond.instanceMethod ({ cls := "FortyDays$Port", name := "<init>", desc := "(I)V" } : Jvm.MethodName)) ∈ lw_all := lw_g (lw_at lw_m2 12 rfl) rfl
theorem q340 : (Jvm.Cond.code ({ cls := "FortyDays$Port", name := "<init>", desc := "(I)V" } : Jvm.MethodName) prog_10_method_1_code (2 : Nat) (Option.none : Option Jvm.ClassFile.FieldType)) ∈ lw_all := lw_g (lw_at lw_m2 13 rfl) rfl
theorem q341 : (Jvm.Cond.methodLink "FortyDays$Port" (3 : Nat) ({ cls := "java/lang/Object", name := "<init>", desc := "()V" } : Jvm.MethodName)) ∈ lw_all := lw_g (lw_at lw_m2 14 rfl) rfl
theorem q342 : (Jvm.Cond.classLink "FortyDays$Port" (21 : Nat) "java/util/ArrayList") ∈ lw_all := lw_g (lw_at lw_m2 15 rfl) rfl
theorem q343 : (Jvm.Cond.methodLink "FortyDays$Port" (23 : Nat) ({ cls := "java/util/ArrayList", name := "<init>", desc := "()V" } : Jvm.MethodName)) ∈ lw_all := lw_g (lw_at lw_m2 16 rfl) rfl
theorem q344 : (Jvm.Cond.fieldLink "FortyDays$Port" (28 : Nat) "FortyDays$Port" "number" "I") ∈ lw_all := lw_g (lw_at lw_m2 17 rfl) rfl
theorem q347 : (Jvm.Cond.fieldLink "FortyDays$Port" (9 : Nat) "FortyDays$Port" "have" "[I") ∈ lw_all := lw_g (lw_at lw_m2 20 rfl) rfl
theorem q351 : (Jvm.Cond.fieldLink "FortyDays$Port" (15 : Nat) "FortyDays$Port" "last" "[I") ∈ lw_all := lw_g (lw_at lw_m2 24 rfl) rfl
theorem q355 : (Jvm.Cond.fieldLink "FortyDays$Port" (18 : Nat) "FortyDays$Port" "numbers" "[I") ∈ lw_all := lw_g (lw_at lw_m2 28 rfl) rfl
theorem q357 : (Jvm.Cond.fieldLink "FortyDays$Port" (24 : Nat) "FortyDays$Port" "holds" "Ljava/util/ArrayList;") ∈ lw_all := lw_g (lw_at lw_m2 30 rfl) rfl
theorem q359 : (Jvm.Cond.fieldLink "FortyDays$Port" (45 : Nat) "FortyDays$Port" "more" "I") ∈ lw_all := lw_g (lw_at lw_m2 32 rfl) rfl
theorem q361 : (Jvm.Cond.laysFinal "FortyDays$Port" "FortyDays$Port" "number" "I") ∈ lw_all := lw_g (lw_at lw_m2 34 rfl) rfl
theorem q362 : (Jvm.Cond.soleField "FortyDays$Port" "number") ∈ lw_all := lw_g (lw_at lw_m2 35 rfl) rfl
theorem q363 : (Jvm.Cond.lays "FortyDays$Port" "FortyDays$Port" "clauses" "I") ∈ lw_all := lw_g (lw_at lw_m2 36 rfl) rfl
theorem q364 : (Jvm.Cond.soleField "FortyDays$Port" "clauses") ∈ lw_all := lw_g (lw_at lw_m2 37 rfl) rfl
theorem q365 : (Jvm.Cond.laysFinal "FortyDays$Port" "FortyDays$Port" "have" "[I") ∈ lw_all := lw_g (lw_at lw_m2 38 rfl) rfl
theorem q366 : (Jvm.Cond.soleField "FortyDays$Port" "have") ∈ lw_all := lw_g (lw_at lw_m2 39 rfl) rfl
theorem q367 : (Jvm.Cond.laysFinal "FortyDays$Port" "FortyDays$Port" "last" "[I") ∈ lw_all := lw_g (lw_at lw_m2 40 rfl) rfl
theorem q368 : (Jvm.Cond.soleField "FortyDays$Port" "last") ∈ lw_all := lw_g (lw_at lw_m2 41 rfl) rfl
theorem q369 : (Jvm.Cond.laysFinal "FortyDays$Port" "FortyDays$Port" "numbers" "[I") ∈ lw_all := lw_g (lw_at lw_m2 42 rfl) rfl
theorem q370 : (Jvm.Cond.soleField "FortyDays$Port" "numbers") ∈ lw_all := lw_g (lw_at lw_m2 43 rfl) rfl
theorem q371 : (Jvm.Cond.laysFinal "FortyDays$Port" "FortyDays$Port" "holds" "Ljava/util/ArrayList;") ∈ lw_all := lw_g (lw_at lw_m2 44 rfl) rfl
theorem q372 : (Jvm.Cond.soleField "FortyDays$Port" "holds") ∈ lw_all := lw_g (lw_at lw_m2 45 rfl) rfl
theorem q373 : (Jvm.Cond.lays "FortyDays$Port" "FortyDays$Port" "more" "I") ∈ lw_all := lw_g (lw_at lw_m2 46 rfl) rfl
theorem q374 : (Jvm.Cond.soleField "FortyDays$Port" "more") ∈ lw_all := lw_g (lw_at lw_m2 47 rfl) rfl
theorem q375 : (Jvm.Cond.superclass "FortyDays$Port" "java/lang/Object") ∈ lw_all := lw_g (lw_at lw_m2 48 rfl) rfl
theorem q566 : (Jvm.Cond.selects "FortyDays$Port" ({ cls := "java/lang/Object", name := "getClass", desc := "()Ljava/lang/Class;" } : Jvm.MethodName) ({ cls := "java/lang/Object", name := "getClass", desc := "()Ljava/lang/Class;" } : Jvm.MethodName)) ∈ lw_all := lw_g (lw_at lw_m2 239 rfl) rfl
theorem q628 : (Jvm.Cond.instanceMethod ({ cls := "FortyDays$Port", name := "holdOf", desc := "(III)I" } : Jvm.MethodName)) ∈ lw_all := lw_g (lw_at lw_m3 61 rfl) rfl
theorem q629 : (Jvm.Cond.selects "FortyDays$Port" ({ cls := "FortyDays$Port", name := "holdOf", desc := "(III)I" } : Jvm.MethodName) ({ cls := "FortyDays$Port", name := "holdOf", desc := "(III)I" } : Jvm.MethodName)) ∈ lw_all := lw_g (lw_at lw_m3 62 rfl) rfl
theorem q630 : (Jvm.Cond.code ({ cls := "FortyDays$Port", name := "holdOf", desc := "(III)I" } : Jvm.MethodName) prog_10_method_2_code (6 : Nat) (Option.some Jvm.ClassFile.FieldType.int)) ∈ lw_all := lw_g (lw_at lw_m3 63 rfl) rfl
theorem q631 : (Jvm.Cond.methodLink "FortyDays$Port" (32 : Nat) ({ cls := "java/util/ArrayList", name := "size", desc := "()I" } : Jvm.MethodName)) ∈ lw_all := lw_g (lw_at lw_m3 64 rfl) rfl
theorem q632 : (Jvm.Cond.methodLink "FortyDays$Port" (36 : Nat) ({ cls := "java/util/ArrayList", name := "get", desc := "(I)Ljava/lang/Object;" } : Jvm.MethodName)) ∈ lw_all := lw_g (lw_at lw_m3 65 rfl) rfl
theorem q633 : (Jvm.Cond.classLink "FortyDays$Port" (40 : Nat) "FortyDays$Test") ∈ lw_all := lw_g (lw_at lw_m3 66 rfl) rfl
theorem q634 : (Jvm.Cond.interfaceEntry "FortyDays$Port" (42 : Nat)) ∈ lw_tbl := lw_at lw_m3 67 rfl
theorem q635 : (Jvm.Cond.methodLink "FortyDays$Port" (42 : Nat) ({ cls := "FortyDays$Test", name := "holds", desc := "(III)Z" } : Jvm.MethodName)) ∈ lw_all := lw_g (lw_at lw_m3 68 rfl) rfl
theorem q733 : (Jvm.Cond.instanceMethod ({ cls := "FortyDays$Port", name := "give", desc := "()I" } : Jvm.MethodName)) ∈ lw_all := lw_g (lw_at lw_m3 166 rfl) rfl
theorem q734 : (Jvm.Cond.selects "FortyDays$Port" ({ cls := "FortyDays$Port", name := "give", desc := "()I" } : Jvm.MethodName) ({ cls := "FortyDays$Port", name := "give", desc := "()I" } : Jvm.MethodName)) ∈ lw_all := lw_g (lw_at lw_m3 167 rfl) rfl
theorem q735 : (Jvm.Cond.code ({ cls := "FortyDays$Port", name := "give", desc := "()I" } : Jvm.MethodName) prog_10_method_3_code (1 : Nat) (Option.some Jvm.ClassFile.FieldType.int)) ∈ lw_all := lw_g (lw_at lw_m3 168 rfl) rfl
theorem q737 : (Jvm.Cond.static ({ cls := "FortyDays$Port", name := "times", desc := "(II)I" } : Jvm.MethodName)) ∈ lw_all := lw_g (lw_at lw_m3 170 rfl) rfl
theorem q738 : (Jvm.Cond.code ({ cls := "FortyDays$Port", name := "times", desc := "(II)I" } : Jvm.MethodName) prog_10_method_4_code (2 : Nat) (Option.some Jvm.ClassFile.FieldType.int)) ∈ lw_all := lw_g (lw_at lw_m3 171 rfl) rfl
theorem q739 : (Jvm.Cond.methodLink "FortyDays$Port" (48 : Nat) ({ cls := "java/lang/Math", name := "min", desc := "(II)I" } : Jvm.MethodName)) ∈ lw_all := lw_g (lw_at lw_m3 172 rfl) rfl
theorem q1770 : (Jvm.Cond.castable "FortyDays$Port" "java/lang/Object") ∈ lw_tbl := lw_at lw_m8 3 rfl
theorem in_X5 : ∀ w ∈ wsX50, w ∈ lw_all := lw_in wsX50 [361, 363, 365, 367, 369, 371, 373] (by decide +kernel) (by decide +kernel)

/-! FortyDays$Wrong -/
set_option maxRecDepth 100000
def RX6 : String := "FortyDays$Wrong"
def TX6 : u_T := fun k => match k with
  | 0 => ("java/lang/Throwable", "cause", "Ljava/lang/Throwable;", false)
  | 1 => ("java/lang/Throwable", "stackTrace", "[Ljava/lang/StackTraceElement;", false)
  | 2 => ("java/lang/Throwable", "suppressedExceptions", "Ljava/util/List;", false)
  | 3 => ("java/lang/Throwable", "detailMessage", "Ljava/lang/String;", false)
  | 4 => ("java/lang/Throwable", "backtrace", "Ljava/lang/Object;", false)
  | 5 => ("java/lang/Throwable", "depth", "I", false)
  | _ => ("FortyDays$Wrong", "place", "I", true)
def tyX6 : Nat → FieldType := fun k => match k with
  | 0 => .object "java/lang/Throwable"
  | 1 => .array (.object "java/lang/StackTraceElement")
  | 2 => .object "java/util/List"
  | 3 => .object "java/lang/String"
  | 4 => .object "java/lang/Object"
  | 5 => .int
  | _ => .int
abbrev wsX60 : List Cond := u_ws RX6 TX6 7
theorem nmX6 : ∀ a, a < 7 → ∀ b, b < 7 → a ≠ b → (TX6 a).2.1 ≠ (TX6 b).2.1 := by decide +kernel
theorem tyX6_ok : ∀ k, k < 7 → parseFieldDescriptor (TX6 k).2.2.1 = some (tyX6 k) := by decide +kernel
abbrev cX6_init : ByteArray := prog_19_method_1_code
def yX6_init : MethodName := ⟨RX6, "<init>", "(I)V"⟩
def dkwX6_init_0 : List UInt8 := [42, 1, 1, 3, 3, 183, 0, 1, 42, 27, 181, 0, 7, 177]
abbrev dktX6_init_0 : List UInt8 := dkwX6_init_0 ++ []
theorem dksX6_init_0 : cX6_init.data.toList.drop 0 = dktX6_init_0 := by decide +kernel
theorem dX6_init_0 : decode cX6_init 0 = .ok (.aload_n 0, 1) := dk_42 (dk_at dksX6_init_0 0 rfl rfl)
theorem dX6_init_1 : decode cX6_init 1 = .ok (.aconst_null, 1) := dk_1 (dk_at dksX6_init_0 1 rfl rfl)
theorem dX6_init_2 : decode cX6_init 2 = .ok (.aconst_null, 1) := dk_1 (dk_at dksX6_init_0 2 rfl rfl)
theorem dX6_init_3 : decode cX6_init 3 = .ok (.iconst 0, 1) := dk_3 (dk_at dksX6_init_0 3 rfl rfl)
theorem dX6_init_4 : decode cX6_init 4 = .ok (.iconst 0, 1) := dk_3 (dk_at dksX6_init_0 4 rfl rfl)
theorem dX6_init_5 : decode cX6_init 5 = .ok (.invokespecial 1, 3) := dk_183 0 1 (dk_at dksX6_init_0 5 rfl rfl)
theorem dX6_init_8 : decode cX6_init 8 = .ok (.aload_n 0, 1) := dk_42 (dk_at dksX6_init_0 8 rfl rfl)
theorem dX6_init_9 : decode cX6_init 9 = .ok (.iload_n 1, 1) := dk_27 (dk_at dksX6_init_0 9 rfl rfl)
theorem dX6_init_10 : decode cX6_init 10 = .ok (.putfield 7, 3) := dk_181 0 7 (dk_at dksX6_init_0 10 rfl rfl)
theorem dX6_init_13 : decode cX6_init 13 = .ok (.return_, 1) := dk_177 (dk_at dksX6_init_0 13 rfl rfl)
theorem q99 : (Jvm.Cond.initialized "FortyDays$Wrong") ∈ lw_all := lw_g (lw_at lw_m1 12 rfl) rfl
theorem q401 : (Jvm.Cond.instantiable "FortyDays$Wrong" (7 : Nat)) ∈ lw_all := lw_g (lw_at lw_m2 74 rfl) rfl
theorem q402 : (Jvm.Cond.castable "FortyDays$Wrong" "FortyDays$Wrong") ∈ lw_tbl := lw_at lw_m2 75 rfl
theorem q407 : (Jvm.Cond.selects "FortyDays$Wrong" ({ cls := "java/lang/Throwable", name := "fillInStackTrace", desc := "(I)Ljava/lang/Throwable;" } : Jvm.MethodName) ({ cls := "java/lang/Throwable", name := "fillInStackTrace", desc := "(I)Ljava/lang/Throwable;" } : Jvm.MethodName)) ∈ lw_all := lw_g (lw_at lw_m2 80 rfl) rfl
theorem q408 : (Jvm.Cond.selects "FortyDays$Wrong" ({ cls := "java/lang/Throwable", name := "fillInStackTrace", desc := "()Ljava/lang/Throwable;" } : Jvm.MethodName) ({ cls := "java/lang/Throwable", name := "fillInStackTrace", desc := "()Ljava/lang/Throwable;" } : Jvm.MethodName)) ∈ lw_all := lw_g (lw_at lw_m2 81 rfl) rfl
theorem q409 : (Jvm.Cond.lays "FortyDays$Wrong" "java/lang/Throwable" "cause" "Ljava/lang/Throwable;") ∈ lw_all := lw_g (lw_at lw_m2 82 rfl) rfl
theorem q411 : (Jvm.Cond.lays "FortyDays$Wrong" "java/lang/Throwable" "stackTrace" "[Ljava/lang/StackTraceElement;") ∈ lw_all := lw_g (lw_at lw_m2 84 rfl) rfl
theorem q413 : (Jvm.Cond.lays "FortyDays$Wrong" "java/lang/Throwable" "suppressedExceptions" "Ljava/util/List;") ∈ lw_all := lw_g (lw_at lw_m2 86 rfl) rfl
theorem q415 : (Jvm.Cond.lays "FortyDays$Wrong" "java/lang/Throwable" "detailMessage" "Ljava/lang/String;") ∈ lw_all := lw_g (lw_at lw_m2 88 rfl) rfl
theorem q417 : (Jvm.Cond.lays "FortyDays$Wrong" "java/lang/Throwable" "backtrace" "Ljava/lang/Object;") ∈ lw_all := lw_g (lw_at lw_m2 90 rfl) rfl
theorem q438 : (Jvm.Cond.instanceMethod ({ cls := "FortyDays$Wrong", name := "<init>", desc := "(I)V" } : Jvm.MethodName)) ∈ lw_all := lw_g (lw_at lw_m2 111 rfl) rfl
theorem q439 : (Jvm.Cond.code ({ cls := "FortyDays$Wrong", name := "<init>", desc := "(I)V" } : Jvm.MethodName) prog_19_method_1_code (2 : Nat) (Option.none : Option Jvm.ClassFile.FieldType)) ∈ lw_all := lw_g (lw_at lw_m2 112 rfl) rfl
theorem q440 : (Jvm.Cond.methodLink "FortyDays$Wrong" (1 : Nat) ({ cls := "java/lang/Exception", name := "<init>", desc := "(Ljava/lang/String;Ljava/lang/Throwable;ZZ)V" } : Jvm.MethodName)) ∈ lw_all := lw_g (lw_at lw_m2 113 rfl) rfl
theorem q446 : (Jvm.Cond.fieldLink "FortyDays$Wrong" (7 : Nat) "FortyDays$Wrong" "place" "I") ∈ lw_all := lw_g (lw_at lw_m2 119 rfl) rfl
theorem q453 : (Jvm.Cond.laysFinal "FortyDays$Wrong" "FortyDays$Wrong" "place" "I") ∈ lw_all := lw_g (lw_at lw_m2 126 rfl) rfl
theorem q454 : (Jvm.Cond.soleField "FortyDays$Wrong" "place") ∈ lw_all := lw_g (lw_at lw_m2 127 rfl) rfl
theorem q459 : (Jvm.Cond.lays "FortyDays$Wrong" "java/lang/Throwable" "depth" "I") ∈ lw_all := lw_g (lw_at lw_m2 132 rfl) rfl
theorem q462 : (Jvm.Cond.superclass "FortyDays$Wrong" "java/lang/Exception") ∈ lw_all := lw_g (lw_at lw_m2 135 rfl) rfl
theorem q574 : (Jvm.Cond.selects "FortyDays$Wrong" ({ cls := "java/lang/Object", name := "getClass", desc := "()Ljava/lang/Class;" } : Jvm.MethodName) ({ cls := "java/lang/Object", name := "getClass", desc := "()Ljava/lang/Class;" } : Jvm.MethodName)) ∈ lw_all := lw_g (lw_at lw_m3 7 rfl) rfl
theorem q1771 : (Jvm.Cond.castable "FortyDays$Wrong" "java/lang/Object") ∈ lw_tbl := lw_at lw_m8 4 rfl
theorem in_X6 : ∀ w ∈ wsX60, w ∈ lw_all := lw_in wsX60 [409, 411, 413, 415, 417, 459, 453] (by decide +kernel) (by decide +kernel)

/-! FortyDays$Not -/
set_option maxRecDepth 100000
def RX7 : String := "FortyDays$Not"
def TX7 : u_T := fun k => match k with
  | _ => ("FortyDays$Not", "of", "LFortyDays$Test;", true)
def tyX7 : Nat → FieldType := fun k => match k with
  | _ => .object "FortyDays$Test"
abbrev wsX70 : List Cond := u_ws RX7 TX7 1
theorem nmX7 : ∀ a, a < 1 → ∀ b, b < 1 → a ≠ b → (TX7 a).2.1 ≠ (TX7 b).2.1 := by decide +kernel
theorem tyX7_ok : ∀ k, k < 1 → parseFieldDescriptor (TX7 k).2.2.1 = some (tyX7 k) := by decide +kernel
abbrev cX7_init : ByteArray := prog_9_method_1_code
def yX7_init : MethodName := ⟨RX7, "<init>", "(LFortyDays$Test;)V"⟩
def dkwX7_init_0 : List UInt8 := [42, 183, 0, 1, 42, 43, 181, 0, 7, 177]
abbrev dktX7_init_0 : List UInt8 := dkwX7_init_0 ++ []
theorem dksX7_init_0 : cX7_init.data.toList.drop 0 = dktX7_init_0 := by decide +kernel
theorem dX7_init_0 : decode cX7_init 0 = .ok (.aload_n 0, 1) := dk_42 (dk_at dksX7_init_0 0 rfl rfl)
theorem dX7_init_1 : decode cX7_init 1 = .ok (.invokespecial 1, 3) := dk_183 0 1 (dk_at dksX7_init_0 1 rfl rfl)
theorem dX7_init_4 : decode cX7_init 4 = .ok (.aload_n 0, 1) := dk_42 (dk_at dksX7_init_0 4 rfl rfl)
theorem dX7_init_5 : decode cX7_init 5 = .ok (.aload_n 1, 1) := dk_43 (dk_at dksX7_init_0 5 rfl rfl)
theorem dX7_init_6 : decode cX7_init 6 = .ok (.putfield 7, 3) := dk_181 0 7 (dk_at dksX7_init_0 6 rfl rfl)
theorem dX7_init_9 : decode cX7_init 9 = .ok (.return_, 1) := dk_177 (dk_at dksX7_init_0 9 rfl rfl)
abbrev cX7_holds : ByteArray := prog_9_method_2_code
def yX7_holds : MethodName := ⟨RX7, "holds", "(III)Z"⟩
def dkwX7_holds_0 : List UInt8 := [42, 180, 0, 7, 27, 28, 29, 185, 0, 13, 4, 0, 154, 0, 7, 4, 167, 0, 4, 3, 172]
abbrev dktX7_holds_0 : List UInt8 := dkwX7_holds_0 ++ []
theorem dksX7_holds_0 : cX7_holds.data.toList.drop 0 = dktX7_holds_0 := by decide +kernel
theorem dX7_holds_0 : decode cX7_holds 0 = .ok (.aload_n 0, 1) := dk_42 (dk_at dksX7_holds_0 0 rfl rfl)
theorem dX7_holds_1 : decode cX7_holds 1 = .ok (.getfield 7, 3) := dk_180 0 7 (dk_at dksX7_holds_0 1 rfl rfl)
theorem dX7_holds_4 : decode cX7_holds 4 = .ok (.iload_n 1, 1) := dk_27 (dk_at dksX7_holds_0 4 rfl rfl)
theorem dX7_holds_5 : decode cX7_holds 5 = .ok (.iload_n 2, 1) := dk_28 (dk_at dksX7_holds_0 5 rfl rfl)
theorem dX7_holds_6 : decode cX7_holds 6 = .ok (.iload_n 3, 1) := dk_29 (dk_at dksX7_holds_0 6 rfl rfl)
theorem dX7_holds_7 : decode cX7_holds 7 = .ok (.invokeinterface 13 4, 5) := by decide +kernel
theorem dX7_holds_12 : decode cX7_holds 12 = .ok (.ifCond .ne 7, 3) := dk_154 0 7 (dk_at dksX7_holds_0 12 rfl rfl)
theorem dX7_holds_15 : decode cX7_holds 15 = .ok (.iconst 1, 1) := dk_4 (dk_at dksX7_holds_0 15 rfl rfl)
theorem dX7_holds_16 : decode cX7_holds 16 = .ok (.goto 4, 3) := dk_167 0 4 (dk_at dksX7_holds_0 16 rfl rfl)
theorem dX7_holds_19 : decode cX7_holds 19 = .ok (.iconst 0, 1) := dk_3 (dk_at dksX7_holds_0 19 rfl rfl)
theorem dX7_holds_20 : decode cX7_holds 20 = .ok (.ireturn, 1) := dk_172 (dk_at dksX7_holds_0 20 rfl rfl)
theorem q100 : (Jvm.Cond.initialized "FortyDays$Not") ∈ lw_all := lw_g (lw_at lw_m1 13 rfl) rfl
theorem q484 : (Jvm.Cond.instantiable "FortyDays$Not" (1 : Nat)) ∈ lw_all := lw_g (lw_at lw_m2 157 rfl) rfl
theorem q486 : (Jvm.Cond.instanceMethod ({ cls := "FortyDays$Not", name := "<init>", desc := "(LFortyDays$Test;)V" } : Jvm.MethodName)) ∈ lw_all := lw_g (lw_at lw_m2 159 rfl) rfl
theorem q487 : (Jvm.Cond.code ({ cls := "FortyDays$Not", name := "<init>", desc := "(LFortyDays$Test;)V" } : Jvm.MethodName) prog_9_method_1_code (2 : Nat) (Option.none : Option Jvm.ClassFile.FieldType)) ∈ lw_all := lw_g (lw_at lw_m2 160 rfl) rfl
theorem q488 : (Jvm.Cond.methodLink "FortyDays$Not" (1 : Nat) ({ cls := "java/lang/Object", name := "<init>", desc := "()V" } : Jvm.MethodName)) ∈ lw_all := lw_g (lw_at lw_m2 161 rfl) rfl
theorem q489 : (Jvm.Cond.fieldLink "FortyDays$Not" (7 : Nat) "FortyDays$Not" "of" "LFortyDays$Test;") ∈ lw_all := lw_g (lw_at lw_m2 162 rfl) rfl
theorem q490 : (Jvm.Cond.laysFinal "FortyDays$Not" "FortyDays$Not" "of" "LFortyDays$Test;") ∈ lw_all := lw_g (lw_at lw_m2 163 rfl) rfl
theorem q491 : (Jvm.Cond.soleField "FortyDays$Not" "of") ∈ lw_all := lw_g (lw_at lw_m2 164 rfl) rfl
theorem q492 : (Jvm.Cond.superclass "FortyDays$Not" "java/lang/Object") ∈ lw_all := lw_g (lw_at lw_m2 165 rfl) rfl
theorem q565 : (Jvm.Cond.selects "FortyDays$Not" ({ cls := "java/lang/Object", name := "getClass", desc := "()Ljava/lang/Class;" } : Jvm.MethodName) ({ cls := "java/lang/Object", name := "getClass", desc := "()Ljava/lang/Class;" } : Jvm.MethodName)) ∈ lw_all := lw_g (lw_at lw_m2 238 rfl) rfl
theorem q644 : (Jvm.Cond.castable "FortyDays$Not" "FortyDays$Test") ∈ lw_tbl := lw_at lw_m3 77 rfl
theorem q645 : (Jvm.Cond.selects "FortyDays$Not" ({ cls := "FortyDays$Test", name := "holds", desc := "(III)Z" } : Jvm.MethodName) ({ cls := "FortyDays$Not", name := "holds", desc := "(III)Z" } : Jvm.MethodName)) ∈ lw_all := lw_g (lw_at lw_m3 78 rfl) rfl
theorem q646 : (Jvm.Cond.unhidden "FortyDays$Not" "holds" "(III)Z") ∈ lw_tbl := lw_at lw_m3 79 rfl
theorem q647 : (Jvm.Cond.instanceMethod ({ cls := "FortyDays$Not", name := "holds", desc := "(III)Z" } : Jvm.MethodName)) ∈ lw_all := lw_g (lw_at lw_m3 80 rfl) rfl
theorem q648 : (Jvm.Cond.publicMethod ({ cls := "FortyDays$Not", name := "holds", desc := "(III)Z" } : Jvm.MethodName)) ∈ lw_tbl := lw_at lw_m3 81 rfl
theorem q649 : (Jvm.Cond.code ({ cls := "FortyDays$Not", name := "holds", desc := "(III)Z" } : Jvm.MethodName) prog_9_method_2_code (4 : Nat) (Option.some Jvm.ClassFile.FieldType.boolean)) ∈ lw_all := lw_g (lw_at lw_m3 82 rfl) rfl
theorem q650 : (Jvm.Cond.interfaceEntry "FortyDays$Not" (13 : Nat)) ∈ lw_tbl := lw_at lw_m3 83 rfl
theorem q651 : (Jvm.Cond.methodLink "FortyDays$Not" (13 : Nat) ({ cls := "FortyDays$Test", name := "holds", desc := "(III)Z" } : Jvm.MethodName)) ∈ lw_all := lw_g (lw_at lw_m3 84 rfl) rfl
theorem q1772 : (Jvm.Cond.castable "FortyDays$Not" "java/lang/Object") ∈ lw_tbl := lw_at lw_m8 5 rfl
theorem in_X7 : ∀ w ∈ wsX70, w ∈ lw_all := lw_in wsX70 [490] (by decide +kernel) (by decide +kernel)

/-! FortyDays$Fact -/
set_option maxRecDepth 100000
def RX8 : String := "FortyDays$Fact"
def TX8 : u_T := fun k => match k with
  | 0 => ("FortyDays$Fact", "letter", "I", true)
  | 1 => ("FortyDays$Fact", "op", "I", true)
  | _ => ("FortyDays$Fact", "number", "I", true)
def tyX8 : Nat → FieldType := fun k => match k with
  | 0 => .int
  | 1 => .int
  | _ => .int
abbrev wsX80 : List Cond := u_ws RX8 TX8 3
theorem nmX8 : ∀ a, a < 3 → ∀ b, b < 3 → a ≠ b → (TX8 a).2.1 ≠ (TX8 b).2.1 := by decide +kernel
theorem tyX8_ok : ∀ k, k < 3 → parseFieldDescriptor (TX8 k).2.2.1 = some (tyX8 k) := by decide +kernel
abbrev cX8_init : ByteArray := prog_5_method_1_code
def yX8_init : MethodName := ⟨RX8, "<init>", "(III)V"⟩
def dkwX8_init_0 : List UInt8 := [42, 183, 0, 1, 42, 27, 181, 0, 7, 42, 28, 181, 0, 13, 42, 29, 181, 0, 16, 177]
abbrev dktX8_init_0 : List UInt8 := dkwX8_init_0 ++ []
theorem dksX8_init_0 : cX8_init.data.toList.drop 0 = dktX8_init_0 := by decide +kernel
theorem dX8_init_0 : decode cX8_init 0 = .ok (.aload_n 0, 1) := dk_42 (dk_at dksX8_init_0 0 rfl rfl)
theorem dX8_init_1 : decode cX8_init 1 = .ok (.invokespecial 1, 3) := dk_183 0 1 (dk_at dksX8_init_0 1 rfl rfl)
theorem dX8_init_4 : decode cX8_init 4 = .ok (.aload_n 0, 1) := dk_42 (dk_at dksX8_init_0 4 rfl rfl)
theorem dX8_init_5 : decode cX8_init 5 = .ok (.iload_n 1, 1) := dk_27 (dk_at dksX8_init_0 5 rfl rfl)
theorem dX8_init_6 : decode cX8_init 6 = .ok (.putfield 7, 3) := dk_181 0 7 (dk_at dksX8_init_0 6 rfl rfl)
theorem dX8_init_9 : decode cX8_init 9 = .ok (.aload_n 0, 1) := dk_42 (dk_at dksX8_init_0 9 rfl rfl)
theorem dX8_init_10 : decode cX8_init 10 = .ok (.iload_n 2, 1) := dk_28 (dk_at dksX8_init_0 10 rfl rfl)
theorem dX8_init_11 : decode cX8_init 11 = .ok (.putfield 13, 3) := dk_181 0 13 (dk_at dksX8_init_0 11 rfl rfl)
theorem dX8_init_14 : decode cX8_init 14 = .ok (.aload_n 0, 1) := dk_42 (dk_at dksX8_init_0 14 rfl rfl)
theorem dX8_init_15 : decode cX8_init 15 = .ok (.iload_n 3, 1) := dk_29 (dk_at dksX8_init_0 15 rfl rfl)
theorem dX8_init_16 : decode cX8_init 16 = .ok (.putfield 16, 3) := dk_181 0 16 (dk_at dksX8_init_0 16 rfl rfl)
theorem dX8_init_19 : decode cX8_init 19 = .ok (.return_, 1) := dk_177 (dk_at dksX8_init_0 19 rfl rfl)
abbrev cX8_holds : ByteArray := prog_5_method_2_code
def yX8_holds : MethodName := ⟨RX8, "holds", "(III)Z"⟩
def dkwX8_holds_4 : List UInt8 := [3, 172]
abbrev dktX8_holds_4 : List UInt8 := dkwX8_holds_4 ++ []
def dkwX8_holds_3 : List UInt8 := [160, 0, 7, 4, 167, 0, 21, 3, 167, 0, 17, 21, 4, 42, 180, 0, 16, 164, 0, 7, 4, 167, 0, 4]
abbrev dktX8_holds_3 : List UInt8 := dkwX8_holds_3 ++ dktX8_holds_4
def dkwX8_holds_2 : List UInt8 := [4, 167, 0, 47, 3, 167, 0, 43, 42, 180, 0, 13, 16, 61, 160, 0, 20, 21, 4, 42, 180, 0, 16]
abbrev dktX8_holds_2 : List UInt8 := dkwX8_holds_2 ++ dktX8_holds_3
def dkwX8_holds_1 : List UInt8 := [167, 0, 4, 29, 54, 4, 42, 180, 0, 13, 16, 60, 160, 0, 20, 21, 4, 42, 180, 0, 16, 162, 0, 7]
abbrev dktX8_holds_1 : List UInt8 := dkwX8_holds_1 ++ dktX8_holds_2
def dkwX8_holds_0 : List UInt8 := [42, 180, 0, 7, 16, 100, 160, 0, 7, 27, 167, 0, 17, 42, 180, 0, 7, 16, 104, 160, 0, 7, 28]
abbrev dktX8_holds_0 : List UInt8 := dkwX8_holds_0 ++ dktX8_holds_1
theorem dksX8_holds_0 : cX8_holds.data.toList.drop 0 = dktX8_holds_0 := by decide +kernel
theorem dksX8_holds_1 : cX8_holds.data.toList.drop 23 = dktX8_holds_1 := dk_seg dksX8_holds_0 23 rfl rfl
theorem dksX8_holds_2 : cX8_holds.data.toList.drop 47 = dktX8_holds_2 := dk_seg dksX8_holds_1 24 rfl rfl
theorem dksX8_holds_3 : cX8_holds.data.toList.drop 70 = dktX8_holds_3 := dk_seg dksX8_holds_2 23 rfl rfl
theorem dksX8_holds_4 : cX8_holds.data.toList.drop 94 = dktX8_holds_4 := dk_seg dksX8_holds_3 24 rfl rfl
theorem dX8_holds_0 : decode cX8_holds 0 = .ok (.aload_n 0, 1) := dk_42 (dk_at dksX8_holds_0 0 rfl rfl)
theorem dX8_holds_1 : decode cX8_holds 1 = .ok (.getfield 7, 3) := dk_180 0 7 (dk_at dksX8_holds_0 1 rfl rfl)
theorem dX8_holds_4 : decode cX8_holds 4 = .ok (.bipush 100, 2) := dk_16 100 (dk_at dksX8_holds_0 4 rfl rfl)
theorem dX8_holds_6 : decode cX8_holds 6 = .ok (.if_icmp .ne 7, 3) := dk_160 0 7 (dk_at dksX8_holds_0 6 rfl rfl)
theorem dX8_holds_9 : decode cX8_holds 9 = .ok (.iload_n 1, 1) := dk_27 (dk_at dksX8_holds_0 9 rfl rfl)
theorem dX8_holds_10 : decode cX8_holds 10 = .ok (.goto 17, 3) := dk_167 0 17 (dk_at dksX8_holds_0 10 rfl rfl)
theorem dX8_holds_13 : decode cX8_holds 13 = .ok (.aload_n 0, 1) := dk_42 (dk_at dksX8_holds_0 13 rfl rfl)
theorem dX8_holds_14 : decode cX8_holds 14 = .ok (.getfield 7, 3) := dk_180 0 7 (dk_at dksX8_holds_0 14 rfl rfl)
theorem dX8_holds_17 : decode cX8_holds 17 = .ok (.bipush 104, 2) := dk_16 104 (dk_at dksX8_holds_0 17 rfl rfl)
theorem dX8_holds_19 : decode cX8_holds 19 = .ok (.if_icmp .ne 7, 3) := dk_160 0 7 (dk_at dksX8_holds_0 19 rfl rfl)
theorem dX8_holds_22 : decode cX8_holds 22 = .ok (.iload_n 2, 1) := dk_28 (dk_at dksX8_holds_0 22 rfl rfl)
theorem dX8_holds_23 : decode cX8_holds 23 = .ok (.goto 4, 3) := dk_167 0 4 (dk_at dksX8_holds_1 0 rfl rfl)
theorem dX8_holds_26 : decode cX8_holds 26 = .ok (.iload_n 3, 1) := dk_29 (dk_at dksX8_holds_1 3 rfl rfl)
theorem dX8_holds_27 : decode cX8_holds 27 = .ok (.istore 4, 2) := dk_54 4 (dk_at dksX8_holds_1 4 rfl rfl)
theorem dX8_holds_29 : decode cX8_holds 29 = .ok (.aload_n 0, 1) := dk_42 (dk_at dksX8_holds_1 6 rfl rfl)
theorem dX8_holds_30 : decode cX8_holds 30 = .ok (.getfield 13, 3) := dk_180 0 13 (dk_at dksX8_holds_1 7 rfl rfl)
theorem dX8_holds_33 : decode cX8_holds 33 = .ok (.bipush 60, 2) := dk_16 60 (dk_at dksX8_holds_1 10 rfl rfl)
theorem dX8_holds_35 : decode cX8_holds 35 = .ok (.if_icmp .ne 20, 3) := dk_160 0 20 (dk_at dksX8_holds_1 12 rfl rfl)
theorem dX8_holds_38 : decode cX8_holds 38 = .ok (.iload 4, 2) := dk_21 4 (dk_at dksX8_holds_1 15 rfl rfl)
theorem dX8_holds_40 : decode cX8_holds 40 = .ok (.aload_n 0, 1) := dk_42 (dk_at dksX8_holds_1 17 rfl rfl)
theorem dX8_holds_41 : decode cX8_holds 41 = .ok (.getfield 16, 3) := dk_180 0 16 (dk_at dksX8_holds_1 18 rfl rfl)
theorem dX8_holds_44 : decode cX8_holds 44 = .ok (.if_icmp .ge 7, 3) := dk_162 0 7 (dk_at dksX8_holds_1 21 rfl rfl)
theorem dX8_holds_47 : decode cX8_holds 47 = .ok (.iconst 1, 1) := dk_4 (dk_at dksX8_holds_2 0 rfl rfl)
theorem dX8_holds_48 : decode cX8_holds 48 = .ok (.goto 47, 3) := dk_167 0 47 (dk_at dksX8_holds_2 1 rfl rfl)
theorem dX8_holds_51 : decode cX8_holds 51 = .ok (.iconst 0, 1) := dk_3 (dk_at dksX8_holds_2 4 rfl rfl)
theorem dX8_holds_52 : decode cX8_holds 52 = .ok (.goto 43, 3) := dk_167 0 43 (dk_at dksX8_holds_2 5 rfl rfl)
theorem dX8_holds_55 : decode cX8_holds 55 = .ok (.aload_n 0, 1) := dk_42 (dk_at dksX8_holds_2 8 rfl rfl)
theorem dX8_holds_56 : decode cX8_holds 56 = .ok (.getfield 13, 3) := dk_180 0 13 (dk_at dksX8_holds_2 9 rfl rfl)
theorem dX8_holds_59 : decode cX8_holds 59 = .ok (.bipush 61, 2) := dk_16 61 (dk_at dksX8_holds_2 12 rfl rfl)
theorem dX8_holds_61 : decode cX8_holds 61 = .ok (.if_icmp .ne 20, 3) := dk_160 0 20 (dk_at dksX8_holds_2 14 rfl rfl)
theorem dX8_holds_64 : decode cX8_holds 64 = .ok (.iload 4, 2) := dk_21 4 (dk_at dksX8_holds_2 17 rfl rfl)
theorem dX8_holds_66 : decode cX8_holds 66 = .ok (.aload_n 0, 1) := dk_42 (dk_at dksX8_holds_2 19 rfl rfl)
theorem dX8_holds_67 : decode cX8_holds 67 = .ok (.getfield 16, 3) := dk_180 0 16 (dk_at dksX8_holds_2 20 rfl rfl)
theorem dX8_holds_70 : decode cX8_holds 70 = .ok (.if_icmp .ne 7, 3) := dk_160 0 7 (dk_at dksX8_holds_3 0 rfl rfl)
theorem dX8_holds_73 : decode cX8_holds 73 = .ok (.iconst 1, 1) := dk_4 (dk_at dksX8_holds_3 3 rfl rfl)
theorem dX8_holds_74 : decode cX8_holds 74 = .ok (.goto 21, 3) := dk_167 0 21 (dk_at dksX8_holds_3 4 rfl rfl)
theorem dX8_holds_77 : decode cX8_holds 77 = .ok (.iconst 0, 1) := dk_3 (dk_at dksX8_holds_3 7 rfl rfl)
theorem dX8_holds_78 : decode cX8_holds 78 = .ok (.goto 17, 3) := dk_167 0 17 (dk_at dksX8_holds_3 8 rfl rfl)
theorem dX8_holds_81 : decode cX8_holds 81 = .ok (.iload 4, 2) := dk_21 4 (dk_at dksX8_holds_3 11 rfl rfl)
theorem dX8_holds_83 : decode cX8_holds 83 = .ok (.aload_n 0, 1) := dk_42 (dk_at dksX8_holds_3 13 rfl rfl)
theorem dX8_holds_84 : decode cX8_holds 84 = .ok (.getfield 16, 3) := dk_180 0 16 (dk_at dksX8_holds_3 14 rfl rfl)
theorem dX8_holds_87 : decode cX8_holds 87 = .ok (.if_icmp .le 7, 3) := dk_164 0 7 (dk_at dksX8_holds_3 17 rfl rfl)
theorem dX8_holds_90 : decode cX8_holds 90 = .ok (.iconst 1, 1) := dk_4 (dk_at dksX8_holds_3 20 rfl rfl)
theorem dX8_holds_91 : decode cX8_holds 91 = .ok (.goto 4, 3) := dk_167 0 4 (dk_at dksX8_holds_3 21 rfl rfl)
theorem dX8_holds_94 : decode cX8_holds 94 = .ok (.iconst 0, 1) := dk_3 (dk_at dksX8_holds_4 0 rfl rfl)
theorem dX8_holds_95 : decode cX8_holds 95 = .ok (.ireturn, 1) := dk_172 (dk_at dksX8_holds_4 1 rfl rfl)
theorem q101 : (Jvm.Cond.initialized "FortyDays$Fact") ∈ lw_all := lw_g (lw_at lw_m1 14 rfl) rfl
theorem q494 : (Jvm.Cond.instantiable "FortyDays$Fact" (3 : Nat)) ∈ lw_all := lw_g (lw_at lw_m2 167 rfl) rfl
theorem q496 : (Jvm.Cond.instanceMethod ({ cls := "FortyDays$Fact", name := "<init>", desc := "(III)V" } : Jvm.MethodName)) ∈ lw_all := lw_g (lw_at lw_m2 169 rfl) rfl
theorem q497 : (Jvm.Cond.code ({ cls := "FortyDays$Fact", name := "<init>", desc := "(III)V" } : Jvm.MethodName) prog_5_method_1_code (4 : Nat) (Option.none : Option Jvm.ClassFile.FieldType)) ∈ lw_all := lw_g (lw_at lw_m2 170 rfl) rfl
theorem q498 : (Jvm.Cond.methodLink "FortyDays$Fact" (1 : Nat) ({ cls := "java/lang/Object", name := "<init>", desc := "()V" } : Jvm.MethodName)) ∈ lw_all := lw_g (lw_at lw_m2 171 rfl) rfl
theorem q499 : (Jvm.Cond.fieldLink "FortyDays$Fact" (7 : Nat) "FortyDays$Fact" "letter" "I") ∈ lw_all := lw_g (lw_at lw_m2 172 rfl) rfl
theorem q500 : (Jvm.Cond.fieldLink "FortyDays$Fact" (13 : Nat) "FortyDays$Fact" "op" "I") ∈ lw_all := lw_g (lw_at lw_m2 173 rfl) rfl
theorem q501 : (Jvm.Cond.fieldLink "FortyDays$Fact" (16 : Nat) "FortyDays$Fact" "number" "I") ∈ lw_all := lw_g (lw_at lw_m2 174 rfl) rfl
theorem q502 : (Jvm.Cond.laysFinal "FortyDays$Fact" "FortyDays$Fact" "letter" "I") ∈ lw_all := lw_g (lw_at lw_m2 175 rfl) rfl
theorem q503 : (Jvm.Cond.soleField "FortyDays$Fact" "letter") ∈ lw_all := lw_g (lw_at lw_m2 176 rfl) rfl
theorem q504 : (Jvm.Cond.laysFinal "FortyDays$Fact" "FortyDays$Fact" "op" "I") ∈ lw_all := lw_g (lw_at lw_m2 177 rfl) rfl
theorem q505 : (Jvm.Cond.soleField "FortyDays$Fact" "op") ∈ lw_all := lw_g (lw_at lw_m2 178 rfl) rfl
theorem q506 : (Jvm.Cond.laysFinal "FortyDays$Fact" "FortyDays$Fact" "number" "I") ∈ lw_all := lw_g (lw_at lw_m2 179 rfl) rfl
theorem q507 : (Jvm.Cond.soleField "FortyDays$Fact" "number") ∈ lw_all := lw_g (lw_at lw_m2 180 rfl) rfl
theorem q508 : (Jvm.Cond.superclass "FortyDays$Fact" "java/lang/Object") ∈ lw_all := lw_g (lw_at lw_m2 181 rfl) rfl
theorem q561 : (Jvm.Cond.selects "FortyDays$Fact" ({ cls := "java/lang/Object", name := "getClass", desc := "()Ljava/lang/Class;" } : Jvm.MethodName) ({ cls := "java/lang/Object", name := "getClass", desc := "()Ljava/lang/Class;" } : Jvm.MethodName)) ∈ lw_all := lw_g (lw_at lw_m2 234 rfl) rfl
theorem q638 : (Jvm.Cond.castable "FortyDays$Fact" "FortyDays$Test") ∈ lw_tbl := lw_at lw_m3 71 rfl
theorem q639 : (Jvm.Cond.selects "FortyDays$Fact" ({ cls := "FortyDays$Test", name := "holds", desc := "(III)Z" } : Jvm.MethodName) ({ cls := "FortyDays$Fact", name := "holds", desc := "(III)Z" } : Jvm.MethodName)) ∈ lw_all := lw_g (lw_at lw_m3 72 rfl) rfl
theorem q640 : (Jvm.Cond.unhidden "FortyDays$Fact" "holds" "(III)Z") ∈ lw_tbl := lw_at lw_m3 73 rfl
theorem q641 : (Jvm.Cond.instanceMethod ({ cls := "FortyDays$Fact", name := "holds", desc := "(III)Z" } : Jvm.MethodName)) ∈ lw_all := lw_g (lw_at lw_m3 74 rfl) rfl
theorem q642 : (Jvm.Cond.publicMethod ({ cls := "FortyDays$Fact", name := "holds", desc := "(III)Z" } : Jvm.MethodName)) ∈ lw_tbl := lw_at lw_m3 75 rfl
theorem q643 : (Jvm.Cond.code ({ cls := "FortyDays$Fact", name := "holds", desc := "(III)Z" } : Jvm.MethodName) prog_5_method_2_code (5 : Nat) (Option.some Jvm.ClassFile.FieldType.boolean)) ∈ lw_all := lw_g (lw_at lw_m3 76 rfl) rfl
theorem q1773 : (Jvm.Cond.castable "FortyDays$Fact" "java/lang/Object") ∈ lw_tbl := lw_at lw_m8 6 rfl
theorem in_X8 : ∀ w ∈ wsX80, w ∈ lw_all := lw_in wsX80 [502, 504, 506] (by decide +kernel) (by decide +kernel)

/-! FortyDays$Two -/
set_option maxRecDepth 100000
def RX9 : String := "FortyDays$Two"
def TX9 : u_T := fun k => match k with
  | 0 => ("FortyDays$Two", "first", "LFortyDays$Test;", true)
  | 1 => ("FortyDays$Two", "second", "LFortyDays$Test;", true)
  | _ => ("FortyDays$Two", "both", "Z", true)
def tyX9 : Nat → FieldType := fun k => match k with
  | 0 => .object "FortyDays$Test"
  | 1 => .object "FortyDays$Test"
  | _ => .boolean
abbrev wsX90 : List Cond := u_ws RX9 TX9 3
theorem nmX9 : ∀ a, a < 3 → ∀ b, b < 3 → a ≠ b → (TX9 a).2.1 ≠ (TX9 b).2.1 := by decide +kernel
theorem tyX9_ok : ∀ k, k < 3 → parseFieldDescriptor (TX9 k).2.2.1 = some (tyX9 k) := by decide +kernel
abbrev cX9_init : ByteArray := prog_18_method_1_code
def yX9_init : MethodName := ⟨RX9, "<init>", "(LFortyDays$Test;LFortyDays$Test;Z)V"⟩
def dkwX9_init_0 : List UInt8 := [42, 183, 0, 1, 42, 43, 181, 0, 7, 42, 44, 181, 0, 13, 42, 29, 181, 0, 16, 177]
abbrev dktX9_init_0 : List UInt8 := dkwX9_init_0 ++ []
theorem dksX9_init_0 : cX9_init.data.toList.drop 0 = dktX9_init_0 := by decide +kernel
theorem dX9_init_0 : decode cX9_init 0 = .ok (.aload_n 0, 1) := dk_42 (dk_at dksX9_init_0 0 rfl rfl)
theorem dX9_init_1 : decode cX9_init 1 = .ok (.invokespecial 1, 3) := dk_183 0 1 (dk_at dksX9_init_0 1 rfl rfl)
theorem dX9_init_4 : decode cX9_init 4 = .ok (.aload_n 0, 1) := dk_42 (dk_at dksX9_init_0 4 rfl rfl)
theorem dX9_init_5 : decode cX9_init 5 = .ok (.aload_n 1, 1) := dk_43 (dk_at dksX9_init_0 5 rfl rfl)
theorem dX9_init_6 : decode cX9_init 6 = .ok (.putfield 7, 3) := dk_181 0 7 (dk_at dksX9_init_0 6 rfl rfl)
theorem dX9_init_9 : decode cX9_init 9 = .ok (.aload_n 0, 1) := dk_42 (dk_at dksX9_init_0 9 rfl rfl)
theorem dX9_init_10 : decode cX9_init 10 = .ok (.aload_n 2, 1) := dk_44 (dk_at dksX9_init_0 10 rfl rfl)
theorem dX9_init_11 : decode cX9_init 11 = .ok (.putfield 13, 3) := dk_181 0 13 (dk_at dksX9_init_0 11 rfl rfl)
theorem dX9_init_14 : decode cX9_init 14 = .ok (.aload_n 0, 1) := dk_42 (dk_at dksX9_init_0 14 rfl rfl)
theorem dX9_init_15 : decode cX9_init 15 = .ok (.iload_n 3, 1) := dk_29 (dk_at dksX9_init_0 15 rfl rfl)
theorem dX9_init_16 : decode cX9_init 16 = .ok (.putfield 16, 3) := dk_181 0 16 (dk_at dksX9_init_0 16 rfl rfl)
theorem dX9_init_19 : decode cX9_init 19 = .ok (.return_, 1) := dk_177 (dk_at dksX9_init_0 19 rfl rfl)
abbrev cX9_holds : ByteArray := prog_18_method_2_code
def yX9_holds : MethodName := ⟨RX9, "holds", "(III)Z"⟩
def dkwX9_holds_3 : List UInt8 := [185, 0, 20, 4, 0, 153, 0, 7, 4, 167, 0, 4, 3, 172]
abbrev dktX9_holds_3 : List UInt8 := dkwX9_holds_3 ++ []
def dkwX9_holds_2 : List UInt8 := [180, 0, 7, 27, 28, 29, 185, 0, 20, 4, 0, 154, 0, 18, 42, 180, 0, 13, 27, 28, 29]
abbrev dktX9_holds_2 : List UInt8 := dkwX9_holds_2 ++ dktX9_holds_3
def dkwX9_holds_1 : List UInt8 := [180, 0, 13, 27, 28, 29, 185, 0, 20, 4, 0, 153, 0, 7, 4, 167, 0, 42, 3, 167, 0, 38, 42]
abbrev dktX9_holds_1 : List UInt8 := dkwX9_holds_1 ++ dktX9_holds_2
def dkwX9_holds_0 : List UInt8 := [42, 180, 0, 16, 153, 0, 41, 42, 180, 0, 7, 27, 28, 29, 185, 0, 20, 4, 0, 153, 0, 22, 42]
abbrev dktX9_holds_0 : List UInt8 := dkwX9_holds_0 ++ dktX9_holds_1
theorem dksX9_holds_0 : cX9_holds.data.toList.drop 0 = dktX9_holds_0 := by decide +kernel
theorem dksX9_holds_1 : cX9_holds.data.toList.drop 23 = dktX9_holds_1 := dk_seg dksX9_holds_0 23 rfl rfl
theorem dksX9_holds_2 : cX9_holds.data.toList.drop 46 = dktX9_holds_2 := dk_seg dksX9_holds_1 23 rfl rfl
theorem dksX9_holds_3 : cX9_holds.data.toList.drop 67 = dktX9_holds_3 := dk_seg dksX9_holds_2 21 rfl rfl
theorem dX9_holds_0 : decode cX9_holds 0 = .ok (.aload_n 0, 1) := dk_42 (dk_at dksX9_holds_0 0 rfl rfl)
theorem dX9_holds_1 : decode cX9_holds 1 = .ok (.getfield 16, 3) := dk_180 0 16 (dk_at dksX9_holds_0 1 rfl rfl)
theorem dX9_holds_4 : decode cX9_holds 4 = .ok (.ifCond .eq 41, 3) := dk_153 0 41 (dk_at dksX9_holds_0 4 rfl rfl)
theorem dX9_holds_7 : decode cX9_holds 7 = .ok (.aload_n 0, 1) := dk_42 (dk_at dksX9_holds_0 7 rfl rfl)
theorem dX9_holds_8 : decode cX9_holds 8 = .ok (.getfield 7, 3) := dk_180 0 7 (dk_at dksX9_holds_0 8 rfl rfl)
theorem dX9_holds_11 : decode cX9_holds 11 = .ok (.iload_n 1, 1) := dk_27 (dk_at dksX9_holds_0 11 rfl rfl)
theorem dX9_holds_12 : decode cX9_holds 12 = .ok (.iload_n 2, 1) := dk_28 (dk_at dksX9_holds_0 12 rfl rfl)
theorem dX9_holds_13 : decode cX9_holds 13 = .ok (.iload_n 3, 1) := dk_29 (dk_at dksX9_holds_0 13 rfl rfl)
theorem dX9_holds_14 : decode cX9_holds 14 = .ok (.invokeinterface 20 4, 5) := by decide +kernel
theorem dX9_holds_19 : decode cX9_holds 19 = .ok (.ifCond .eq 22, 3) := dk_153 0 22 (dk_at dksX9_holds_0 19 rfl rfl)
theorem dX9_holds_22 : decode cX9_holds 22 = .ok (.aload_n 0, 1) := dk_42 (dk_at dksX9_holds_0 22 rfl rfl)
theorem dX9_holds_23 : decode cX9_holds 23 = .ok (.getfield 13, 3) := dk_180 0 13 (dk_at dksX9_holds_1 0 rfl rfl)
theorem dX9_holds_26 : decode cX9_holds 26 = .ok (.iload_n 1, 1) := dk_27 (dk_at dksX9_holds_1 3 rfl rfl)
theorem dX9_holds_27 : decode cX9_holds 27 = .ok (.iload_n 2, 1) := dk_28 (dk_at dksX9_holds_1 4 rfl rfl)
theorem dX9_holds_28 : decode cX9_holds 28 = .ok (.iload_n 3, 1) := dk_29 (dk_at dksX9_holds_1 5 rfl rfl)
theorem dX9_holds_29 : decode cX9_holds 29 = .ok (.invokeinterface 20 4, 5) := by decide +kernel
theorem dX9_holds_34 : decode cX9_holds 34 = .ok (.ifCond .eq 7, 3) := dk_153 0 7 (dk_at dksX9_holds_1 11 rfl rfl)
theorem dX9_holds_37 : decode cX9_holds 37 = .ok (.iconst 1, 1) := dk_4 (dk_at dksX9_holds_1 14 rfl rfl)
theorem dX9_holds_38 : decode cX9_holds 38 = .ok (.goto 42, 3) := dk_167 0 42 (dk_at dksX9_holds_1 15 rfl rfl)
theorem dX9_holds_41 : decode cX9_holds 41 = .ok (.iconst 0, 1) := dk_3 (dk_at dksX9_holds_1 18 rfl rfl)
theorem dX9_holds_42 : decode cX9_holds 42 = .ok (.goto 38, 3) := dk_167 0 38 (dk_at dksX9_holds_1 19 rfl rfl)
theorem dX9_holds_45 : decode cX9_holds 45 = .ok (.aload_n 0, 1) := dk_42 (dk_at dksX9_holds_1 22 rfl rfl)
theorem dX9_holds_46 : decode cX9_holds 46 = .ok (.getfield 7, 3) := dk_180 0 7 (dk_at dksX9_holds_2 0 rfl rfl)
theorem dX9_holds_49 : decode cX9_holds 49 = .ok (.iload_n 1, 1) := dk_27 (dk_at dksX9_holds_2 3 rfl rfl)
theorem dX9_holds_50 : decode cX9_holds 50 = .ok (.iload_n 2, 1) := dk_28 (dk_at dksX9_holds_2 4 rfl rfl)
theorem dX9_holds_51 : decode cX9_holds 51 = .ok (.iload_n 3, 1) := dk_29 (dk_at dksX9_holds_2 5 rfl rfl)
theorem dX9_holds_52 : decode cX9_holds 52 = .ok (.invokeinterface 20 4, 5) := by decide +kernel
theorem dX9_holds_57 : decode cX9_holds 57 = .ok (.ifCond .ne 18, 3) := dk_154 0 18 (dk_at dksX9_holds_2 11 rfl rfl)
theorem dX9_holds_60 : decode cX9_holds 60 = .ok (.aload_n 0, 1) := dk_42 (dk_at dksX9_holds_2 14 rfl rfl)
theorem dX9_holds_61 : decode cX9_holds 61 = .ok (.getfield 13, 3) := dk_180 0 13 (dk_at dksX9_holds_2 15 rfl rfl)
theorem dX9_holds_64 : decode cX9_holds 64 = .ok (.iload_n 1, 1) := dk_27 (dk_at dksX9_holds_2 18 rfl rfl)
theorem dX9_holds_65 : decode cX9_holds 65 = .ok (.iload_n 2, 1) := dk_28 (dk_at dksX9_holds_2 19 rfl rfl)
theorem dX9_holds_66 : decode cX9_holds 66 = .ok (.iload_n 3, 1) := dk_29 (dk_at dksX9_holds_2 20 rfl rfl)
theorem dX9_holds_67 : decode cX9_holds 67 = .ok (.invokeinterface 20 4, 5) := by decide +kernel
theorem dX9_holds_72 : decode cX9_holds 72 = .ok (.ifCond .eq 7, 3) := dk_153 0 7 (dk_at dksX9_holds_3 5 rfl rfl)
theorem dX9_holds_75 : decode cX9_holds 75 = .ok (.iconst 1, 1) := dk_4 (dk_at dksX9_holds_3 8 rfl rfl)
theorem dX9_holds_76 : decode cX9_holds 76 = .ok (.goto 4, 3) := dk_167 0 4 (dk_at dksX9_holds_3 9 rfl rfl)
theorem dX9_holds_79 : decode cX9_holds 79 = .ok (.iconst 0, 1) := dk_3 (dk_at dksX9_holds_3 12 rfl rfl)
theorem dX9_holds_80 : decode cX9_holds 80 = .ok (.ireturn, 1) := dk_172 (dk_at dksX9_holds_3 13 rfl rfl)
theorem q102 : (Jvm.Cond.initialized "FortyDays$Two") ∈ lw_all := lw_g (lw_at lw_m1 15 rfl) rfl
theorem q510 : (Jvm.Cond.instantiable "FortyDays$Two" (3 : Nat)) ∈ lw_all := lw_g (lw_at lw_m2 183 rfl) rfl
theorem q512 : (Jvm.Cond.instanceMethod ({ cls := "FortyDays$Two", name := "<init>", desc := "(LFortyDays$Test;LFortyDays$Test;Z)V" } : Jvm.MethodName)) ∈ lw_all := lw_g (lw_at lw_m2 185 rfl) rfl
theorem q513 : (Jvm.Cond.code ({ cls := "FortyDays$Two", name := "<init>", desc := "(LFortyDays$Test;LFortyDays$Test;Z)V" } : Jvm.MethodName) prog_18_method_1_code (4 : Nat) (Option.none : Option Jvm.ClassFile.FieldType)) ∈ lw_all := lw_g (lw_at lw_m2 186 rfl) rfl
theorem q514 : (Jvm.Cond.methodLink "FortyDays$Two" (1 : Nat) ({ cls := "java/lang/Object", name := "<init>", desc := "()V" } : Jvm.MethodName)) ∈ lw_all := lw_g (lw_at lw_m2 187 rfl) rfl
theorem q515 : (Jvm.Cond.fieldLink "FortyDays$Two" (7 : Nat) "FortyDays$Two" "first" "LFortyDays$Test;") ∈ lw_all := lw_g (lw_at lw_m2 188 rfl) rfl
theorem q516 : (Jvm.Cond.fieldLink "FortyDays$Two" (13 : Nat) "FortyDays$Two" "second" "LFortyDays$Test;") ∈ lw_all := lw_g (lw_at lw_m2 189 rfl) rfl
theorem q517 : (Jvm.Cond.fieldLink "FortyDays$Two" (16 : Nat) "FortyDays$Two" "both" "Z") ∈ lw_all := lw_g (lw_at lw_m2 190 rfl) rfl
theorem q518 : (Jvm.Cond.laysFinal "FortyDays$Two" "FortyDays$Two" "first" "LFortyDays$Test;") ∈ lw_all := lw_g (lw_at lw_m2 191 rfl) rfl
theorem q519 : (Jvm.Cond.soleField "FortyDays$Two" "first") ∈ lw_all := lw_g (lw_at lw_m2 192 rfl) rfl
theorem q520 : (Jvm.Cond.laysFinal "FortyDays$Two" "FortyDays$Two" "second" "LFortyDays$Test;") ∈ lw_all := lw_g (lw_at lw_m2 193 rfl) rfl
theorem q521 : (Jvm.Cond.soleField "FortyDays$Two" "second") ∈ lw_all := lw_g (lw_at lw_m2 194 rfl) rfl
theorem q522 : (Jvm.Cond.laysFinal "FortyDays$Two" "FortyDays$Two" "both" "Z") ∈ lw_all := lw_g (lw_at lw_m2 195 rfl) rfl
theorem q523 : (Jvm.Cond.soleField "FortyDays$Two" "both") ∈ lw_all := lw_g (lw_at lw_m2 196 rfl) rfl
theorem q524 : (Jvm.Cond.superclass "FortyDays$Two" "java/lang/Object") ∈ lw_all := lw_g (lw_at lw_m2 197 rfl) rfl
theorem q573 : (Jvm.Cond.selects "FortyDays$Two" ({ cls := "java/lang/Object", name := "getClass", desc := "()Ljava/lang/Class;" } : Jvm.MethodName) ({ cls := "java/lang/Object", name := "getClass", desc := "()Ljava/lang/Class;" } : Jvm.MethodName)) ∈ lw_all := lw_g (lw_at lw_m3 6 rfl) rfl
theorem q652 : (Jvm.Cond.castable "FortyDays$Two" "FortyDays$Test") ∈ lw_tbl := lw_at lw_m3 85 rfl
theorem q653 : (Jvm.Cond.selects "FortyDays$Two" ({ cls := "FortyDays$Test", name := "holds", desc := "(III)Z" } : Jvm.MethodName) ({ cls := "FortyDays$Two", name := "holds", desc := "(III)Z" } : Jvm.MethodName)) ∈ lw_all := lw_g (lw_at lw_m3 86 rfl) rfl
theorem q654 : (Jvm.Cond.unhidden "FortyDays$Two" "holds" "(III)Z") ∈ lw_tbl := lw_at lw_m3 87 rfl
theorem q655 : (Jvm.Cond.instanceMethod ({ cls := "FortyDays$Two", name := "holds", desc := "(III)Z" } : Jvm.MethodName)) ∈ lw_all := lw_g (lw_at lw_m3 88 rfl) rfl
theorem q656 : (Jvm.Cond.publicMethod ({ cls := "FortyDays$Two", name := "holds", desc := "(III)Z" } : Jvm.MethodName)) ∈ lw_tbl := lw_at lw_m3 89 rfl
theorem q657 : (Jvm.Cond.code ({ cls := "FortyDays$Two", name := "holds", desc := "(III)Z" } : Jvm.MethodName) prog_18_method_2_code (4 : Nat) (Option.some Jvm.ClassFile.FieldType.boolean)) ∈ lw_all := lw_g (lw_at lw_m3 90 rfl) rfl
theorem q658 : (Jvm.Cond.interfaceEntry "FortyDays$Two" (20 : Nat)) ∈ lw_tbl := lw_at lw_m3 91 rfl
theorem q659 : (Jvm.Cond.methodLink "FortyDays$Two" (20 : Nat) ({ cls := "FortyDays$Test", name := "holds", desc := "(III)Z" } : Jvm.MethodName)) ∈ lw_all := lw_g (lw_at lw_m3 92 rfl) rfl
theorem q1774 : (Jvm.Cond.castable "FortyDays$Two" "java/lang/Object") ∈ lw_tbl := lw_at lw_m8 7 rfl
theorem in_X9 : ∀ w ∈ wsX90, w ∈ lw_all := lw_in wsX90 [518, 520, 522] (by decide +kernel) (by decide +kernel)
