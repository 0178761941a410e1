/-! TrunkLitters -/
set_option maxRecDepth 100000
def RX0 : String := "TrunkLitters"
def TX0 : u_T := fun k => match k with
  | 0 => ("TrunkLitters", "tape", "[B", true)
  | 1 => ("TrunkLitters", "taped", "I", false)
  | 2 => ("TrunkLitters", "faultKind", "I", false)
  | 3 => ("TrunkLitters", "faultPlace", "I", false)
  | 4 => ("TrunkLitters", "book", "LTrunkLitters$Book;", false)
  | 5 => ("TrunkLitters", "now", "LTrunkLitters$House;", true)
  | 6 => ("TrunkLitters", "spare", "LTrunkLitters$House;", true)
  | 7 => ("TrunkLitters", "tried", "LTrunkLitters$House;", true)
  | 8 => ("TrunkLitters", "time", "I", false)
  | 9 => ("TrunkLitters", "were", "[LTrunkLitters$House;", true)
  | 10 => ("TrunkLitters", "acts", "I", false)
  | 11 => ("TrunkLitters", "undone", "I", false)
  | 12 => ("TrunkLitters", "lies", "[I", true)
  | 13 => ("TrunkLitters", "row", "[I", true)
  | 14 => ("TrunkLitters", "free", "[I", true)
  | 15 => ("TrunkLitters", "lain", "I", false)
  | 16 => ("TrunkLitters", "fewest", "I", false)
  | 17 => ("TrunkLitters", "ones", "[[I", true)
  | 18 => ("TrunkLitters", "others", "[[I", true)
  | 19 => ("TrunkLitters", "mayOne", "I", false)
  | 20 => ("TrunkLitters", "mayOther", "I", false)
  | 21 => ("TrunkLitters", "tales", "Ljava/util/ArrayList;", true)
  | 22 => ("TrunkLitters", "isFit", "[Z", true)
  | 23 => ("TrunkLitters", "tally", "[I", true)
  | 24 => ("TrunkLitters", "boxes", "[LTrunkLitters$House;", true)
  | _ => ("TrunkLitters", "isThere", "[Z", true)
def tyX0 : Nat → FieldType := fun k => match k with
  | 0 => .array .byte
  | 1 => .int
  | 2 => .int
  | 3 => .int
  | 4 => .object "TrunkLitters$Book"
  | 5 => .object "TrunkLitters$House"
  | 6 => .object "TrunkLitters$House"
  | 7 => .object "TrunkLitters$House"
  | 8 => .int
  | 9 => .array (.object "TrunkLitters$House")
  | 10 => .int
  | 11 => .int
  | 12 => .array .int
  | 13 => .array .int
  | 14 => .array .int
  | 15 => .int
  | 16 => .int
  | 17 => .array (.array .int)
  | 18 => .array (.array .int)
  | 19 => .int
  | 20 => .int
  | 21 => .object "java/util/ArrayList"
  | 22 => .array .boolean
  | 23 => .array .int
  | 24 => .array (.object "TrunkLitters$House")
  | _ => .array .boolean
abbrev wsX00 : List Cond := u_ws RX0 TX0 26
set_option maxRecDepth 100000 in
theorem nmX0 : ∀ a, a < 26 → ∀ b, b < 26 → a ≠ b → (TX0 a).2.1 ≠ (TX0 b).2.1 := by decide +kernel
set_option maxRecDepth 100000 in
theorem tyX0_ok : ∀ k, k < 26 → parseFieldDescriptor (TX0 k).2.2.1 = some (tyX0 k) := by decide +kernel
abbrev cX0_init : ByteArray := prog_1_method_4_code
def yX0_init : MethodName := ⟨RX0, "<init>", "()V"⟩
def dkwX0_init_9 : List UInt8 := [132, 1, 1, 167, 255, 235, 177]
abbrev dktX0_init_9 : List UInt8 := dkwX0_init_9 ++ []
def dkwX0_init_8 : List UInt8 := [167, 255, 234, 3, 60, 27, 6, 162, 0, 22, 42, 180, 0, 105, 27, 187, 0, 52, 89, 183, 0, 54, 83]
abbrev dktX0_init_8 : List UInt8 := dkwX0_init_8 ++ dktX0_init_9
def dkwX0_init_7 : List UInt8 := [27, 16, 40, 162, 0, 22, 42, 180, 0, 69, 27, 187, 0, 52, 89, 183, 0, 54, 83, 132, 1, 1]
abbrev dktX0_init_7 : List UInt8 := dkwX0_init_7 ++ dktX0_init_8
def dkwX0_init_6 : List UInt8 := [16, 7, 188, 10, 181, 0, 102, 42, 6, 189, 0, 52, 181, 0, 105, 42, 6, 188, 4, 181, 0, 108, 3, 60]
abbrev dktX0_init_6 : List UInt8 := dkwX0_init_6 ++ dktX0_init_7
def dkwX0_init_5 : List UInt8 := [181, 0, 88, 42, 187, 0, 4, 89, 5, 183, 0, 91, 181, 0, 94, 42, 16, 64, 188, 4, 181, 0, 98, 42]
abbrev dktX0_init_5 : List UInt8 := dkwX0_init_5 ++ dktX0_init_6
def dkwX0_init_4 : List UInt8 := [42, 7, 188, 10, 181, 0, 80, 42, 7, 7, 197, 0, 83, 2, 181, 0, 85, 42, 7, 7, 197, 0, 83, 2]
abbrev dktX0_init_4 : List UInt8 := dkwX0_init_4 ++ dktX0_init_5
def dkwX0_init_3 : List UInt8 := [16, 40, 189, 0, 52, 181, 0, 69, 42, 16, 8, 188, 10, 181, 0, 73, 42, 16, 8, 188, 10, 181, 0, 77]
abbrev dktX0_init_3 : List UInt8 := dkwX0_init_3 ++ dktX0_init_4
def dkwX0_init_2 : List UInt8 := [42, 187, 0, 52, 89, 183, 0, 54, 181, 0, 63, 42, 187, 0, 52, 89, 183, 0, 54, 181, 0, 66, 42]
abbrev dktX0_init_2 : List UInt8 := dkwX0_init_2 ++ dktX0_init_3
def dkwX0_init_1 : List UInt8 := [183, 0, 47, 181, 0, 48, 42, 187, 0, 52, 89, 183, 0, 54, 42, 180, 0, 48, 182, 0, 55, 181, 0, 59]
abbrev dktX0_init_1 : List UInt8 := dkwX0_init_1 ++ dktX0_init_2
def dkwX0_init_0 : List UInt8 := [42, 183, 0, 31, 42, 17, 6, 64, 188, 8, 181, 0, 37, 42, 2, 181, 0, 41, 42, 187, 0, 45, 89]
abbrev dktX0_init_0 : List UInt8 := dkwX0_init_0 ++ dktX0_init_1
theorem dksX0_init_0 : cX0_init.data.toList.drop 0 = dktX0_init_0 := by decide +kernel
theorem dksX0_init_1 : cX0_init.data.toList.drop 23 = dktX0_init_1 := dk_seg dksX0_init_0 23 rfl rfl
theorem dksX0_init_2 : cX0_init.data.toList.drop 47 = dktX0_init_2 := dk_seg dksX0_init_1 24 rfl rfl
theorem dksX0_init_3 : cX0_init.data.toList.drop 70 = dktX0_init_3 := dk_seg dksX0_init_2 23 rfl rfl
theorem dksX0_init_4 : cX0_init.data.toList.drop 94 = dktX0_init_4 := dk_seg dksX0_init_3 24 rfl rfl
theorem dksX0_init_5 : cX0_init.data.toList.drop 118 = dktX0_init_5 := dk_seg dksX0_init_4 24 rfl rfl
theorem dksX0_init_6 : cX0_init.data.toList.drop 142 = dktX0_init_6 := dk_seg dksX0_init_5 24 rfl rfl
theorem dksX0_init_7 : cX0_init.data.toList.drop 166 = dktX0_init_7 := dk_seg dksX0_init_6 24 rfl rfl
theorem dksX0_init_8 : cX0_init.data.toList.drop 188 = dktX0_init_8 := dk_seg dksX0_init_7 22 rfl rfl
theorem dksX0_init_9 : cX0_init.data.toList.drop 211 = dktX0_init_9 := dk_seg dksX0_init_8 23 rfl rfl
theorem dX0_init_0 : decode cX0_init 0 = .ok (.aload_n 0, 1) := dk_42 (dk_at dksX0_init_0 0 rfl rfl)
theorem dX0_init_1 : decode cX0_init 1 = .ok (.invokespecial 31, 3) := dk_183 0 31 (dk_at dksX0_init_0 1 rfl rfl)
theorem dX0_init_4 : decode cX0_init 4 = .ok (.aload_n 0, 1) := dk_42 (dk_at dksX0_init_0 4 rfl rfl)
theorem dX0_init_5 : decode cX0_init 5 = .ok (.sipush 1600, 3) := dk_17 6 64 (dk_at dksX0_init_0 5 rfl rfl)
theorem dX0_init_8 : decode cX0_init 8 = .ok (.newarray .byte, 2) := dk_188_8 (dk_at dksX0_init_0 8 rfl rfl)
theorem dX0_init_10 : decode cX0_init 10 = .ok (.putfield 37, 3) := dk_181 0 37 (dk_at dksX0_init_0 10 rfl rfl)
theorem dX0_init_13 : decode cX0_init 13 = .ok (.aload_n 0, 1) := dk_42 (dk_at dksX0_init_0 13 rfl rfl)
theorem dX0_init_14 : decode cX0_init 14 = .ok (.iconst (-1), 1) := dk_2 (dk_at dksX0_init_0 14 rfl rfl)
theorem dX0_init_15 : decode cX0_init 15 = .ok (.putfield 41, 3) := dk_181 0 41 (dk_at dksX0_init_0 15 rfl rfl)
theorem dX0_init_18 : decode cX0_init 18 = .ok (.aload_n 0, 1) := dk_42 (dk_at dksX0_init_0 18 rfl rfl)
theorem dX0_init_19 : decode cX0_init 19 = .ok (.new 45, 3) := dk_187 0 45 (dk_at dksX0_init_0 19 rfl rfl)
theorem dX0_init_22 : decode cX0_init 22 = .ok (.dup, 1) := dk_89 (dk_at dksX0_init_0 22 rfl rfl)
theorem dX0_init_23 : decode cX0_init 23 = .ok (.invokespecial 47, 3) := dk_183 0 47 (dk_at dksX0_init_1 0 rfl rfl)
theorem dX0_init_26 : decode cX0_init 26 = .ok (.putfield 48, 3) := dk_181 0 48 (dk_at dksX0_init_1 3 rfl rfl)
theorem dX0_init_29 : decode cX0_init 29 = .ok (.aload_n 0, 1) := dk_42 (dk_at dksX0_init_1 6 rfl rfl)
theorem dX0_init_30 : decode cX0_init 30 = .ok (.new 52, 3) := dk_187 0 52 (dk_at dksX0_init_1 7 rfl rfl)
theorem dX0_init_33 : decode cX0_init 33 = .ok (.dup, 1) := dk_89 (dk_at dksX0_init_1 10 rfl rfl)
theorem dX0_init_34 : decode cX0_init 34 = .ok (.invokespecial 54, 3) := dk_183 0 54 (dk_at dksX0_init_1 11 rfl rfl)
theorem dX0_init_37 : decode cX0_init 37 = .ok (.aload_n 0, 1) := dk_42 (dk_at dksX0_init_1 14 rfl rfl)
theorem dX0_init_38 : decode cX0_init 38 = .ok (.getfield 48, 3) := dk_180 0 48 (dk_at dksX0_init_1 15 rfl rfl)
theorem dX0_init_41 : decode cX0_init 41 = .ok (.invokevirtual 55, 3) := dk_182 0 55 (dk_at dksX0_init_1 18 rfl rfl)
theorem dX0_init_44 : decode cX0_init 44 = .ok (.putfield 59, 3) := dk_181 0 59 (dk_at dksX0_init_1 21 rfl rfl)
theorem dX0_init_47 : decode cX0_init 47 = .ok (.aload_n 0, 1) := dk_42 (dk_at dksX0_init_2 0 rfl rfl)
theorem dX0_init_48 : decode cX0_init 48 = .ok (.new 52, 3) := dk_187 0 52 (dk_at dksX0_init_2 1 rfl rfl)
theorem dX0_init_51 : decode cX0_init 51 = .ok (.dup, 1) := dk_89 (dk_at dksX0_init_2 4 rfl rfl)
theorem dX0_init_52 : decode cX0_init 52 = .ok (.invokespecial 54, 3) := dk_183 0 54 (dk_at dksX0_init_2 5 rfl rfl)
theorem dX0_init_55 : decode cX0_init 55 = .ok (.putfield 63, 3) := dk_181 0 63 (dk_at dksX0_init_2 8 rfl rfl)
theorem dX0_init_58 : decode cX0_init 58 = .ok (.aload_n 0, 1) := dk_42 (dk_at dksX0_init_2 11 rfl rfl)
theorem dX0_init_59 : decode cX0_init 59 = .ok (.new 52, 3) := dk_187 0 52 (dk_at dksX0_init_2 12 rfl rfl)
theorem dX0_init_62 : decode cX0_init 62 = .ok (.dup, 1) := dk_89 (dk_at dksX0_init_2 15 rfl rfl)
theorem dX0_init_63 : decode cX0_init 63 = .ok (.invokespecial 54, 3) := dk_183 0 54 (dk_at dksX0_init_2 16 rfl rfl)
theorem dX0_init_66 : decode cX0_init 66 = .ok (.putfield 66, 3) := dk_181 0 66 (dk_at dksX0_init_2 19 rfl rfl)
theorem dX0_init_69 : decode cX0_init 69 = .ok (.aload_n 0, 1) := dk_42 (dk_at dksX0_init_2 22 rfl rfl)
theorem dX0_init_70 : decode cX0_init 70 = .ok (.bipush 40, 2) := dk_16 40 (dk_at dksX0_init_3 0 rfl rfl)
theorem dX0_init_72 : decode cX0_init 72 = .ok (.anewarray 52, 3) := dk_189 0 52 (dk_at dksX0_init_3 2 rfl rfl)
theorem dX0_init_75 : decode cX0_init 75 = .ok (.putfield 69, 3) := dk_181 0 69 (dk_at dksX0_init_3 5 rfl rfl)
theorem dX0_init_78 : decode cX0_init 78 = .ok (.aload_n 0, 1) := dk_42 (dk_at dksX0_init_3 8 rfl rfl)
theorem dX0_init_79 : decode cX0_init 79 = .ok (.bipush 8, 2) := dk_16 8 (dk_at dksX0_init_3 9 rfl rfl)
theorem dX0_init_81 : decode cX0_init 81 = .ok (.newarray .int, 2) := dk_188_10 (dk_at dksX0_init_3 11 rfl rfl)
theorem dX0_init_83 : decode cX0_init 83 = .ok (.putfield 73, 3) := dk_181 0 73 (dk_at dksX0_init_3 13 rfl rfl)
theorem dX0_init_86 : decode cX0_init 86 = .ok (.aload_n 0, 1) := dk_42 (dk_at dksX0_init_3 16 rfl rfl)
theorem dX0_init_87 : decode cX0_init 87 = .ok (.bipush 8, 2) := dk_16 8 (dk_at dksX0_init_3 17 rfl rfl)
theorem dX0_init_89 : decode cX0_init 89 = .ok (.newarray .int, 2) := dk_188_10 (dk_at dksX0_init_3 19 rfl rfl)
theorem dX0_init_91 : decode cX0_init 91 = .ok (.putfield 77, 3) := dk_181 0 77 (dk_at dksX0_init_3 21 rfl rfl)
theorem dX0_init_94 : decode cX0_init 94 = .ok (.aload_n 0, 1) := dk_42 (dk_at dksX0_init_4 0 rfl rfl)
theorem dX0_init_95 : decode cX0_init 95 = .ok (.iconst 4, 1) := dk_7 (dk_at dksX0_init_4 1 rfl rfl)
theorem dX0_init_96 : decode cX0_init 96 = .ok (.newarray .int, 2) := dk_188_10 (dk_at dksX0_init_4 2 rfl rfl)
theorem dX0_init_98 : decode cX0_init 98 = .ok (.putfield 80, 3) := dk_181 0 80 (dk_at dksX0_init_4 4 rfl rfl)
theorem dX0_init_101 : decode cX0_init 101 = .ok (.aload_n 0, 1) := dk_42 (dk_at dksX0_init_4 7 rfl rfl)
theorem dX0_init_102 : decode cX0_init 102 = .ok (.iconst 4, 1) := dk_7 (dk_at dksX0_init_4 8 rfl rfl)
theorem dX0_init_103 : decode cX0_init 103 = .ok (.iconst 4, 1) := dk_7 (dk_at dksX0_init_4 9 rfl rfl)
theorem dX0_init_104 : decode cX0_init 104 = .ok (.multianewarray 83 2, 4) := by decide +kernel
theorem dX0_init_108 : decode cX0_init 108 = .ok (.putfield 85, 3) := dk_181 0 85 (dk_at dksX0_init_4 14 rfl rfl)
theorem dX0_init_111 : decode cX0_init 111 = .ok (.aload_n 0, 1) := dk_42 (dk_at dksX0_init_4 17 rfl rfl)
theorem dX0_init_112 : decode cX0_init 112 = .ok (.iconst 4, 1) := dk_7 (dk_at dksX0_init_4 18 rfl rfl)
theorem dX0_init_113 : decode cX0_init 113 = .ok (.iconst 4, 1) := dk_7 (dk_at dksX0_init_4 19 rfl rfl)
theorem dX0_init_114 : decode cX0_init 114 = .ok (.multianewarray 83 2, 4) := by decide +kernel
theorem dX0_init_118 : decode cX0_init 118 = .ok (.putfield 88, 3) := dk_181 0 88 (dk_at dksX0_init_5 0 rfl rfl)
theorem dX0_init_121 : decode cX0_init 121 = .ok (.aload_n 0, 1) := dk_42 (dk_at dksX0_init_5 3 rfl rfl)
theorem dX0_init_122 : decode cX0_init 122 = .ok (.new 4, 3) := dk_187 0 4 (dk_at dksX0_init_5 4 rfl rfl)
theorem dX0_init_125 : decode cX0_init 125 = .ok (.dup, 1) := dk_89 (dk_at dksX0_init_5 7 rfl rfl)
theorem dX0_init_126 : decode cX0_init 126 = .ok (.iconst 2, 1) := dk_5 (dk_at dksX0_init_5 8 rfl rfl)
theorem dX0_init_127 : decode cX0_init 127 = .ok (.invokespecial 91, 3) := dk_183 0 91 (dk_at dksX0_init_5 9 rfl rfl)
theorem dX0_init_130 : decode cX0_init 130 = .ok (.putfield 94, 3) := dk_181 0 94 (dk_at dksX0_init_5 12 rfl rfl)
theorem dX0_init_133 : decode cX0_init 133 = .ok (.aload_n 0, 1) := dk_42 (dk_at dksX0_init_5 15 rfl rfl)
theorem dX0_init_134 : decode cX0_init 134 = .ok (.bipush 64, 2) := dk_16 64 (dk_at dksX0_init_5 16 rfl rfl)
theorem dX0_init_136 : decode cX0_init 136 = .ok (.newarray .boolean, 2) := dk_188_4 (dk_at dksX0_init_5 18 rfl rfl)
theorem dX0_init_138 : decode cX0_init 138 = .ok (.putfield 98, 3) := dk_181 0 98 (dk_at dksX0_init_5 20 rfl rfl)
theorem dX0_init_141 : decode cX0_init 141 = .ok (.aload_n 0, 1) := dk_42 (dk_at dksX0_init_5 23 rfl rfl)
theorem dX0_init_142 : decode cX0_init 142 = .ok (.bipush 7, 2) := dk_16 7 (dk_at dksX0_init_6 0 rfl rfl)
theorem dX0_init_144 : decode cX0_init 144 = .ok (.newarray .int, 2) := dk_188_10 (dk_at dksX0_init_6 2 rfl rfl)
theorem dX0_init_146 : decode cX0_init 146 = .ok (.putfield 102, 3) := dk_181 0 102 (dk_at dksX0_init_6 4 rfl rfl)
theorem dX0_init_149 : decode cX0_init 149 = .ok (.aload_n 0, 1) := dk_42 (dk_at dksX0_init_6 7 rfl rfl)
theorem dX0_init_150 : decode cX0_init 150 = .ok (.iconst 3, 1) := dk_6 (dk_at dksX0_init_6 8 rfl rfl)
theorem dX0_init_151 : decode cX0_init 151 = .ok (.anewarray 52, 3) := dk_189 0 52 (dk_at dksX0_init_6 9 rfl rfl)
theorem dX0_init_154 : decode cX0_init 154 = .ok (.putfield 105, 3) := dk_181 0 105 (dk_at dksX0_init_6 12 rfl rfl)
theorem dX0_init_157 : decode cX0_init 157 = .ok (.aload_n 0, 1) := dk_42 (dk_at dksX0_init_6 15 rfl rfl)
theorem dX0_init_158 : decode cX0_init 158 = .ok (.iconst 3, 1) := dk_6 (dk_at dksX0_init_6 16 rfl rfl)
theorem dX0_init_159 : decode cX0_init 159 = .ok (.newarray .boolean, 2) := dk_188_4 (dk_at dksX0_init_6 17 rfl rfl)
theorem dX0_init_161 : decode cX0_init 161 = .ok (.putfield 108, 3) := dk_181 0 108 (dk_at dksX0_init_6 19 rfl rfl)
theorem dX0_init_164 : decode cX0_init 164 = .ok (.iconst 0, 1) := dk_3 (dk_at dksX0_init_6 22 rfl rfl)
theorem dX0_init_165 : decode cX0_init 165 = .ok (.istore_n 1, 1) := dk_60 (dk_at dksX0_init_6 23 rfl rfl)
theorem dX0_init_166 : decode cX0_init 166 = .ok (.iload_n 1, 1) := dk_27 (dk_at dksX0_init_7 0 rfl rfl)
theorem dX0_init_167 : decode cX0_init 167 = .ok (.bipush 40, 2) := dk_16 40 (dk_at dksX0_init_7 1 rfl rfl)
theorem dX0_init_169 : decode cX0_init 169 = .ok (.if_icmp .ge 22, 3) := dk_162 0 22 (dk_at dksX0_init_7 3 rfl rfl)
theorem dX0_init_172 : decode cX0_init 172 = .ok (.aload_n 0, 1) := dk_42 (dk_at dksX0_init_7 6 rfl rfl)
theorem dX0_init_173 : decode cX0_init 173 = .ok (.getfield 69, 3) := dk_180 0 69 (dk_at dksX0_init_7 7 rfl rfl)
theorem dX0_init_176 : decode cX0_init 176 = .ok (.iload_n 1, 1) := dk_27 (dk_at dksX0_init_7 10 rfl rfl)
theorem dX0_init_177 : decode cX0_init 177 = .ok (.new 52, 3) := dk_187 0 52 (dk_at dksX0_init_7 11 rfl rfl)
theorem dX0_init_180 : decode cX0_init 180 = .ok (.dup, 1) := dk_89 (dk_at dksX0_init_7 14 rfl rfl)
theorem dX0_init_181 : decode cX0_init 181 = .ok (.invokespecial 54, 3) := dk_183 0 54 (dk_at dksX0_init_7 15 rfl rfl)
theorem dX0_init_184 : decode cX0_init 184 = .ok (.aastore, 1) := dk_83 (dk_at dksX0_init_7 18 rfl rfl)
theorem dX0_init_185 : decode cX0_init 185 = .ok (.iinc 1 1, 3) := dk_132 1 1 (dk_at dksX0_init_7 19 rfl rfl)
theorem dX0_init_188 : decode cX0_init 188 = .ok (.goto (-22), 3) := dk_167 255 234 (dk_at dksX0_init_8 0 rfl rfl)
theorem dX0_init_191 : decode cX0_init 191 = .ok (.iconst 0, 1) := dk_3 (dk_at dksX0_init_8 3 rfl rfl)
theorem dX0_init_192 : decode cX0_init 192 = .ok (.istore_n 1, 1) := dk_60 (dk_at dksX0_init_8 4 rfl rfl)
theorem dX0_init_193 : decode cX0_init 193 = .ok (.iload_n 1, 1) := dk_27 (dk_at dksX0_init_8 5 rfl rfl)
theorem dX0_init_194 : decode cX0_init 194 = .ok (.iconst 3, 1) := dk_6 (dk_at dksX0_init_8 6 rfl rfl)
theorem dX0_init_195 : decode cX0_init 195 = .ok (.if_icmp .ge 22, 3) := dk_162 0 22 (dk_at dksX0_init_8 7 rfl rfl)
theorem dX0_init_198 : decode cX0_init 198 = .ok (.aload_n 0, 1) := dk_42 (dk_at dksX0_init_8 10 rfl rfl)
theorem dX0_init_199 : decode cX0_init 199 = .ok (.getfield 105, 3) := dk_180 0 105 (dk_at dksX0_init_8 11 rfl rfl)
theorem dX0_init_202 : decode cX0_init 202 = .ok (.iload_n 1, 1) := dk_27 (dk_at dksX0_init_8 14 rfl rfl)
theorem dX0_init_203 : decode cX0_init 203 = .ok (.new 52, 3) := dk_187 0 52 (dk_at dksX0_init_8 15 rfl rfl)
theorem dX0_init_206 : decode cX0_init 206 = .ok (.dup, 1) := dk_89 (dk_at dksX0_init_8 18 rfl rfl)
theorem dX0_init_207 : decode cX0_init 207 = .ok (.invokespecial 54, 3) := dk_183 0 54 (dk_at dksX0_init_8 19 rfl rfl)
theorem dX0_init_210 : decode cX0_init 210 = .ok (.aastore, 1) := dk_83 (dk_at dksX0_init_8 22 rfl rfl)
theorem dX0_init_211 : decode cX0_init 211 = .ok (.iinc 1 1, 3) := dk_132 1 1 (dk_at dksX0_init_9 0 rfl rfl)
theorem dX0_init_214 : decode cX0_init 214 = .ok (.goto (-21), 3) := dk_167 255 235 (dk_at dksX0_init_9 3 rfl rfl)
theorem dX0_init_217 : decode cX0_init 217 = .ok (.return_, 1) := dk_177 (dk_at dksX0_init_9 6 rfl rfl)
abbrev cX0_feed : ByteArray := prog_1_method_5_code
def yX0_feed : MethodName := ⟨RX0, "feed", "(IIIII)I"⟩
def dkwX0_feed_5 : List UInt8 := [172]
abbrev dktX0_feed_5 : List UInt8 := dkwX0_feed_5 ++ []
def dkwX0_feed_4 : List UInt8 := [180, 0, 111, 4, 96, 181, 0, 111, 132, 11, 248, 167, 255, 223, 132, 9, 1, 167, 255, 199, 42, 180, 0, 111]
abbrev dktX0_feed_4 : List UInt8 := dkwX0_feed_4 ++ dktX0_feed_5
def dkwX0_feed_3 : List UInt8 := [21, 11, 155, 0, 34, 42, 180, 0, 37, 42, 180, 0, 111, 21, 10, 21, 11, 122, 145, 84, 42, 89]
abbrev dktX0_feed_3 : List UInt8 := dkwX0_feed_3 ++ dktX0_feed_4
def dkwX0_feed_2 : List UInt8 := [190, 54, 8, 3, 54, 9, 21, 9, 21, 8, 162, 0, 56, 25, 7, 21, 9, 46, 54, 10, 16, 24, 54, 11]
abbrev dktX0_feed_2 : List UInt8 := dkwX0_feed_2 ++ dktX0_feed_3
def dkwX0_feed_1 : List UInt8 := [28, 79, 89, 5, 29, 79, 89, 6, 21, 4, 79, 89, 7, 21, 5, 79, 58, 6, 25, 6, 58, 7, 25, 7]
abbrev dktX0_feed_1 : List UInt8 := dkwX0_feed_1 ++ dktX0_feed_2
def dkwX0_feed_0 : List UInt8 := [42, 180, 0, 111, 16, 20, 96, 17, 6, 64, 164, 0, 5, 2, 172, 8, 188, 10, 89, 3, 27, 79, 89, 4]
abbrev dktX0_feed_0 : List UInt8 := dkwX0_feed_0 ++ dktX0_feed_1
theorem dksX0_feed_0 : cX0_feed.data.toList.drop 0 = dktX0_feed_0 := by decide +kernel
theorem dksX0_feed_1 : cX0_feed.data.toList.drop 24 = dktX0_feed_1 := dk_seg dksX0_feed_0 24 rfl rfl
theorem dksX0_feed_2 : cX0_feed.data.toList.drop 48 = dktX0_feed_2 := dk_seg dksX0_feed_1 24 rfl rfl
theorem dksX0_feed_3 : cX0_feed.data.toList.drop 72 = dktX0_feed_3 := dk_seg dksX0_feed_2 24 rfl rfl
theorem dksX0_feed_4 : cX0_feed.data.toList.drop 94 = dktX0_feed_4 := dk_seg dksX0_feed_3 22 rfl rfl
theorem dksX0_feed_5 : cX0_feed.data.toList.drop 118 = dktX0_feed_5 := dk_seg dksX0_feed_4 24 rfl rfl
theorem dX0_feed_0 : decode cX0_feed 0 = .ok (.aload_n 0, 1) := dk_42 (dk_at dksX0_feed_0 0 rfl rfl)
theorem dX0_feed_1 : decode cX0_feed 1 = .ok (.getfield 111, 3) := dk_180 0 111 (dk_at dksX0_feed_0 1 rfl rfl)
theorem dX0_feed_4 : decode cX0_feed 4 = .ok (.bipush 20, 2) := dk_16 20 (dk_at dksX0_feed_0 4 rfl rfl)
theorem dX0_feed_6 : decode cX0_feed 6 = .ok (.iadd, 1) := dk_96 (dk_at dksX0_feed_0 6 rfl rfl)
theorem dX0_feed_7 : decode cX0_feed 7 = .ok (.sipush 1600, 3) := dk_17 6 64 (dk_at dksX0_feed_0 7 rfl rfl)
theorem dX0_feed_10 : decode cX0_feed 10 = .ok (.if_icmp .le 5, 3) := dk_164 0 5 (dk_at dksX0_feed_0 10 rfl rfl)
theorem dX0_feed_13 : decode cX0_feed 13 = .ok (.iconst (-1), 1) := dk_2 (dk_at dksX0_feed_0 13 rfl rfl)
theorem dX0_feed_14 : decode cX0_feed 14 = .ok (.ireturn, 1) := dk_172 (dk_at dksX0_feed_0 14 rfl rfl)
theorem dX0_feed_15 : decode cX0_feed 15 = .ok (.iconst 5, 1) := dk_8 (dk_at dksX0_feed_0 15 rfl rfl)
theorem dX0_feed_16 : decode cX0_feed 16 = .ok (.newarray .int, 2) := dk_188_10 (dk_at dksX0_feed_0 16 rfl rfl)
theorem dX0_feed_18 : decode cX0_feed 18 = .ok (.dup, 1) := dk_89 (dk_at dksX0_feed_0 18 rfl rfl)
theorem dX0_feed_19 : decode cX0_feed 19 = .ok (.iconst 0, 1) := dk_3 (dk_at dksX0_feed_0 19 rfl rfl)
theorem dX0_feed_20 : decode cX0_feed 20 = .ok (.iload_n 1, 1) := dk_27 (dk_at dksX0_feed_0 20 rfl rfl)
theorem dX0_feed_21 : decode cX0_feed 21 = .ok (.iastore, 1) := dk_79 (dk_at dksX0_feed_0 21 rfl rfl)
theorem dX0_feed_22 : decode cX0_feed 22 = .ok (.dup, 1) := dk_89 (dk_at dksX0_feed_0 22 rfl rfl)
theorem dX0_feed_23 : decode cX0_feed 23 = .ok (.iconst 1, 1) := dk_4 (dk_at dksX0_feed_0 23 rfl rfl)
theorem dX0_feed_24 : decode cX0_feed 24 = .ok (.iload_n 2, 1) := dk_28 (dk_at dksX0_feed_1 0 rfl rfl)
theorem dX0_feed_25 : decode cX0_feed 25 = .ok (.iastore, 1) := dk_79 (dk_at dksX0_feed_1 1 rfl rfl)
theorem dX0_feed_26 : decode cX0_feed 26 = .ok (.dup, 1) := dk_89 (dk_at dksX0_feed_1 2 rfl rfl)
theorem dX0_feed_27 : decode cX0_feed 27 = .ok (.iconst 2, 1) := dk_5 (dk_at dksX0_feed_1 3 rfl rfl)
theorem dX0_feed_28 : decode cX0_feed 28 = .ok (.iload_n 3, 1) := dk_29 (dk_at dksX0_feed_1 4 rfl rfl)
theorem dX0_feed_29 : decode cX0_feed 29 = .ok (.iastore, 1) := dk_79 (dk_at dksX0_feed_1 5 rfl rfl)
theorem dX0_feed_30 : decode cX0_feed 30 = .ok (.dup, 1) := dk_89 (dk_at dksX0_feed_1 6 rfl rfl)
theorem dX0_feed_31 : decode cX0_feed 31 = .ok (.iconst 3, 1) := dk_6 (dk_at dksX0_feed_1 7 rfl rfl)
theorem dX0_feed_32 : decode cX0_feed 32 = .ok (.iload 4, 2) := dk_21 4 (dk_at dksX0_feed_1 8 rfl rfl)
theorem dX0_feed_34 : decode cX0_feed 34 = .ok (.iastore, 1) := dk_79 (dk_at dksX0_feed_1 10 rfl rfl)
theorem dX0_feed_35 : decode cX0_feed 35 = .ok (.dup, 1) := dk_89 (dk_at dksX0_feed_1 11 rfl rfl)
theorem dX0_feed_36 : decode cX0_feed 36 = .ok (.iconst 4, 1) := dk_7 (dk_at dksX0_feed_1 12 rfl rfl)
theorem dX0_feed_37 : decode cX0_feed 37 = .ok (.iload 5, 2) := dk_21 5 (dk_at dksX0_feed_1 13 rfl rfl)
theorem dX0_feed_39 : decode cX0_feed 39 = .ok (.iastore, 1) := dk_79 (dk_at dksX0_feed_1 15 rfl rfl)
theorem dX0_feed_40 : decode cX0_feed 40 = .ok (.astore 6, 2) := dk_58 6 (dk_at dksX0_feed_1 16 rfl rfl)
theorem dX0_feed_42 : decode cX0_feed 42 = .ok (.aload 6, 2) := dk_25 6 (dk_at dksX0_feed_1 18 rfl rfl)
theorem dX0_feed_44 : decode cX0_feed 44 = .ok (.astore 7, 2) := dk_58 7 (dk_at dksX0_feed_1 20 rfl rfl)
theorem dX0_feed_46 : decode cX0_feed 46 = .ok (.aload 7, 2) := dk_25 7 (dk_at dksX0_feed_1 22 rfl rfl)
theorem dX0_feed_48 : decode cX0_feed 48 = .ok (.arraylength, 1) := dk_190 (dk_at dksX0_feed_2 0 rfl rfl)
theorem dX0_feed_49 : decode cX0_feed 49 = .ok (.istore 8, 2) := dk_54 8 (dk_at dksX0_feed_2 1 rfl rfl)
theorem dX0_feed_51 : decode cX0_feed 51 = .ok (.iconst 0, 1) := dk_3 (dk_at dksX0_feed_2 3 rfl rfl)
theorem dX0_feed_52 : decode cX0_feed 52 = .ok (.istore 9, 2) := dk_54 9 (dk_at dksX0_feed_2 4 rfl rfl)
theorem dX0_feed_54 : decode cX0_feed 54 = .ok (.iload 9, 2) := dk_21 9 (dk_at dksX0_feed_2 6 rfl rfl)
theorem dX0_feed_56 : decode cX0_feed 56 = .ok (.iload 8, 2) := dk_21 8 (dk_at dksX0_feed_2 8 rfl rfl)
theorem dX0_feed_58 : decode cX0_feed 58 = .ok (.if_icmp .ge 56, 3) := dk_162 0 56 (dk_at dksX0_feed_2 10 rfl rfl)
theorem dX0_feed_61 : decode cX0_feed 61 = .ok (.aload 7, 2) := dk_25 7 (dk_at dksX0_feed_2 13 rfl rfl)
theorem dX0_feed_63 : decode cX0_feed 63 = .ok (.iload 9, 2) := dk_21 9 (dk_at dksX0_feed_2 15 rfl rfl)
theorem dX0_feed_65 : decode cX0_feed 65 = .ok (.iaload, 1) := dk_46 (dk_at dksX0_feed_2 17 rfl rfl)
theorem dX0_feed_66 : decode cX0_feed 66 = .ok (.istore 10, 2) := dk_54 10 (dk_at dksX0_feed_2 18 rfl rfl)
theorem dX0_feed_68 : decode cX0_feed 68 = .ok (.bipush 24, 2) := dk_16 24 (dk_at dksX0_feed_2 20 rfl rfl)
theorem dX0_feed_70 : decode cX0_feed 70 = .ok (.istore 11, 2) := dk_54 11 (dk_at dksX0_feed_2 22 rfl rfl)
theorem dX0_feed_72 : decode cX0_feed 72 = .ok (.iload 11, 2) := dk_21 11 (dk_at dksX0_feed_3 0 rfl rfl)
theorem dX0_feed_74 : decode cX0_feed 74 = .ok (.ifCond .lt 34, 3) := dk_155 0 34 (dk_at dksX0_feed_3 2 rfl rfl)
theorem dX0_feed_77 : decode cX0_feed 77 = .ok (.aload_n 0, 1) := dk_42 (dk_at dksX0_feed_3 5 rfl rfl)
theorem dX0_feed_78 : decode cX0_feed 78 = .ok (.getfield 37, 3) := dk_180 0 37 (dk_at dksX0_feed_3 6 rfl rfl)
theorem dX0_feed_81 : decode cX0_feed 81 = .ok (.aload_n 0, 1) := dk_42 (dk_at dksX0_feed_3 9 rfl rfl)
theorem dX0_feed_82 : decode cX0_feed 82 = .ok (.getfield 111, 3) := dk_180 0 111 (dk_at dksX0_feed_3 10 rfl rfl)
theorem dX0_feed_85 : decode cX0_feed 85 = .ok (.iload 10, 2) := dk_21 10 (dk_at dksX0_feed_3 13 rfl rfl)
theorem dX0_feed_87 : decode cX0_feed 87 = .ok (.iload 11, 2) := dk_21 11 (dk_at dksX0_feed_3 15 rfl rfl)
theorem dX0_feed_89 : decode cX0_feed 89 = .ok (.ishr, 1) := dk_122 (dk_at dksX0_feed_3 17 rfl rfl)
theorem dX0_feed_90 : decode cX0_feed 90 = .ok (.i2b, 1) := dk_145 (dk_at dksX0_feed_3 18 rfl rfl)
theorem dX0_feed_91 : decode cX0_feed 91 = .ok (.bastore, 1) := dk_84 (dk_at dksX0_feed_3 19 rfl rfl)
theorem dX0_feed_92 : decode cX0_feed 92 = .ok (.aload_n 0, 1) := dk_42 (dk_at dksX0_feed_3 20 rfl rfl)
theorem dX0_feed_93 : decode cX0_feed 93 = .ok (.dup, 1) := dk_89 (dk_at dksX0_feed_3 21 rfl rfl)
theorem dX0_feed_94 : decode cX0_feed 94 = .ok (.getfield 111, 3) := dk_180 0 111 (dk_at dksX0_feed_4 0 rfl rfl)
theorem dX0_feed_97 : decode cX0_feed 97 = .ok (.iconst 1, 1) := dk_4 (dk_at dksX0_feed_4 3 rfl rfl)
theorem dX0_feed_98 : decode cX0_feed 98 = .ok (.iadd, 1) := dk_96 (dk_at dksX0_feed_4 4 rfl rfl)
theorem dX0_feed_99 : decode cX0_feed 99 = .ok (.putfield 111, 3) := dk_181 0 111 (dk_at dksX0_feed_4 5 rfl rfl)
theorem dX0_feed_102 : decode cX0_feed 102 = .ok (.iinc 11 (-8), 3) := dk_132 11 248 (dk_at dksX0_feed_4 8 rfl rfl)
theorem dX0_feed_105 : decode cX0_feed 105 = .ok (.goto (-33), 3) := dk_167 255 223 (dk_at dksX0_feed_4 11 rfl rfl)
theorem dX0_feed_108 : decode cX0_feed 108 = .ok (.iinc 9 1, 3) := dk_132 9 1 (dk_at dksX0_feed_4 14 rfl rfl)
theorem dX0_feed_111 : decode cX0_feed 111 = .ok (.goto (-57), 3) := dk_167 255 199 (dk_at dksX0_feed_4 17 rfl rfl)
theorem dX0_feed_114 : decode cX0_feed 114 = .ok (.aload_n 0, 1) := dk_42 (dk_at dksX0_feed_4 20 rfl rfl)
theorem dX0_feed_115 : decode cX0_feed 115 = .ok (.getfield 111, 3) := dk_180 0 111 (dk_at dksX0_feed_4 21 rfl rfl)
theorem dX0_feed_118 : decode cX0_feed 118 = .ok (.ireturn, 1) := dk_172 (dk_at dksX0_feed_5 0 rfl rfl)
abbrev cX0_end : ByteArray := prog_1_method_6_code
def yX0_end : MethodName := ⟨RX0, "end", "(I)I"⟩
def dkwX0_end_0 : List UInt8 := [27, 155, 0, 11, 27, 42, 180, 0, 111, 164, 0, 5, 2, 172, 42, 27, 181, 0, 111, 27, 172]
abbrev dktX0_end_0 : List UInt8 := dkwX0_end_0 ++ []
theorem dksX0_end_0 : cX0_end.data.toList.drop 0 = dktX0_end_0 := by decide +kernel
theorem dX0_end_0 : decode cX0_end 0 = .ok (.iload_n 1, 1) := dk_27 (dk_at dksX0_end_0 0 rfl rfl)
theorem dX0_end_1 : decode cX0_end 1 = .ok (.ifCond .lt 11, 3) := dk_155 0 11 (dk_at dksX0_end_0 1 rfl rfl)
theorem dX0_end_4 : decode cX0_end 4 = .ok (.iload_n 1, 1) := dk_27 (dk_at dksX0_end_0 4 rfl rfl)
theorem dX0_end_5 : decode cX0_end 5 = .ok (.aload_n 0, 1) := dk_42 (dk_at dksX0_end_0 5 rfl rfl)
theorem dX0_end_6 : decode cX0_end 6 = .ok (.getfield 111, 3) := dk_180 0 111 (dk_at dksX0_end_0 6 rfl rfl)
theorem dX0_end_9 : decode cX0_end 9 = .ok (.if_icmp .le 5, 3) := dk_164 0 5 (dk_at dksX0_end_0 9 rfl rfl)
theorem dX0_end_12 : decode cX0_end 12 = .ok (.iconst (-1), 1) := dk_2 (dk_at dksX0_end_0 12 rfl rfl)
theorem dX0_end_13 : decode cX0_end 13 = .ok (.ireturn, 1) := dk_172 (dk_at dksX0_end_0 13 rfl rfl)
theorem dX0_end_14 : decode cX0_end 14 = .ok (.aload_n 0, 1) := dk_42 (dk_at dksX0_end_0 14 rfl rfl)
theorem dX0_end_15 : decode cX0_end 15 = .ok (.iload_n 1, 1) := dk_27 (dk_at dksX0_end_0 15 rfl rfl)
theorem dX0_end_16 : decode cX0_end 16 = .ok (.putfield 111, 3) := dk_181 0 111 (dk_at dksX0_end_0 16 rfl rfl)
theorem dX0_end_19 : decode cX0_end 19 = .ok (.iload_n 1, 1) := dk_27 (dk_at dksX0_end_0 19 rfl rfl)
theorem dX0_end_20 : decode cX0_end 20 = .ok (.ireturn, 1) := dk_172 (dk_at dksX0_end_0 20 rfl rfl)
abbrev cX0_house : ByteArray := prog_1_method_7_code
def yX0_house : MethodName := ⟨RX0, "house", "()I"⟩
def dkwX0_house_5 : List UInt8 := [43, 199, 0, 16, 42, 180, 0, 48, 180, 0, 146, 182, 0, 3, 167, 0, 4, 2, 172]
abbrev dktX0_house_5 : List UInt8 := dkwX0_house_5 ++ []
def dkwX0_house_4 : List UInt8 := [181, 0, 140, 42, 43, 199, 0, 7, 2, 167, 0, 7, 43, 180, 0, 143, 181, 0, 41, 42, 3, 181, 0, 111]
abbrev dktX0_house_4 : List UInt8 := dkwX0_house_4 ++ dktX0_house_5
def dkwX0_house_3 : List UInt8 := [167, 255, 241, 167, 0, 6, 77, 44, 76, 42, 43, 199, 0, 7, 3, 167, 0, 7, 43, 180, 0, 137]
abbrev dktX0_house_3 : List UInt8 := dkwX0_house_3 ++ dktX0_house_4
def dkwX0_house_2 : List UInt8 := [180, 0, 94, 182, 0, 132, 3, 61, 28, 6, 162, 0, 16, 42, 180, 0, 108, 28, 3, 84, 132, 2, 1]
abbrev dktX0_house_2 : List UInt8 := dkwX0_house_2 ++ dktX0_house_3
def dkwX0_house_1 : List UInt8 := [180, 0, 48, 182, 0, 55, 87, 42, 3, 181, 0, 123, 42, 3, 181, 0, 126, 42, 3, 181, 0, 129, 42]
abbrev dktX0_house_1 : List UInt8 := dkwX0_house_1 ++ dktX0_house_2
def dkwX0_house_0 : List UInt8 := [1, 76, 42, 187, 0, 114, 89, 42, 183, 0, 116, 182, 0, 119, 181, 0, 48, 42, 180, 0, 59, 42]
abbrev dktX0_house_0 : List UInt8 := dkwX0_house_0 ++ dktX0_house_1
theorem dksX0_house_0 : cX0_house.data.toList.drop 0 = dktX0_house_0 := by decide +kernel
theorem dksX0_house_1 : cX0_house.data.toList.drop 22 = dktX0_house_1 := dk_seg dksX0_house_0 22 rfl rfl
theorem dksX0_house_2 : cX0_house.data.toList.drop 45 = dktX0_house_2 := dk_seg dksX0_house_1 23 rfl rfl
theorem dksX0_house_3 : cX0_house.data.toList.drop 68 = dktX0_house_3 := dk_seg dksX0_house_2 23 rfl rfl
theorem dksX0_house_4 : cX0_house.data.toList.drop 90 = dktX0_house_4 := dk_seg dksX0_house_3 22 rfl rfl
theorem dksX0_house_5 : cX0_house.data.toList.drop 114 = dktX0_house_5 := dk_seg dksX0_house_4 24 rfl rfl
theorem dX0_house_0 : decode cX0_house 0 = .ok (.aconst_null, 1) := dk_1 (dk_at dksX0_house_0 0 rfl rfl)
theorem dX0_house_1 : decode cX0_house 1 = .ok (.astore_n 1, 1) := dk_76 (dk_at dksX0_house_0 1 rfl rfl)
theorem dX0_house_2 : decode cX0_house 2 = .ok (.aload_n 0, 1) := dk_42 (dk_at dksX0_house_0 2 rfl rfl)
theorem dX0_house_3 : decode cX0_house 3 = .ok (.new 114, 3) := dk_187 0 114 (dk_at dksX0_house_0 3 rfl rfl)
theorem dX0_house_6 : decode cX0_house 6 = .ok (.dup, 1) := dk_89 (dk_at dksX0_house_0 6 rfl rfl)
theorem dX0_house_7 : decode cX0_house 7 = .ok (.aload_n 0, 1) := dk_42 (dk_at dksX0_house_0 7 rfl rfl)
theorem dX0_house_8 : decode cX0_house 8 = .ok (.invokespecial 116, 3) := dk_183 0 116 (dk_at dksX0_house_0 8 rfl rfl)
theorem dX0_house_11 : decode cX0_house 11 = .ok (.invokevirtual 119, 3) := dk_182 0 119 (dk_at dksX0_house_0 11 rfl rfl)
theorem dX0_house_14 : decode cX0_house 14 = .ok (.putfield 48, 3) := dk_181 0 48 (dk_at dksX0_house_0 14 rfl rfl)
theorem dX0_house_17 : decode cX0_house 17 = .ok (.aload_n 0, 1) := dk_42 (dk_at dksX0_house_0 17 rfl rfl)
theorem dX0_house_18 : decode cX0_house 18 = .ok (.getfield 59, 3) := dk_180 0 59 (dk_at dksX0_house_0 18 rfl rfl)
theorem dX0_house_21 : decode cX0_house 21 = .ok (.aload_n 0, 1) := dk_42 (dk_at dksX0_house_0 21 rfl rfl)
theorem dX0_house_22 : decode cX0_house 22 = .ok (.getfield 48, 3) := dk_180 0 48 (dk_at dksX0_house_1 0 rfl rfl)
theorem dX0_house_25 : decode cX0_house 25 = .ok (.invokevirtual 55, 3) := dk_182 0 55 (dk_at dksX0_house_1 3 rfl rfl)
theorem dX0_house_28 : decode cX0_house 28 = .ok (.pop, 1) := dk_87 (dk_at dksX0_house_1 6 rfl rfl)
theorem dX0_house_29 : decode cX0_house 29 = .ok (.aload_n 0, 1) := dk_42 (dk_at dksX0_house_1 7 rfl rfl)
theorem dX0_house_30 : decode cX0_house 30 = .ok (.iconst 0, 1) := dk_3 (dk_at dksX0_house_1 8 rfl rfl)
theorem dX0_house_31 : decode cX0_house 31 = .ok (.putfield 123, 3) := dk_181 0 123 (dk_at dksX0_house_1 9 rfl rfl)
theorem dX0_house_34 : decode cX0_house 34 = .ok (.aload_n 0, 1) := dk_42 (dk_at dksX0_house_1 12 rfl rfl)
theorem dX0_house_35 : decode cX0_house 35 = .ok (.iconst 0, 1) := dk_3 (dk_at dksX0_house_1 13 rfl rfl)
theorem dX0_house_36 : decode cX0_house 36 = .ok (.putfield 126, 3) := dk_181 0 126 (dk_at dksX0_house_1 14 rfl rfl)
theorem dX0_house_39 : decode cX0_house 39 = .ok (.aload_n 0, 1) := dk_42 (dk_at dksX0_house_1 17 rfl rfl)
theorem dX0_house_40 : decode cX0_house 40 = .ok (.iconst 0, 1) := dk_3 (dk_at dksX0_house_1 18 rfl rfl)
theorem dX0_house_41 : decode cX0_house 41 = .ok (.putfield 129, 3) := dk_181 0 129 (dk_at dksX0_house_1 19 rfl rfl)
theorem dX0_house_44 : decode cX0_house 44 = .ok (.aload_n 0, 1) := dk_42 (dk_at dksX0_house_1 22 rfl rfl)
theorem dX0_house_45 : decode cX0_house 45 = .ok (.getfield 94, 3) := dk_180 0 94 (dk_at dksX0_house_2 0 rfl rfl)
theorem dX0_house_48 : decode cX0_house 48 = .ok (.invokevirtual 132, 3) := dk_182 0 132 (dk_at dksX0_house_2 3 rfl rfl)
theorem dX0_house_51 : decode cX0_house 51 = .ok (.iconst 0, 1) := dk_3 (dk_at dksX0_house_2 6 rfl rfl)
theorem dX0_house_52 : decode cX0_house 52 = .ok (.istore_n 2, 1) := dk_61 (dk_at dksX0_house_2 7 rfl rfl)
theorem dX0_house_53 : decode cX0_house 53 = .ok (.iload_n 2, 1) := dk_28 (dk_at dksX0_house_2 8 rfl rfl)
theorem dX0_house_54 : decode cX0_house 54 = .ok (.iconst 3, 1) := dk_6 (dk_at dksX0_house_2 9 rfl rfl)
theorem dX0_house_55 : decode cX0_house 55 = .ok (.if_icmp .ge 16, 3) := dk_162 0 16 (dk_at dksX0_house_2 10 rfl rfl)
theorem dX0_house_58 : decode cX0_house 58 = .ok (.aload_n 0, 1) := dk_42 (dk_at dksX0_house_2 13 rfl rfl)
theorem dX0_house_59 : decode cX0_house 59 = .ok (.getfield 108, 3) := dk_180 0 108 (dk_at dksX0_house_2 14 rfl rfl)
theorem dX0_house_62 : decode cX0_house 62 = .ok (.iload_n 2, 1) := dk_28 (dk_at dksX0_house_2 17 rfl rfl)
theorem dX0_house_63 : decode cX0_house 63 = .ok (.iconst 0, 1) := dk_3 (dk_at dksX0_house_2 18 rfl rfl)
theorem dX0_house_64 : decode cX0_house 64 = .ok (.bastore, 1) := dk_84 (dk_at dksX0_house_2 19 rfl rfl)
theorem dX0_house_65 : decode cX0_house 65 = .ok (.iinc 2 1, 3) := dk_132 2 1 (dk_at dksX0_house_2 20 rfl rfl)
theorem dX0_house_68 : decode cX0_house 68 = .ok (.goto (-15), 3) := dk_167 255 241 (dk_at dksX0_house_3 0 rfl rfl)
theorem dX0_house_71 : decode cX0_house 71 = .ok (.goto 6, 3) := dk_167 0 6 (dk_at dksX0_house_3 3 rfl rfl)
theorem dX0_house_74 : decode cX0_house 74 = .ok (.astore_n 2, 1) := dk_77 (dk_at dksX0_house_3 6 rfl rfl)
theorem dX0_house_75 : decode cX0_house 75 = .ok (.aload_n 2, 1) := dk_44 (dk_at dksX0_house_3 7 rfl rfl)
theorem dX0_house_76 : decode cX0_house 76 = .ok (.astore_n 1, 1) := dk_76 (dk_at dksX0_house_3 8 rfl rfl)
theorem dX0_house_77 : decode cX0_house 77 = .ok (.aload_n 0, 1) := dk_42 (dk_at dksX0_house_3 9 rfl rfl)
theorem dX0_house_78 : decode cX0_house 78 = .ok (.aload_n 1, 1) := dk_43 (dk_at dksX0_house_3 10 rfl rfl)
theorem dX0_house_79 : decode cX0_house 79 = .ok (.ifnonnull 7, 3) := dk_199 0 7 (dk_at dksX0_house_3 11 rfl rfl)
theorem dX0_house_82 : decode cX0_house 82 = .ok (.iconst 0, 1) := dk_3 (dk_at dksX0_house_3 14 rfl rfl)
theorem dX0_house_83 : decode cX0_house 83 = .ok (.goto 7, 3) := dk_167 0 7 (dk_at dksX0_house_3 15 rfl rfl)
theorem dX0_house_86 : decode cX0_house 86 = .ok (.aload_n 1, 1) := dk_43 (dk_at dksX0_house_3 18 rfl rfl)
theorem dX0_house_87 : decode cX0_house 87 = .ok (.getfield 137, 3) := dk_180 0 137 (dk_at dksX0_house_3 19 rfl rfl)
theorem dX0_house_90 : decode cX0_house 90 = .ok (.putfield 140, 3) := dk_181 0 140 (dk_at dksX0_house_4 0 rfl rfl)
theorem dX0_house_93 : decode cX0_house 93 = .ok (.aload_n 0, 1) := dk_42 (dk_at dksX0_house_4 3 rfl rfl)
theorem dX0_house_94 : decode cX0_house 94 = .ok (.aload_n 1, 1) := dk_43 (dk_at dksX0_house_4 4 rfl rfl)
theorem dX0_house_95 : decode cX0_house 95 = .ok (.ifnonnull 7, 3) := dk_199 0 7 (dk_at dksX0_house_4 5 rfl rfl)
theorem dX0_house_98 : decode cX0_house 98 = .ok (.iconst (-1), 1) := dk_2 (dk_at dksX0_house_4 8 rfl rfl)
theorem dX0_house_99 : decode cX0_house 99 = .ok (.goto 7, 3) := dk_167 0 7 (dk_at dksX0_house_4 9 rfl rfl)
theorem dX0_house_102 : decode cX0_house 102 = .ok (.aload_n 1, 1) := dk_43 (dk_at dksX0_house_4 12 rfl rfl)
theorem dX0_house_103 : decode cX0_house 103 = .ok (.getfield 143, 3) := dk_180 0 143 (dk_at dksX0_house_4 13 rfl rfl)
theorem dX0_house_106 : decode cX0_house 106 = .ok (.putfield 41, 3) := dk_181 0 41 (dk_at dksX0_house_4 16 rfl rfl)
theorem dX0_house_109 : decode cX0_house 109 = .ok (.aload_n 0, 1) := dk_42 (dk_at dksX0_house_4 19 rfl rfl)
theorem dX0_house_110 : decode cX0_house 110 = .ok (.iconst 0, 1) := dk_3 (dk_at dksX0_house_4 20 rfl rfl)
theorem dX0_house_111 : decode cX0_house 111 = .ok (.putfield 111, 3) := dk_181 0 111 (dk_at dksX0_house_4 21 rfl rfl)
theorem dX0_house_114 : decode cX0_house 114 = .ok (.aload_n 1, 1) := dk_43 (dk_at dksX0_house_5 0 rfl rfl)
theorem dX0_house_115 : decode cX0_house 115 = .ok (.ifnonnull 16, 3) := dk_199 0 16 (dk_at dksX0_house_5 1 rfl rfl)
theorem dX0_house_118 : decode cX0_house 118 = .ok (.aload_n 0, 1) := dk_42 (dk_at dksX0_house_5 4 rfl rfl)
theorem dX0_house_119 : decode cX0_house 119 = .ok (.getfield 48, 3) := dk_180 0 48 (dk_at dksX0_house_5 5 rfl rfl)
theorem dX0_house_122 : decode cX0_house 122 = .ok (.getfield 146, 3) := dk_180 0 146 (dk_at dksX0_house_5 8 rfl rfl)
theorem dX0_house_125 : decode cX0_house 125 = .ok (.invokevirtual 3, 3) := dk_182 0 3 (dk_at dksX0_house_5 11 rfl rfl)
theorem dX0_house_128 : decode cX0_house 128 = .ok (.goto 4, 3) := dk_167 0 4 (dk_at dksX0_house_5 14 rfl rfl)
theorem dX0_house_131 : decode cX0_house 131 = .ok (.iconst (-1), 1) := dk_2 (dk_at dksX0_house_5 17 rfl rfl)
theorem dX0_house_132 : decode cX0_house 132 = .ok (.ireturn, 1) := dk_172 (dk_at dksX0_house_5 18 rfl rfl)
abbrev cX0_find : ByteArray := prog_1_method_1_code
def yX0_find : MethodName := ⟨RX0, "find", "(Ljava/util/ArrayList;Ljava/lang/String;)I"⟩
def dkwX0_find_1 : List UInt8 := [182, 0, 19, 153, 0, 7, 29, 167, 0, 4, 28, 61, 132, 3, 1, 167, 255, 221, 28, 172]
abbrev dktX0_find_1 : List UInt8 := dkwX0_find_1 ++ []
def dkwX0_find_0 : List UInt8 := [2, 61, 3, 62, 29, 42, 182, 0, 3, 162, 0, 33, 42, 29, 182, 0, 9, 192, 0, 13, 180, 0, 15, 43]
abbrev dktX0_find_0 : List UInt8 := dkwX0_find_0 ++ dktX0_find_1
theorem dksX0_find_0 : cX0_find.data.toList.drop 0 = dktX0_find_0 := by decide +kernel
theorem dksX0_find_1 : cX0_find.data.toList.drop 24 = dktX0_find_1 := dk_seg dksX0_find_0 24 rfl rfl
theorem dX0_find_0 : decode cX0_find 0 = .ok (.iconst (-1), 1) := dk_2 (dk_at dksX0_find_0 0 rfl rfl)
theorem dX0_find_1 : decode cX0_find 1 = .ok (.istore_n 2, 1) := dk_61 (dk_at dksX0_find_0 1 rfl rfl)
theorem dX0_find_2 : decode cX0_find 2 = .ok (.iconst 0, 1) := dk_3 (dk_at dksX0_find_0 2 rfl rfl)
theorem dX0_find_3 : decode cX0_find 3 = .ok (.istore_n 3, 1) := dk_62 (dk_at dksX0_find_0 3 rfl rfl)
theorem dX0_find_4 : decode cX0_find 4 = .ok (.iload_n 3, 1) := dk_29 (dk_at dksX0_find_0 4 rfl rfl)
theorem dX0_find_5 : decode cX0_find 5 = .ok (.aload_n 0, 1) := dk_42 (dk_at dksX0_find_0 5 rfl rfl)
theorem dX0_find_6 : decode cX0_find 6 = .ok (.invokevirtual 3, 3) := dk_182 0 3 (dk_at dksX0_find_0 6 rfl rfl)
theorem dX0_find_9 : decode cX0_find 9 = .ok (.if_icmp .ge 33, 3) := dk_162 0 33 (dk_at dksX0_find_0 9 rfl rfl)
theorem dX0_find_12 : decode cX0_find 12 = .ok (.aload_n 0, 1) := dk_42 (dk_at dksX0_find_0 12 rfl rfl)
theorem dX0_find_13 : decode cX0_find 13 = .ok (.iload_n 3, 1) := dk_29 (dk_at dksX0_find_0 13 rfl rfl)
theorem dX0_find_14 : decode cX0_find 14 = .ok (.invokevirtual 9, 3) := dk_182 0 9 (dk_at dksX0_find_0 14 rfl rfl)
theorem dX0_find_17 : decode cX0_find 17 = .ok (.checkcast 13, 3) := dk_192 0 13 (dk_at dksX0_find_0 17 rfl rfl)
theorem dX0_find_20 : decode cX0_find 20 = .ok (.getfield 15, 3) := dk_180 0 15 (dk_at dksX0_find_0 20 rfl rfl)
theorem dX0_find_23 : decode cX0_find 23 = .ok (.aload_n 1, 1) := dk_43 (dk_at dksX0_find_0 23 rfl rfl)
theorem dX0_find_24 : decode cX0_find 24 = .ok (.invokevirtual 19, 3) := dk_182 0 19 (dk_at dksX0_find_1 0 rfl rfl)
theorem dX0_find_27 : decode cX0_find 27 = .ok (.ifCond .eq 7, 3) := dk_153 0 7 (dk_at dksX0_find_1 3 rfl rfl)
theorem dX0_find_30 : decode cX0_find 30 = .ok (.iload_n 3, 1) := dk_29 (dk_at dksX0_find_1 6 rfl rfl)
theorem dX0_find_31 : decode cX0_find 31 = .ok (.goto 4, 3) := dk_167 0 4 (dk_at dksX0_find_1 7 rfl rfl)
theorem dX0_find_34 : decode cX0_find 34 = .ok (.iload_n 2, 1) := dk_28 (dk_at dksX0_find_1 10 rfl rfl)
theorem dX0_find_35 : decode cX0_find 35 = .ok (.istore_n 2, 1) := dk_61 (dk_at dksX0_find_1 11 rfl rfl)
theorem dX0_find_36 : decode cX0_find 36 = .ok (.iinc 3 1, 3) := dk_132 3 1 (dk_at dksX0_find_1 12 rfl rfl)
theorem dX0_find_39 : decode cX0_find 39 = .ok (.goto (-35), 3) := dk_167 255 221 (dk_at dksX0_find_1 15 rfl rfl)
theorem dX0_find_42 : decode cX0_find 42 = .ok (.iload_n 2, 1) := dk_28 (dk_at dksX0_find_1 18 rfl rfl)
theorem dX0_find_43 : decode cX0_find 43 = .ok (.ireturn, 1) := dk_172 (dk_at dksX0_find_1 19 rfl rfl)
abbrev cX0_fault : ByteArray := prog_1_method_8_code
def yX0_fault : MethodName := ⟨RX0, "fault", "(I)I"⟩
def dkwX0_fault_1 : List UInt8 := [172]
abbrev dktX0_fault_1 : List UInt8 := dkwX0_fault_1 ++ []
def dkwX0_fault_0 : List UInt8 := [27, 154, 0, 10, 42, 180, 0, 140, 167, 0, 16, 27, 4, 160, 0, 10, 42, 180, 0, 41, 167, 0, 4, 2]
abbrev dktX0_fault_0 : List UInt8 := dkwX0_fault_0 ++ dktX0_fault_1
theorem dksX0_fault_0 : cX0_fault.data.toList.drop 0 = dktX0_fault_0 := by decide +kernel
theorem dksX0_fault_1 : cX0_fault.data.toList.drop 24 = dktX0_fault_1 := dk_seg dksX0_fault_0 24 rfl rfl
theorem dX0_fault_0 : decode cX0_fault 0 = .ok (.iload_n 1, 1) := dk_27 (dk_at dksX0_fault_0 0 rfl rfl)
theorem dX0_fault_1 : decode cX0_fault 1 = .ok (.ifCond .ne 10, 3) := dk_154 0 10 (dk_at dksX0_fault_0 1 rfl rfl)
theorem dX0_fault_4 : decode cX0_fault 4 = .ok (.aload_n 0, 1) := dk_42 (dk_at dksX0_fault_0 4 rfl rfl)
theorem dX0_fault_5 : decode cX0_fault 5 = .ok (.getfield 140, 3) := dk_180 0 140 (dk_at dksX0_fault_0 5 rfl rfl)
theorem dX0_fault_8 : decode cX0_fault 8 = .ok (.goto 16, 3) := dk_167 0 16 (dk_at dksX0_fault_0 8 rfl rfl)
theorem dX0_fault_11 : decode cX0_fault 11 = .ok (.iload_n 1, 1) := dk_27 (dk_at dksX0_fault_0 11 rfl rfl)
theorem dX0_fault_12 : decode cX0_fault 12 = .ok (.iconst 1, 1) := dk_4 (dk_at dksX0_fault_0 12 rfl rfl)
theorem dX0_fault_13 : decode cX0_fault 13 = .ok (.if_icmp .ne 10, 3) := dk_160 0 10 (dk_at dksX0_fault_0 13 rfl rfl)
theorem dX0_fault_16 : decode cX0_fault 16 = .ok (.aload_n 0, 1) := dk_42 (dk_at dksX0_fault_0 16 rfl rfl)
theorem dX0_fault_17 : decode cX0_fault 17 = .ok (.getfield 41, 3) := dk_180 0 41 (dk_at dksX0_fault_0 17 rfl rfl)
theorem dX0_fault_20 : decode cX0_fault 20 = .ok (.goto 4, 3) := dk_167 0 4 (dk_at dksX0_fault_0 20 rfl rfl)
theorem dX0_fault_23 : decode cX0_fault 23 = .ok (.iconst (-1), 1) := dk_2 (dk_at dksX0_fault_0 23 rfl rfl)
theorem dX0_fault_24 : decode cX0_fault 24 = .ok (.ireturn, 1) := dk_172 (dk_at dksX0_fault_1 0 rfl rfl)
abbrev cX0_room : ByteArray := prog_1_method_12_code
def yX0_room : MethodName := ⟨RX0, "room", "(II)I"⟩
def dkwX0_room_3 : List UInt8 := [180, 0, 48, 27, 182, 0, 170, 172, 42, 180, 0, 59, 27, 182, 0, 174, 172, 2, 172]
abbrev dktX0_room_3 : List UInt8 := dkwX0_room_3 ++ []
def dkwX0_room_2 : List UInt8 := [42, 180, 0, 48, 180, 0, 149, 27, 182, 0, 9, 192, 0, 165, 180, 0, 167, 172, 42, 180, 0, 59, 42]
abbrev dktX0_room_2 : List UInt8 := dkwX0_room_2 ++ dktX0_room_3
def dkwX0_room_1 : List UInt8 := [170, 0, 0, 0, 65, 0, 0, 0, 0, 0, 0, 0, 2, 0, 0, 0, 25, 0, 0, 0, 43, 0, 0, 0, 56]
abbrev dktX0_room_1 : List UInt8 := dkwX0_room_1 ++ dktX0_room_2
def dkwX0_room_0 : List UInt8 := [42, 27, 182, 0, 162, 154, 0, 5, 2, 172, 28]
abbrev dktX0_room_0 : List UInt8 := dkwX0_room_0 ++ dktX0_room_1
theorem dksX0_room_0 : cX0_room.data.toList.drop 0 = dktX0_room_0 := by decide +kernel
theorem dksX0_room_1 : cX0_room.data.toList.drop 11 = dktX0_room_1 := dk_seg dksX0_room_0 11 rfl rfl
theorem dksX0_room_2 : cX0_room.data.toList.drop 36 = dktX0_room_2 := dk_seg dksX0_room_1 25 rfl rfl
theorem dksX0_room_3 : cX0_room.data.toList.drop 59 = dktX0_room_3 := dk_seg dksX0_room_2 23 rfl rfl
theorem dX0_room_0 : decode cX0_room 0 = .ok (.aload_n 0, 1) := dk_42 (dk_at dksX0_room_0 0 rfl rfl)
theorem dX0_room_1 : decode cX0_room 1 = .ok (.iload_n 1, 1) := dk_27 (dk_at dksX0_room_0 1 rfl rfl)
theorem dX0_room_2 : decode cX0_room 2 = .ok (.invokevirtual 162, 3) := dk_182 0 162 (dk_at dksX0_room_0 2 rfl rfl)
theorem dX0_room_5 : decode cX0_room 5 = .ok (.ifCond .ne 5, 3) := dk_154 0 5 (dk_at dksX0_room_0 5 rfl rfl)
theorem dX0_room_8 : decode cX0_room 8 = .ok (.iconst (-1), 1) := dk_2 (dk_at dksX0_room_0 8 rfl rfl)
theorem dX0_room_9 : decode cX0_room 9 = .ok (.ireturn, 1) := dk_172 (dk_at dksX0_room_0 9 rfl rfl)
theorem dX0_room_10 : decode cX0_room 10 = .ok (.iload_n 2, 1) := dk_28 (dk_at dksX0_room_0 10 rfl rfl)
theorem dX0_room_11 : decode cX0_room 11 = .ok (.tableswitch 65 0 2 #[25, 43, 56], 25) := by decide +kernel
theorem dX0_room_36 : decode cX0_room 36 = .ok (.aload_n 0, 1) := dk_42 (dk_at dksX0_room_2 0 rfl rfl)
theorem dX0_room_37 : decode cX0_room 37 = .ok (.getfield 48, 3) := dk_180 0 48 (dk_at dksX0_room_2 1 rfl rfl)
theorem dX0_room_40 : decode cX0_room 40 = .ok (.getfield 149, 3) := dk_180 0 149 (dk_at dksX0_room_2 4 rfl rfl)
theorem dX0_room_43 : decode cX0_room 43 = .ok (.iload_n 1, 1) := dk_27 (dk_at dksX0_room_2 7 rfl rfl)
theorem dX0_room_44 : decode cX0_room 44 = .ok (.invokevirtual 9, 3) := dk_182 0 9 (dk_at dksX0_room_2 8 rfl rfl)
theorem dX0_room_47 : decode cX0_room 47 = .ok (.checkcast 165, 3) := dk_192 0 165 (dk_at dksX0_room_2 11 rfl rfl)
theorem dX0_room_50 : decode cX0_room 50 = .ok (.getfield 167, 3) := dk_180 0 167 (dk_at dksX0_room_2 14 rfl rfl)
theorem dX0_room_53 : decode cX0_room 53 = .ok (.ireturn, 1) := dk_172 (dk_at dksX0_room_2 17 rfl rfl)
theorem dX0_room_54 : decode cX0_room 54 = .ok (.aload_n 0, 1) := dk_42 (dk_at dksX0_room_2 18 rfl rfl)
theorem dX0_room_55 : decode cX0_room 55 = .ok (.getfield 59, 3) := dk_180 0 59 (dk_at dksX0_room_2 19 rfl rfl)
theorem dX0_room_58 : decode cX0_room 58 = .ok (.aload_n 0, 1) := dk_42 (dk_at dksX0_room_2 22 rfl rfl)
theorem dX0_room_59 : decode cX0_room 59 = .ok (.getfield 48, 3) := dk_180 0 48 (dk_at dksX0_room_3 0 rfl rfl)
theorem dX0_room_62 : decode cX0_room 62 = .ok (.iload_n 1, 1) := dk_27 (dk_at dksX0_room_3 3 rfl rfl)
theorem dX0_room_63 : decode cX0_room 63 = .ok (.invokevirtual 170, 3) := dk_182 0 170 (dk_at dksX0_room_3 4 rfl rfl)
theorem dX0_room_66 : decode cX0_room 66 = .ok (.ireturn, 1) := dk_172 (dk_at dksX0_room_3 7 rfl rfl)
theorem dX0_room_67 : decode cX0_room 67 = .ok (.aload_n 0, 1) := dk_42 (dk_at dksX0_room_3 8 rfl rfl)
theorem dX0_room_68 : decode cX0_room 68 = .ok (.getfield 59, 3) := dk_180 0 59 (dk_at dksX0_room_3 9 rfl rfl)
theorem dX0_room_71 : decode cX0_room 71 = .ok (.iload_n 1, 1) := dk_27 (dk_at dksX0_room_3 12 rfl rfl)
theorem dX0_room_72 : decode cX0_room 72 = .ok (.invokevirtual 174, 3) := dk_182 0 174 (dk_at dksX0_room_3 13 rfl rfl)
theorem dX0_room_75 : decode cX0_room 75 = .ok (.ireturn, 1) := dk_172 (dk_at dksX0_room_3 16 rfl rfl)
theorem dX0_room_76 : decode cX0_room 76 = .ok (.iconst (-1), 1) := dk_2 (dk_at dksX0_room_3 17 rfl rfl)
theorem dX0_room_77 : decode cX0_room 77 = .ok (.ireturn, 1) := dk_172 (dk_at dksX0_room_3 18 rfl rfl)
abbrev cX0_isRoom : ByteArray := prog_1_method_10_code
def yX0_isRoom : MethodName := ⟨RX0, "isRoom", "(I)Z"⟩
def dkwX0_isRoom_0 : List UInt8 := [27, 3, 42, 182, 0, 152, 4, 100, 184, 0, 154, 172]
abbrev dktX0_isRoom_0 : List UInt8 := dkwX0_isRoom_0 ++ []
theorem dksX0_isRoom_0 : cX0_isRoom.data.toList.drop 0 = dktX0_isRoom_0 := by decide +kernel
theorem dX0_isRoom_0 : decode cX0_isRoom 0 = .ok (.iload_n 1, 1) := dk_27 (dk_at dksX0_isRoom_0 0 rfl rfl)
theorem dX0_isRoom_1 : decode cX0_isRoom 1 = .ok (.iconst 0, 1) := dk_3 (dk_at dksX0_isRoom_0 1 rfl rfl)
theorem dX0_isRoom_2 : decode cX0_isRoom 2 = .ok (.aload_n 0, 1) := dk_42 (dk_at dksX0_isRoom_0 2 rfl rfl)
theorem dX0_isRoom_3 : decode cX0_isRoom 3 = .ok (.invokevirtual 152, 3) := dk_182 0 152 (dk_at dksX0_isRoom_0 3 rfl rfl)
theorem dX0_isRoom_6 : decode cX0_isRoom 6 = .ok (.iconst 1, 1) := dk_4 (dk_at dksX0_isRoom_0 6 rfl rfl)
theorem dX0_isRoom_7 : decode cX0_isRoom 7 = .ok (.isub, 1) := dk_100 (dk_at dksX0_isRoom_0 7 rfl rfl)
theorem dX0_isRoom_8 : decode cX0_isRoom 8 = .ok (.invokestatic 154, 3) := dk_184 0 154 (dk_at dksX0_isRoom_0 8 rfl rfl)
theorem dX0_isRoom_11 : decode cX0_isRoom 11 = .ok (.ireturn, 1) := dk_172 (dk_at dksX0_isRoom_0 11 rfl rfl)
abbrev cX0_rooms : ByteArray := prog_1_method_9_code
def yX0_rooms : MethodName := ⟨RX0, "rooms", "()I"⟩
def dkwX0_rooms_0 : List UInt8 := [42, 180, 0, 48, 180, 0, 149, 182, 0, 3, 172]
abbrev dktX0_rooms_0 : List UInt8 := dkwX0_rooms_0 ++ []
theorem dksX0_rooms_0 : cX0_rooms.data.toList.drop 0 = dktX0_rooms_0 := by decide +kernel
theorem dX0_rooms_0 : decode cX0_rooms 0 = .ok (.aload_n 0, 1) := dk_42 (dk_at dksX0_rooms_0 0 rfl rfl)
theorem dX0_rooms_1 : decode cX0_rooms 1 = .ok (.getfield 48, 3) := dk_180 0 48 (dk_at dksX0_rooms_0 1 rfl rfl)
theorem dX0_rooms_4 : decode cX0_rooms 4 = .ok (.getfield 149, 3) := dk_180 0 149 (dk_at dksX0_rooms_0 4 rfl rfl)
theorem dX0_rooms_7 : decode cX0_rooms 7 = .ok (.invokevirtual 3, 3) := dk_182 0 3 (dk_at dksX0_rooms_0 7 rfl rfl)
theorem dX0_rooms_10 : decode cX0_rooms 10 = .ok (.ireturn, 1) := dk_172 (dk_at dksX0_rooms_0 10 rfl rfl)
abbrev cX0_isIn : ByteArray := prog_1_method_2_code
def yX0_isIn : MethodName := ⟨RX0, "isIn", "(III)Z"⟩
def dkwX0_isIn_0 : List UInt8 := [26, 27, 161, 0, 12, 26, 28, 163, 0, 7, 4, 167, 0, 4, 3, 172]
abbrev dktX0_isIn_0 : List UInt8 := dkwX0_isIn_0 ++ []
theorem dksX0_isIn_0 : cX0_isIn.data.toList.drop 0 = dktX0_isIn_0 := by decide +kernel
theorem dX0_isIn_0 : decode cX0_isIn 0 = .ok (.iload_n 0, 1) := dk_26 (dk_at dksX0_isIn_0 0 rfl rfl)
theorem dX0_isIn_1 : decode cX0_isIn 1 = .ok (.iload_n 1, 1) := dk_27 (dk_at dksX0_isIn_0 1 rfl rfl)
theorem dX0_isIn_2 : decode cX0_isIn 2 = .ok (.if_icmp .lt 12, 3) := dk_161 0 12 (dk_at dksX0_isIn_0 2 rfl rfl)
theorem dX0_isIn_5 : decode cX0_isIn 5 = .ok (.iload_n 0, 1) := dk_26 (dk_at dksX0_isIn_0 5 rfl rfl)
theorem dX0_isIn_6 : decode cX0_isIn 6 = .ok (.iload_n 2, 1) := dk_28 (dk_at dksX0_isIn_0 6 rfl rfl)
theorem dX0_isIn_7 : decode cX0_isIn 7 = .ok (.if_icmp .gt 7, 3) := dk_163 0 7 (dk_at dksX0_isIn_0 7 rfl rfl)
theorem dX0_isIn_10 : decode cX0_isIn 10 = .ok (.iconst 1, 1) := dk_4 (dk_at dksX0_isIn_0 10 rfl rfl)
theorem dX0_isIn_11 : decode cX0_isIn 11 = .ok (.goto 4, 3) := dk_167 0 4 (dk_at dksX0_isIn_0 11 rfl rfl)
theorem dX0_isIn_14 : decode cX0_isIn 14 = .ok (.iconst 0, 1) := dk_3 (dk_at dksX0_isIn_0 14 rfl rfl)
theorem dX0_isIn_15 : decode cX0_isIn 15 = .ok (.ireturn, 1) := dk_172 (dk_at dksX0_isIn_0 15 rfl rfl)
abbrev cX0_trunk : ByteArray := prog_1_method_13_code
def yX0_trunk : MethodName := ⟨RX0, "trunk", "(II)I"⟩
def dkwX0_trunk_5 : List UInt8 := [172]
abbrev dktX0_trunk_5 : List UInt8 := dkwX0_trunk_5 ++ []
def dkwX0_trunk_4 : List UInt8 := [46, 172, 42, 180, 0, 59, 180, 0, 195, 27, 46, 172, 42, 180, 0, 59, 180, 0, 198, 27, 46, 172, 16, 254]
abbrev dktX0_trunk_4 : List UInt8 := dkwX0_trunk_4 ++ dktX0_trunk_5
def dkwX0_trunk_3 : List UInt8 := [180, 0, 186, 27, 46, 172, 42, 180, 0, 59, 180, 0, 189, 27, 46, 172, 42, 180, 0, 59, 180, 0, 192, 27]
abbrev dktX0_trunk_3 : List UInt8 := dkwX0_trunk_3 ++ dktX0_trunk_4
def dkwX0_trunk_2 : List UInt8 := [42, 180, 0, 59, 180, 0, 180, 27, 46, 172, 42, 180, 0, 59, 180, 0, 183, 27, 46, 172, 42, 180, 0, 59]
abbrev dktX0_trunk_2 : List UInt8 := dkwX0_trunk_2 ++ dktX0_trunk_3
def dkwX0_trunk_1 : List UInt8 := [170, 0, 0, 0, 0, 0, 0, 114, 0, 0, 0, 0, 0, 0, 0, 6, 0, 0, 0, 44, 0, 0, 0, 54, 0, 0, 0, 64, 0, 0, 0, 74, 0, 0, 0, 84, 0, 0, 0, 94, 0, 0, 0, 104]
abbrev dktX0_trunk_1 : List UInt8 := dkwX0_trunk_1 ++ dktX0_trunk_2
def dkwX0_trunk_0 : List UInt8 := [42, 27, 182, 0, 177, 154, 0, 6, 16, 254, 172, 28]
abbrev dktX0_trunk_0 : List UInt8 := dkwX0_trunk_0 ++ dktX0_trunk_1
theorem dksX0_trunk_0 : cX0_trunk.data.toList.drop 0 = dktX0_trunk_0 := by decide +kernel
theorem dksX0_trunk_1 : cX0_trunk.data.toList.drop 12 = dktX0_trunk_1 := dk_seg dksX0_trunk_0 12 rfl rfl
theorem dksX0_trunk_2 : cX0_trunk.data.toList.drop 56 = dktX0_trunk_2 := dk_seg dksX0_trunk_1 44 rfl rfl
theorem dksX0_trunk_3 : cX0_trunk.data.toList.drop 80 = dktX0_trunk_3 := dk_seg dksX0_trunk_2 24 rfl rfl
theorem dksX0_trunk_4 : cX0_trunk.data.toList.drop 104 = dktX0_trunk_4 := dk_seg dksX0_trunk_3 24 rfl rfl
theorem dksX0_trunk_5 : cX0_trunk.data.toList.drop 128 = dktX0_trunk_5 := dk_seg dksX0_trunk_4 24 rfl rfl
theorem dX0_trunk_0 : decode cX0_trunk 0 = .ok (.aload_n 0, 1) := dk_42 (dk_at dksX0_trunk_0 0 rfl rfl)
theorem dX0_trunk_1 : decode cX0_trunk 1 = .ok (.iload_n 1, 1) := dk_27 (dk_at dksX0_trunk_0 1 rfl rfl)
theorem dX0_trunk_2 : decode cX0_trunk 2 = .ok (.invokevirtual 177, 3) := dk_182 0 177 (dk_at dksX0_trunk_0 2 rfl rfl)
theorem dX0_trunk_5 : decode cX0_trunk 5 = .ok (.ifCond .ne 6, 3) := dk_154 0 6 (dk_at dksX0_trunk_0 5 rfl rfl)
theorem dX0_trunk_8 : decode cX0_trunk 8 = .ok (.bipush (-2), 2) := dk_16 254 (dk_at dksX0_trunk_0 8 rfl rfl)
theorem dX0_trunk_10 : decode cX0_trunk 10 = .ok (.ireturn, 1) := dk_172 (dk_at dksX0_trunk_0 10 rfl rfl)
theorem dX0_trunk_11 : decode cX0_trunk 11 = .ok (.iload_n 2, 1) := dk_28 (dk_at dksX0_trunk_0 11 rfl rfl)
theorem dX0_trunk_12 : decode cX0_trunk 12 = .ok (.tableswitch 114 0 6 #[44, 54, 64, 74, 84, 94, 104], 44) := by decide +kernel
theorem dX0_trunk_56 : decode cX0_trunk 56 = .ok (.aload_n 0, 1) := dk_42 (dk_at dksX0_trunk_2 0 rfl rfl)
theorem dX0_trunk_57 : decode cX0_trunk 57 = .ok (.getfield 59, 3) := dk_180 0 59 (dk_at dksX0_trunk_2 1 rfl rfl)
theorem dX0_trunk_60 : decode cX0_trunk 60 = .ok (.getfield 180, 3) := dk_180 0 180 (dk_at dksX0_trunk_2 4 rfl rfl)
theorem dX0_trunk_63 : decode cX0_trunk 63 = .ok (.iload_n 1, 1) := dk_27 (dk_at dksX0_trunk_2 7 rfl rfl)
theorem dX0_trunk_64 : decode cX0_trunk 64 = .ok (.iaload, 1) := dk_46 (dk_at dksX0_trunk_2 8 rfl rfl)
theorem dX0_trunk_65 : decode cX0_trunk 65 = .ok (.ireturn, 1) := dk_172 (dk_at dksX0_trunk_2 9 rfl rfl)
theorem dX0_trunk_66 : decode cX0_trunk 66 = .ok (.aload_n 0, 1) := dk_42 (dk_at dksX0_trunk_2 10 rfl rfl)
theorem dX0_trunk_67 : decode cX0_trunk 67 = .ok (.getfield 59, 3) := dk_180 0 59 (dk_at dksX0_trunk_2 11 rfl rfl)
theorem dX0_trunk_70 : decode cX0_trunk 70 = .ok (.getfield 183, 3) := dk_180 0 183 (dk_at dksX0_trunk_2 14 rfl rfl)
theorem dX0_trunk_73 : decode cX0_trunk 73 = .ok (.iload_n 1, 1) := dk_27 (dk_at dksX0_trunk_2 17 rfl rfl)
theorem dX0_trunk_74 : decode cX0_trunk 74 = .ok (.iaload, 1) := dk_46 (dk_at dksX0_trunk_2 18 rfl rfl)
theorem dX0_trunk_75 : decode cX0_trunk 75 = .ok (.ireturn, 1) := dk_172 (dk_at dksX0_trunk_2 19 rfl rfl)
theorem dX0_trunk_76 : decode cX0_trunk 76 = .ok (.aload_n 0, 1) := dk_42 (dk_at dksX0_trunk_2 20 rfl rfl)
theorem dX0_trunk_77 : decode cX0_trunk 77 = .ok (.getfield 59, 3) := dk_180 0 59 (dk_at dksX0_trunk_2 21 rfl rfl)
theorem dX0_trunk_80 : decode cX0_trunk 80 = .ok (.getfield 186, 3) := dk_180 0 186 (dk_at dksX0_trunk_3 0 rfl rfl)
theorem dX0_trunk_83 : decode cX0_trunk 83 = .ok (.iload_n 1, 1) := dk_27 (dk_at dksX0_trunk_3 3 rfl rfl)
theorem dX0_trunk_84 : decode cX0_trunk 84 = .ok (.iaload, 1) := dk_46 (dk_at dksX0_trunk_3 4 rfl rfl)
theorem dX0_trunk_85 : decode cX0_trunk 85 = .ok (.ireturn, 1) := dk_172 (dk_at dksX0_trunk_3 5 rfl rfl)
theorem dX0_trunk_86 : decode cX0_trunk 86 = .ok (.aload_n 0, 1) := dk_42 (dk_at dksX0_trunk_3 6 rfl rfl)
theorem dX0_trunk_87 : decode cX0_trunk 87 = .ok (.getfield 59, 3) := dk_180 0 59 (dk_at dksX0_trunk_3 7 rfl rfl)
theorem dX0_trunk_90 : decode cX0_trunk 90 = .ok (.getfield 189, 3) := dk_180 0 189 (dk_at dksX0_trunk_3 10 rfl rfl)
theorem dX0_trunk_93 : decode cX0_trunk 93 = .ok (.iload_n 1, 1) := dk_27 (dk_at dksX0_trunk_3 13 rfl rfl)
theorem dX0_trunk_94 : decode cX0_trunk 94 = .ok (.iaload, 1) := dk_46 (dk_at dksX0_trunk_3 14 rfl rfl)
theorem dX0_trunk_95 : decode cX0_trunk 95 = .ok (.ireturn, 1) := dk_172 (dk_at dksX0_trunk_3 15 rfl rfl)
theorem dX0_trunk_96 : decode cX0_trunk 96 = .ok (.aload_n 0, 1) := dk_42 (dk_at dksX0_trunk_3 16 rfl rfl)
theorem dX0_trunk_97 : decode cX0_trunk 97 = .ok (.getfield 59, 3) := dk_180 0 59 (dk_at dksX0_trunk_3 17 rfl rfl)
theorem dX0_trunk_100 : decode cX0_trunk 100 = .ok (.getfield 192, 3) := dk_180 0 192 (dk_at dksX0_trunk_3 20 rfl rfl)
theorem dX0_trunk_103 : decode cX0_trunk 103 = .ok (.iload_n 1, 1) := dk_27 (dk_at dksX0_trunk_3 23 rfl rfl)
theorem dX0_trunk_104 : decode cX0_trunk 104 = .ok (.iaload, 1) := dk_46 (dk_at dksX0_trunk_4 0 rfl rfl)
theorem dX0_trunk_105 : decode cX0_trunk 105 = .ok (.ireturn, 1) := dk_172 (dk_at dksX0_trunk_4 1 rfl rfl)
theorem dX0_trunk_106 : decode cX0_trunk 106 = .ok (.aload_n 0, 1) := dk_42 (dk_at dksX0_trunk_4 2 rfl rfl)
theorem dX0_trunk_107 : decode cX0_trunk 107 = .ok (.getfield 59, 3) := dk_180 0 59 (dk_at dksX0_trunk_4 3 rfl rfl)
theorem dX0_trunk_110 : decode cX0_trunk 110 = .ok (.getfield 195, 3) := dk_180 0 195 (dk_at dksX0_trunk_4 6 rfl rfl)
theorem dX0_trunk_113 : decode cX0_trunk 113 = .ok (.iload_n 1, 1) := dk_27 (dk_at dksX0_trunk_4 9 rfl rfl)
theorem dX0_trunk_114 : decode cX0_trunk 114 = .ok (.iaload, 1) := dk_46 (dk_at dksX0_trunk_4 10 rfl rfl)
theorem dX0_trunk_115 : decode cX0_trunk 115 = .ok (.ireturn, 1) := dk_172 (dk_at dksX0_trunk_4 11 rfl rfl)
theorem dX0_trunk_116 : decode cX0_trunk 116 = .ok (.aload_n 0, 1) := dk_42 (dk_at dksX0_trunk_4 12 rfl rfl)
theorem dX0_trunk_117 : decode cX0_trunk 117 = .ok (.getfield 59, 3) := dk_180 0 59 (dk_at dksX0_trunk_4 13 rfl rfl)
theorem dX0_trunk_120 : decode cX0_trunk 120 = .ok (.getfield 198, 3) := dk_180 0 198 (dk_at dksX0_trunk_4 16 rfl rfl)
theorem dX0_trunk_123 : decode cX0_trunk 123 = .ok (.iload_n 1, 1) := dk_27 (dk_at dksX0_trunk_4 19 rfl rfl)
theorem dX0_trunk_124 : decode cX0_trunk 124 = .ok (.iaload, 1) := dk_46 (dk_at dksX0_trunk_4 20 rfl rfl)
theorem dX0_trunk_125 : decode cX0_trunk 125 = .ok (.ireturn, 1) := dk_172 (dk_at dksX0_trunk_4 21 rfl rfl)
theorem dX0_trunk_126 : decode cX0_trunk 126 = .ok (.bipush (-2), 2) := dk_16 254 (dk_at dksX0_trunk_4 22 rfl rfl)
theorem dX0_trunk_128 : decode cX0_trunk 128 = .ok (.ireturn, 1) := dk_172 (dk_at dksX0_trunk_5 0 rfl rfl)
abbrev cX0_isTrunk : ByteArray := prog_1_method_11_code
def yX0_isTrunk : MethodName := ⟨RX0, "isTrunk", "(I)Z"⟩
def dkwX0_isTrunk_1 : List UInt8 := [167, 0, 4, 3, 172]
abbrev dktX0_isTrunk_1 : List UInt8 := dkwX0_isTrunk_1 ++ []
def dkwX0_isTrunk_0 : List UInt8 := [27, 3, 16, 7, 184, 0, 154, 153, 0, 18, 42, 180, 0, 59, 27, 182, 0, 158, 153, 0, 7, 4]
abbrev dktX0_isTrunk_0 : List UInt8 := dkwX0_isTrunk_0 ++ dktX0_isTrunk_1
theorem dksX0_isTrunk_0 : cX0_isTrunk.data.toList.drop 0 = dktX0_isTrunk_0 := by decide +kernel
theorem dksX0_isTrunk_1 : cX0_isTrunk.data.toList.drop 22 = dktX0_isTrunk_1 := dk_seg dksX0_isTrunk_0 22 rfl rfl
theorem dX0_isTrunk_0 : decode cX0_isTrunk 0 = .ok (.iload_n 1, 1) := dk_27 (dk_at dksX0_isTrunk_0 0 rfl rfl)
theorem dX0_isTrunk_1 : decode cX0_isTrunk 1 = .ok (.iconst 0, 1) := dk_3 (dk_at dksX0_isTrunk_0 1 rfl rfl)
theorem dX0_isTrunk_2 : decode cX0_isTrunk 2 = .ok (.bipush 7, 2) := dk_16 7 (dk_at dksX0_isTrunk_0 2 rfl rfl)
theorem dX0_isTrunk_4 : decode cX0_isTrunk 4 = .ok (.invokestatic 154, 3) := dk_184 0 154 (dk_at dksX0_isTrunk_0 4 rfl rfl)
theorem dX0_isTrunk_7 : decode cX0_isTrunk 7 = .ok (.ifCond .eq 18, 3) := dk_153 0 18 (dk_at dksX0_isTrunk_0 7 rfl rfl)
theorem dX0_isTrunk_10 : decode cX0_isTrunk 10 = .ok (.aload_n 0, 1) := dk_42 (dk_at dksX0_isTrunk_0 10 rfl rfl)
theorem dX0_isTrunk_11 : decode cX0_isTrunk 11 = .ok (.getfield 59, 3) := dk_180 0 59 (dk_at dksX0_isTrunk_0 11 rfl rfl)
theorem dX0_isTrunk_14 : decode cX0_isTrunk 14 = .ok (.iload_n 1, 1) := dk_27 (dk_at dksX0_isTrunk_0 14 rfl rfl)
theorem dX0_isTrunk_15 : decode cX0_isTrunk 15 = .ok (.invokevirtual 158, 3) := dk_182 0 158 (dk_at dksX0_isTrunk_0 15 rfl rfl)
theorem dX0_isTrunk_18 : decode cX0_isTrunk 18 = .ok (.ifCond .eq 7, 3) := dk_153 0 7 (dk_at dksX0_isTrunk_0 18 rfl rfl)
theorem dX0_isTrunk_21 : decode cX0_isTrunk 21 = .ok (.iconst 1, 1) := dk_4 (dk_at dksX0_isTrunk_0 21 rfl rfl)
theorem dX0_isTrunk_22 : decode cX0_isTrunk 22 = .ok (.goto 4, 3) := dk_167 0 4 (dk_at dksX0_isTrunk_1 0 rfl rfl)
theorem dX0_isTrunk_25 : decode cX0_isTrunk 25 = .ok (.iconst 0, 1) := dk_3 (dk_at dksX0_isTrunk_1 3 rfl rfl)
theorem dX0_isTrunk_26 : decode cX0_isTrunk 26 = .ok (.ireturn, 1) := dk_172 (dk_at dksX0_isTrunk_1 4 rfl rfl)
abbrev cX0_brood : ByteArray := prog_1_method_14_code
def yX0_brood : MethodName := ⟨RX0, "brood", "(II)I"⟩
def dkwX0_brood_2 : List UInt8 := [42, 180, 0, 48, 27, 28, 182, 0, 201, 167, 0, 5, 18, 205, 172]
abbrev dktX0_brood_2 : List UInt8 := dkwX0_brood_2 ++ []
def dkwX0_brood_1 : List UInt8 := [180, 0, 59, 180, 0, 183, 27, 46, 42, 180, 0, 59, 180, 0, 183, 28, 46, 160, 0, 19, 42, 180, 0, 59]
abbrev dktX0_brood_1 : List UInt8 := dkwX0_brood_1 ++ dktX0_brood_2
def dkwX0_brood_0 : List UInt8 := [42, 27, 182, 0, 177, 153, 0, 53, 42, 28, 182, 0, 177, 153, 0, 45, 27, 28, 159, 0, 40, 42]
abbrev dktX0_brood_0 : List UInt8 := dkwX0_brood_0 ++ dktX0_brood_1
theorem dksX0_brood_0 : cX0_brood.data.toList.drop 0 = dktX0_brood_0 := by decide +kernel
theorem dksX0_brood_1 : cX0_brood.data.toList.drop 22 = dktX0_brood_1 := dk_seg dksX0_brood_0 22 rfl rfl
theorem dksX0_brood_2 : cX0_brood.data.toList.drop 46 = dktX0_brood_2 := dk_seg dksX0_brood_1 24 rfl rfl
theorem dX0_brood_0 : decode cX0_brood 0 = .ok (.aload_n 0, 1) := dk_42 (dk_at dksX0_brood_0 0 rfl rfl)
theorem dX0_brood_1 : decode cX0_brood 1 = .ok (.iload_n 1, 1) := dk_27 (dk_at dksX0_brood_0 1 rfl rfl)
theorem dX0_brood_2 : decode cX0_brood 2 = .ok (.invokevirtual 177, 3) := dk_182 0 177 (dk_at dksX0_brood_0 2 rfl rfl)
theorem dX0_brood_5 : decode cX0_brood 5 = .ok (.ifCond .eq 53, 3) := dk_153 0 53 (dk_at dksX0_brood_0 5 rfl rfl)
theorem dX0_brood_8 : decode cX0_brood 8 = .ok (.aload_n 0, 1) := dk_42 (dk_at dksX0_brood_0 8 rfl rfl)
theorem dX0_brood_9 : decode cX0_brood 9 = .ok (.iload_n 2, 1) := dk_28 (dk_at dksX0_brood_0 9 rfl rfl)
theorem dX0_brood_10 : decode cX0_brood 10 = .ok (.invokevirtual 177, 3) := dk_182 0 177 (dk_at dksX0_brood_0 10 rfl rfl)
theorem dX0_brood_13 : decode cX0_brood 13 = .ok (.ifCond .eq 45, 3) := dk_153 0 45 (dk_at dksX0_brood_0 13 rfl rfl)
theorem dX0_brood_16 : decode cX0_brood 16 = .ok (.iload_n 1, 1) := dk_27 (dk_at dksX0_brood_0 16 rfl rfl)
theorem dX0_brood_17 : decode cX0_brood 17 = .ok (.iload_n 2, 1) := dk_28 (dk_at dksX0_brood_0 17 rfl rfl)
theorem dX0_brood_18 : decode cX0_brood 18 = .ok (.if_icmp .eq 40, 3) := dk_159 0 40 (dk_at dksX0_brood_0 18 rfl rfl)
theorem dX0_brood_21 : decode cX0_brood 21 = .ok (.aload_n 0, 1) := dk_42 (dk_at dksX0_brood_0 21 rfl rfl)
theorem dX0_brood_22 : decode cX0_brood 22 = .ok (.getfield 59, 3) := dk_180 0 59 (dk_at dksX0_brood_1 0 rfl rfl)
theorem dX0_brood_25 : decode cX0_brood 25 = .ok (.getfield 183, 3) := dk_180 0 183 (dk_at dksX0_brood_1 3 rfl rfl)
theorem dX0_brood_28 : decode cX0_brood 28 = .ok (.iload_n 1, 1) := dk_27 (dk_at dksX0_brood_1 6 rfl rfl)
theorem dX0_brood_29 : decode cX0_brood 29 = .ok (.iaload, 1) := dk_46 (dk_at dksX0_brood_1 7 rfl rfl)
theorem dX0_brood_30 : decode cX0_brood 30 = .ok (.aload_n 0, 1) := dk_42 (dk_at dksX0_brood_1 8 rfl rfl)
theorem dX0_brood_31 : decode cX0_brood 31 = .ok (.getfield 59, 3) := dk_180 0 59 (dk_at dksX0_brood_1 9 rfl rfl)
theorem dX0_brood_34 : decode cX0_brood 34 = .ok (.getfield 183, 3) := dk_180 0 183 (dk_at dksX0_brood_1 12 rfl rfl)
theorem dX0_brood_37 : decode cX0_brood 37 = .ok (.iload_n 2, 1) := dk_28 (dk_at dksX0_brood_1 15 rfl rfl)
theorem dX0_brood_38 : decode cX0_brood 38 = .ok (.iaload, 1) := dk_46 (dk_at dksX0_brood_1 16 rfl rfl)
theorem dX0_brood_39 : decode cX0_brood 39 = .ok (.if_icmp .ne 19, 3) := dk_160 0 19 (dk_at dksX0_brood_1 17 rfl rfl)
theorem dX0_brood_42 : decode cX0_brood 42 = .ok (.aload_n 0, 1) := dk_42 (dk_at dksX0_brood_1 20 rfl rfl)
theorem dX0_brood_43 : decode cX0_brood 43 = .ok (.getfield 59, 3) := dk_180 0 59 (dk_at dksX0_brood_1 21 rfl rfl)
theorem dX0_brood_46 : decode cX0_brood 46 = .ok (.aload_n 0, 1) := dk_42 (dk_at dksX0_brood_2 0 rfl rfl)
theorem dX0_brood_47 : decode cX0_brood 47 = .ok (.getfield 48, 3) := dk_180 0 48 (dk_at dksX0_brood_2 1 rfl rfl)
theorem dX0_brood_50 : decode cX0_brood 50 = .ok (.iload_n 1, 1) := dk_27 (dk_at dksX0_brood_2 4 rfl rfl)
theorem dX0_brood_51 : decode cX0_brood 51 = .ok (.iload_n 2, 1) := dk_28 (dk_at dksX0_brood_2 5 rfl rfl)
theorem dX0_brood_52 : decode cX0_brood 52 = .ok (.invokevirtual 201, 3) := dk_182 0 201 (dk_at dksX0_brood_2 6 rfl rfl)
theorem dX0_brood_55 : decode cX0_brood 55 = .ok (.goto 5, 3) := dk_167 0 5 (dk_at dksX0_brood_2 9 rfl rfl)
theorem dX0_brood_58 : decode cX0_brood 58 = .ok (.ldc 205, 2) := dk_18 205 (dk_at dksX0_brood_2 12 rfl rfl)
theorem dX0_brood_60 : decode cX0_brood 60 = .ok (.ireturn, 1) := dk_172 (dk_at dksX0_brood_2 14 rfl rfl)
abbrev cX0_shared : ByteArray := prog_1_method_3_code
def yX0_shared : MethodName := ⟨RX0, "shared", "(II)I"⟩
def dkwX0_shared_0 : List UInt8 := [26, 27, 130, 2, 130, 16, 63, 126, 184, 0, 25, 172]
abbrev dktX0_shared_0 : List UInt8 := dkwX0_shared_0 ++ []
theorem dksX0_shared_0 : cX0_shared.data.toList.drop 0 = dktX0_shared_0 := by decide +kernel
theorem dX0_shared_0 : decode cX0_shared 0 = .ok (.iload_n 0, 1) := dk_26 (dk_at dksX0_shared_0 0 rfl rfl)
theorem dX0_shared_1 : decode cX0_shared 1 = .ok (.iload_n 1, 1) := dk_27 (dk_at dksX0_shared_0 1 rfl rfl)
theorem dX0_shared_2 : decode cX0_shared 2 = .ok (.ixor, 1) := dk_130 (dk_at dksX0_shared_0 2 rfl rfl)
theorem dX0_shared_3 : decode cX0_shared 3 = .ok (.iconst (-1), 1) := dk_2 (dk_at dksX0_shared_0 3 rfl rfl)
theorem dX0_shared_4 : decode cX0_shared 4 = .ok (.ixor, 1) := dk_130 (dk_at dksX0_shared_0 4 rfl rfl)
theorem dX0_shared_5 : decode cX0_shared 5 = .ok (.bipush 63, 2) := dk_16 63 (dk_at dksX0_shared_0 5 rfl rfl)
theorem dX0_shared_7 : decode cX0_shared 7 = .ok (.iand, 1) := dk_126 (dk_at dksX0_shared_0 7 rfl rfl)
theorem dX0_shared_8 : decode cX0_shared 8 = .ok (.invokestatic 25, 3) := dk_184 0 25 (dk_at dksX0_shared_0 8 rfl rfl)
theorem dX0_shared_11 : decode cX0_shared 11 = .ok (.ireturn, 1) := dk_172 (dk_at dksX0_shared_0 11 rfl rfl)
abbrev cX0_couple : ByteArray := prog_1_method_15_code
def yX0_couple : MethodName := ⟨RX0, "couple", "(I)I"⟩
def dkwX0_couple_0 : List UInt8 := [42, 27, 182, 0, 162, 153, 0, 14, 42, 180, 0, 59, 27, 182, 0, 206, 167, 0, 4, 2, 172]
abbrev dktX0_couple_0 : List UInt8 := dkwX0_couple_0 ++ []
theorem dksX0_couple_0 : cX0_couple.data.toList.drop 0 = dktX0_couple_0 := by decide +kernel
theorem dX0_couple_0 : decode cX0_couple 0 = .ok (.aload_n 0, 1) := dk_42 (dk_at dksX0_couple_0 0 rfl rfl)
theorem dX0_couple_1 : decode cX0_couple 1 = .ok (.iload_n 1, 1) := dk_27 (dk_at dksX0_couple_0 1 rfl rfl)
theorem dX0_couple_2 : decode cX0_couple 2 = .ok (.invokevirtual 162, 3) := dk_182 0 162 (dk_at dksX0_couple_0 2 rfl rfl)
theorem dX0_couple_5 : decode cX0_couple 5 = .ok (.ifCond .eq 14, 3) := dk_153 0 14 (dk_at dksX0_couple_0 5 rfl rfl)
theorem dX0_couple_8 : decode cX0_couple 8 = .ok (.aload_n 0, 1) := dk_42 (dk_at dksX0_couple_0 8 rfl rfl)
theorem dX0_couple_9 : decode cX0_couple 9 = .ok (.getfield 59, 3) := dk_180 0 59 (dk_at dksX0_couple_0 9 rfl rfl)
theorem dX0_couple_12 : decode cX0_couple 12 = .ok (.iload_n 1, 1) := dk_27 (dk_at dksX0_couple_0 12 rfl rfl)
theorem dX0_couple_13 : decode cX0_couple 13 = .ok (.invokevirtual 206, 3) := dk_182 0 206 (dk_at dksX0_couple_0 13 rfl rfl)
theorem dX0_couple_16 : decode cX0_couple 16 = .ok (.goto 4, 3) := dk_167 0 4 (dk_at dksX0_couple_0 16 rfl rfl)
theorem dX0_couple_19 : decode cX0_couple 19 = .ok (.iconst (-1), 1) := dk_2 (dk_at dksX0_couple_0 19 rfl rfl)
theorem dX0_couple_20 : decode cX0_couple 20 = .ok (.ireturn, 1) := dk_172 (dk_at dksX0_couple_0 20 rfl rfl)
abbrev cX0_ripe : ByteArray := prog_1_method_16_code
def yX0_ripe : MethodName := ⟨RX0, "ripe", "()I"⟩
def dkwX0_ripe_1 : List UInt8 := [182, 0, 209, 153, 0, 9, 4, 28, 120, 167, 0, 4, 3, 128, 60, 132, 2, 1, 167, 255, 220, 27, 172]
abbrev dktX0_ripe_1 : List UInt8 := dkwX0_ripe_1 ++ []
def dkwX0_ripe_0 : List UInt8 := [3, 60, 3, 61, 28, 42, 182, 0, 152, 162, 0, 34, 27, 42, 180, 0, 59, 42, 180, 0, 48, 28]
abbrev dktX0_ripe_0 : List UInt8 := dkwX0_ripe_0 ++ dktX0_ripe_1
theorem dksX0_ripe_0 : cX0_ripe.data.toList.drop 0 = dktX0_ripe_0 := by decide +kernel
theorem dksX0_ripe_1 : cX0_ripe.data.toList.drop 22 = dktX0_ripe_1 := dk_seg dksX0_ripe_0 22 rfl rfl
theorem dX0_ripe_0 : decode cX0_ripe 0 = .ok (.iconst 0, 1) := dk_3 (dk_at dksX0_ripe_0 0 rfl rfl)
theorem dX0_ripe_1 : decode cX0_ripe 1 = .ok (.istore_n 1, 1) := dk_60 (dk_at dksX0_ripe_0 1 rfl rfl)
theorem dX0_ripe_2 : decode cX0_ripe 2 = .ok (.iconst 0, 1) := dk_3 (dk_at dksX0_ripe_0 2 rfl rfl)
theorem dX0_ripe_3 : decode cX0_ripe 3 = .ok (.istore_n 2, 1) := dk_61 (dk_at dksX0_ripe_0 3 rfl rfl)
theorem dX0_ripe_4 : decode cX0_ripe 4 = .ok (.iload_n 2, 1) := dk_28 (dk_at dksX0_ripe_0 4 rfl rfl)
theorem dX0_ripe_5 : decode cX0_ripe 5 = .ok (.aload_n 0, 1) := dk_42 (dk_at dksX0_ripe_0 5 rfl rfl)
theorem dX0_ripe_6 : decode cX0_ripe 6 = .ok (.invokevirtual 152, 3) := dk_182 0 152 (dk_at dksX0_ripe_0 6 rfl rfl)
theorem dX0_ripe_9 : decode cX0_ripe 9 = .ok (.if_icmp .ge 34, 3) := dk_162 0 34 (dk_at dksX0_ripe_0 9 rfl rfl)
theorem dX0_ripe_12 : decode cX0_ripe 12 = .ok (.iload_n 1, 1) := dk_27 (dk_at dksX0_ripe_0 12 rfl rfl)
theorem dX0_ripe_13 : decode cX0_ripe 13 = .ok (.aload_n 0, 1) := dk_42 (dk_at dksX0_ripe_0 13 rfl rfl)
theorem dX0_ripe_14 : decode cX0_ripe 14 = .ok (.getfield 59, 3) := dk_180 0 59 (dk_at dksX0_ripe_0 14 rfl rfl)
theorem dX0_ripe_17 : decode cX0_ripe 17 = .ok (.aload_n 0, 1) := dk_42 (dk_at dksX0_ripe_0 17 rfl rfl)
theorem dX0_ripe_18 : decode cX0_ripe 18 = .ok (.getfield 48, 3) := dk_180 0 48 (dk_at dksX0_ripe_0 18 rfl rfl)
theorem dX0_ripe_21 : decode cX0_ripe 21 = .ok (.iload_n 2, 1) := dk_28 (dk_at dksX0_ripe_0 21 rfl rfl)
theorem dX0_ripe_22 : decode cX0_ripe 22 = .ok (.invokevirtual 209, 3) := dk_182 0 209 (dk_at dksX0_ripe_1 0 rfl rfl)
theorem dX0_ripe_25 : decode cX0_ripe 25 = .ok (.ifCond .eq 9, 3) := dk_153 0 9 (dk_at dksX0_ripe_1 3 rfl rfl)
theorem dX0_ripe_28 : decode cX0_ripe 28 = .ok (.iconst 1, 1) := dk_4 (dk_at dksX0_ripe_1 6 rfl rfl)
theorem dX0_ripe_29 : decode cX0_ripe 29 = .ok (.iload_n 2, 1) := dk_28 (dk_at dksX0_ripe_1 7 rfl rfl)
theorem dX0_ripe_30 : decode cX0_ripe 30 = .ok (.ishl, 1) := dk_120 (dk_at dksX0_ripe_1 8 rfl rfl)
theorem dX0_ripe_31 : decode cX0_ripe 31 = .ok (.goto 4, 3) := dk_167 0 4 (dk_at dksX0_ripe_1 9 rfl rfl)
theorem dX0_ripe_34 : decode cX0_ripe 34 = .ok (.iconst 0, 1) := dk_3 (dk_at dksX0_ripe_1 12 rfl rfl)
theorem dX0_ripe_35 : decode cX0_ripe 35 = .ok (.ior, 1) := dk_128 (dk_at dksX0_ripe_1 13 rfl rfl)
theorem dX0_ripe_36 : decode cX0_ripe 36 = .ok (.istore_n 1, 1) := dk_60 (dk_at dksX0_ripe_1 14 rfl rfl)
theorem dX0_ripe_37 : decode cX0_ripe 37 = .ok (.iinc 2 1, 3) := dk_132 2 1 (dk_at dksX0_ripe_1 15 rfl rfl)
theorem dX0_ripe_40 : decode cX0_ripe 40 = .ok (.goto (-36), 3) := dk_167 255 220 (dk_at dksX0_ripe_1 18 rfl rfl)
theorem dX0_ripe_43 : decode cX0_ripe 43 = .ok (.iload_n 1, 1) := dk_27 (dk_at dksX0_ripe_1 21 rfl rfl)
theorem dX0_ripe_44 : decode cX0_ripe 44 = .ok (.ireturn, 1) := dk_172 (dk_at dksX0_ripe_1 22 rfl rfl)
abbrev cX0_year : ByteArray := prog_1_method_19_code
def yX0_year : MethodName := ⟨RX0, "year", "()I"⟩
def dkwX0_year_1 : List UInt8 := [180, 0, 48, 182, 0, 229, 172]
abbrev dktX0_year_1 : List UInt8 := dkwX0_year_1 ++ []
def dkwX0_year_0 : List UInt8 := [42, 180, 0, 59, 180, 0, 223, 17, 3, 231, 160, 0, 5, 2, 172, 42, 182, 0, 226, 42, 180, 0, 59, 42]
abbrev dktX0_year_0 : List UInt8 := dkwX0_year_0 ++ dktX0_year_1
theorem dksX0_year_0 : cX0_year.data.toList.drop 0 = dktX0_year_0 := by decide +kernel
theorem dksX0_year_1 : cX0_year.data.toList.drop 24 = dktX0_year_1 := dk_seg dksX0_year_0 24 rfl rfl
theorem dX0_year_0 : decode cX0_year 0 = .ok (.aload_n 0, 1) := dk_42 (dk_at dksX0_year_0 0 rfl rfl)
theorem dX0_year_1 : decode cX0_year 1 = .ok (.getfield 59, 3) := dk_180 0 59 (dk_at dksX0_year_0 1 rfl rfl)
theorem dX0_year_4 : decode cX0_year 4 = .ok (.getfield 223, 3) := dk_180 0 223 (dk_at dksX0_year_0 4 rfl rfl)
theorem dX0_year_7 : decode cX0_year 7 = .ok (.sipush 999, 3) := dk_17 3 231 (dk_at dksX0_year_0 7 rfl rfl)
theorem dX0_year_10 : decode cX0_year 10 = .ok (.if_icmp .ne 5, 3) := dk_160 0 5 (dk_at dksX0_year_0 10 rfl rfl)
theorem dX0_year_13 : decode cX0_year 13 = .ok (.iconst (-1), 1) := dk_2 (dk_at dksX0_year_0 13 rfl rfl)
theorem dX0_year_14 : decode cX0_year 14 = .ok (.ireturn, 1) := dk_172 (dk_at dksX0_year_0 14 rfl rfl)
theorem dX0_year_15 : decode cX0_year 15 = .ok (.aload_n 0, 1) := dk_42 (dk_at dksX0_year_0 15 rfl rfl)
theorem dX0_year_16 : decode cX0_year 16 = .ok (.invokevirtual 226, 3) := dk_182 0 226 (dk_at dksX0_year_0 16 rfl rfl)
theorem dX0_year_19 : decode cX0_year 19 = .ok (.aload_n 0, 1) := dk_42 (dk_at dksX0_year_0 19 rfl rfl)
theorem dX0_year_20 : decode cX0_year 20 = .ok (.getfield 59, 3) := dk_180 0 59 (dk_at dksX0_year_0 20 rfl rfl)
theorem dX0_year_23 : decode cX0_year 23 = .ok (.aload_n 0, 1) := dk_42 (dk_at dksX0_year_0 23 rfl rfl)
theorem dX0_year_24 : decode cX0_year 24 = .ok (.getfield 48, 3) := dk_180 0 48 (dk_at dksX0_year_1 0 rfl rfl)
theorem dX0_year_27 : decode cX0_year 27 = .ok (.invokevirtual 229, 3) := dk_182 0 229 (dk_at dksX0_year_1 3 rfl rfl)
theorem dX0_year_30 : decode cX0_year 30 = .ok (.ireturn, 1) := dk_172 (dk_at dksX0_year_1 6 rfl rfl)
abbrev cX0_act : ByteArray := prog_1_method_17_code
def yX0_act : MethodName := ⟨RX0, "act", "()V"⟩
def dkwX0_act_3 : List UInt8 := [180, 0, 123, 4, 96, 181, 0, 123, 42, 3, 181, 0, 126, 177]
abbrev dktX0_act_3 : List UInt8 := dkwX0_act_3 ++ []
def dkwX0_act_2 : List UInt8 := [181, 0, 123, 42, 180, 0, 69, 42, 180, 0, 123, 50, 42, 180, 0, 59, 182, 0, 219, 87, 42, 89]
abbrev dktX0_act_2 : List UInt8 := dkwX0_act_2 ++ dktX0_act_3
def dkwX0_act_1 : List UInt8 := [180, 0, 69, 3, 16, 39, 184, 0, 213, 42, 180, 0, 69, 16, 39, 43, 83, 42, 89, 180, 0, 123, 4, 100]
abbrev dktX0_act_1 : List UInt8 := dkwX0_act_1 ++ dktX0_act_2
def dkwX0_act_0 : List UInt8 := [42, 180, 0, 123, 16, 40, 160, 0, 43, 42, 180, 0, 69, 3, 50, 76, 42, 180, 0, 69, 4, 42]
abbrev dktX0_act_0 : List UInt8 := dkwX0_act_0 ++ dktX0_act_1
theorem dksX0_act_0 : cX0_act.data.toList.drop 0 = dktX0_act_0 := by decide +kernel
theorem dksX0_act_1 : cX0_act.data.toList.drop 22 = dktX0_act_1 := dk_seg dksX0_act_0 22 rfl rfl
theorem dksX0_act_2 : cX0_act.data.toList.drop 46 = dktX0_act_2 := dk_seg dksX0_act_1 24 rfl rfl
theorem dksX0_act_3 : cX0_act.data.toList.drop 68 = dktX0_act_3 := dk_seg dksX0_act_2 22 rfl rfl
theorem dX0_act_0 : decode cX0_act 0 = .ok (.aload_n 0, 1) := dk_42 (dk_at dksX0_act_0 0 rfl rfl)
theorem dX0_act_1 : decode cX0_act 1 = .ok (.getfield 123, 3) := dk_180 0 123 (dk_at dksX0_act_0 1 rfl rfl)
theorem dX0_act_4 : decode cX0_act 4 = .ok (.bipush 40, 2) := dk_16 40 (dk_at dksX0_act_0 4 rfl rfl)
theorem dX0_act_6 : decode cX0_act 6 = .ok (.if_icmp .ne 43, 3) := dk_160 0 43 (dk_at dksX0_act_0 6 rfl rfl)
theorem dX0_act_9 : decode cX0_act 9 = .ok (.aload_n 0, 1) := dk_42 (dk_at dksX0_act_0 9 rfl rfl)
theorem dX0_act_10 : decode cX0_act 10 = .ok (.getfield 69, 3) := dk_180 0 69 (dk_at dksX0_act_0 10 rfl rfl)
theorem dX0_act_13 : decode cX0_act 13 = .ok (.iconst 0, 1) := dk_3 (dk_at dksX0_act_0 13 rfl rfl)
theorem dX0_act_14 : decode cX0_act 14 = .ok (.aaload, 1) := dk_50 (dk_at dksX0_act_0 14 rfl rfl)
theorem dX0_act_15 : decode cX0_act 15 = .ok (.astore_n 1, 1) := dk_76 (dk_at dksX0_act_0 15 rfl rfl)
theorem dX0_act_16 : decode cX0_act 16 = .ok (.aload_n 0, 1) := dk_42 (dk_at dksX0_act_0 16 rfl rfl)
theorem dX0_act_17 : decode cX0_act 17 = .ok (.getfield 69, 3) := dk_180 0 69 (dk_at dksX0_act_0 17 rfl rfl)
theorem dX0_act_20 : decode cX0_act 20 = .ok (.iconst 1, 1) := dk_4 (dk_at dksX0_act_0 20 rfl rfl)
theorem dX0_act_21 : decode cX0_act 21 = .ok (.aload_n 0, 1) := dk_42 (dk_at dksX0_act_0 21 rfl rfl)
theorem dX0_act_22 : decode cX0_act 22 = .ok (.getfield 69, 3) := dk_180 0 69 (dk_at dksX0_act_1 0 rfl rfl)
theorem dX0_act_25 : decode cX0_act 25 = .ok (.iconst 0, 1) := dk_3 (dk_at dksX0_act_1 3 rfl rfl)
theorem dX0_act_26 : decode cX0_act 26 = .ok (.bipush 39, 2) := dk_16 39 (dk_at dksX0_act_1 4 rfl rfl)
theorem dX0_act_28 : decode cX0_act 28 = .ok (.invokestatic 213, 3) := dk_184 0 213 (dk_at dksX0_act_1 6 rfl rfl)
theorem dX0_act_31 : decode cX0_act 31 = .ok (.aload_n 0, 1) := dk_42 (dk_at dksX0_act_1 9 rfl rfl)
theorem dX0_act_32 : decode cX0_act 32 = .ok (.getfield 69, 3) := dk_180 0 69 (dk_at dksX0_act_1 10 rfl rfl)
theorem dX0_act_35 : decode cX0_act 35 = .ok (.bipush 39, 2) := dk_16 39 (dk_at dksX0_act_1 13 rfl rfl)
theorem dX0_act_37 : decode cX0_act 37 = .ok (.aload_n 1, 1) := dk_43 (dk_at dksX0_act_1 15 rfl rfl)
theorem dX0_act_38 : decode cX0_act 38 = .ok (.aastore, 1) := dk_83 (dk_at dksX0_act_1 16 rfl rfl)
theorem dX0_act_39 : decode cX0_act 39 = .ok (.aload_n 0, 1) := dk_42 (dk_at dksX0_act_1 17 rfl rfl)
theorem dX0_act_40 : decode cX0_act 40 = .ok (.dup, 1) := dk_89 (dk_at dksX0_act_1 18 rfl rfl)
theorem dX0_act_41 : decode cX0_act 41 = .ok (.getfield 123, 3) := dk_180 0 123 (dk_at dksX0_act_1 19 rfl rfl)
theorem dX0_act_44 : decode cX0_act 44 = .ok (.iconst 1, 1) := dk_4 (dk_at dksX0_act_1 22 rfl rfl)
theorem dX0_act_45 : decode cX0_act 45 = .ok (.isub, 1) := dk_100 (dk_at dksX0_act_1 23 rfl rfl)
theorem dX0_act_46 : decode cX0_act 46 = .ok (.putfield 123, 3) := dk_181 0 123 (dk_at dksX0_act_2 0 rfl rfl)
theorem dX0_act_49 : decode cX0_act 49 = .ok (.aload_n 0, 1) := dk_42 (dk_at dksX0_act_2 3 rfl rfl)
theorem dX0_act_50 : decode cX0_act 50 = .ok (.getfield 69, 3) := dk_180 0 69 (dk_at dksX0_act_2 4 rfl rfl)
theorem dX0_act_53 : decode cX0_act 53 = .ok (.aload_n 0, 1) := dk_42 (dk_at dksX0_act_2 7 rfl rfl)
theorem dX0_act_54 : decode cX0_act 54 = .ok (.getfield 123, 3) := dk_180 0 123 (dk_at dksX0_act_2 8 rfl rfl)
theorem dX0_act_57 : decode cX0_act 57 = .ok (.aaload, 1) := dk_50 (dk_at dksX0_act_2 11 rfl rfl)
theorem dX0_act_58 : decode cX0_act 58 = .ok (.aload_n 0, 1) := dk_42 (dk_at dksX0_act_2 12 rfl rfl)
theorem dX0_act_59 : decode cX0_act 59 = .ok (.getfield 59, 3) := dk_180 0 59 (dk_at dksX0_act_2 13 rfl rfl)
theorem dX0_act_62 : decode cX0_act 62 = .ok (.invokevirtual 219, 3) := dk_182 0 219 (dk_at dksX0_act_2 16 rfl rfl)
theorem dX0_act_65 : decode cX0_act 65 = .ok (.pop, 1) := dk_87 (dk_at dksX0_act_2 19 rfl rfl)
theorem dX0_act_66 : decode cX0_act 66 = .ok (.aload_n 0, 1) := dk_42 (dk_at dksX0_act_2 20 rfl rfl)
theorem dX0_act_67 : decode cX0_act 67 = .ok (.dup, 1) := dk_89 (dk_at dksX0_act_2 21 rfl rfl)
theorem dX0_act_68 : decode cX0_act 68 = .ok (.getfield 123, 3) := dk_180 0 123 (dk_at dksX0_act_3 0 rfl rfl)
theorem dX0_act_71 : decode cX0_act 71 = .ok (.iconst 1, 1) := dk_4 (dk_at dksX0_act_3 3 rfl rfl)
theorem dX0_act_72 : decode cX0_act 72 = .ok (.iadd, 1) := dk_96 (dk_at dksX0_act_3 4 rfl rfl)
theorem dX0_act_73 : decode cX0_act 73 = .ok (.putfield 123, 3) := dk_181 0 123 (dk_at dksX0_act_3 5 rfl rfl)
theorem dX0_act_76 : decode cX0_act 76 = .ok (.aload_n 0, 1) := dk_42 (dk_at dksX0_act_3 8 rfl rfl)
theorem dX0_act_77 : decode cX0_act 77 = .ok (.iconst 0, 1) := dk_3 (dk_at dksX0_act_3 9 rfl rfl)
theorem dX0_act_78 : decode cX0_act 78 = .ok (.putfield 126, 3) := dk_181 0 126 (dk_at dksX0_act_3 10 rfl rfl)
theorem dX0_act_81 : decode cX0_act 81 = .ok (.return_, 1) := dk_177 (dk_at dksX0_act_3 13 rfl rfl)
abbrev cX0_carry : ByteArray := prog_1_method_20_code
def yX0_carry : MethodName := ⟨RX0, "carry", "(II)I"⟩
def dkwX0_carry_3 : List UInt8 := [180, 0, 59, 180, 0, 183, 27, 28, 79, 29, 172]
abbrev dktX0_carry_3 : List UInt8 := dkwX0_carry_3 ++ []
def dkwX0_carry_2 : List UInt8 := [27, 46, 162, 0, 5, 2, 172, 42, 182, 0, 226, 42, 180, 0, 59, 180, 0, 183, 27, 46, 62, 42]
abbrev dktX0_carry_2 : List UInt8 := dkwX0_carry_2 ++ dktX0_carry_3
def dkwX0_carry_1 : List UInt8 := [46, 28, 159, 0, 27, 42, 180, 0, 59, 42, 180, 0, 48, 28, 182, 0, 170, 42, 180, 0, 59, 180, 0, 180]
abbrev dktX0_carry_1 : List UInt8 := dkwX0_carry_1 ++ dktX0_carry_2
def dkwX0_carry_0 : List UInt8 := [42, 27, 182, 0, 177, 153, 0, 48, 42, 28, 182, 0, 162, 153, 0, 40, 42, 180, 0, 59, 180, 0, 183, 27]
abbrev dktX0_carry_0 : List UInt8 := dkwX0_carry_0 ++ dktX0_carry_1
theorem dksX0_carry_0 : cX0_carry.data.toList.drop 0 = dktX0_carry_0 := by decide +kernel
theorem dksX0_carry_1 : cX0_carry.data.toList.drop 24 = dktX0_carry_1 := dk_seg dksX0_carry_0 24 rfl rfl
theorem dksX0_carry_2 : cX0_carry.data.toList.drop 48 = dktX0_carry_2 := dk_seg dksX0_carry_1 24 rfl rfl
theorem dksX0_carry_3 : cX0_carry.data.toList.drop 70 = dktX0_carry_3 := dk_seg dksX0_carry_2 22 rfl rfl
theorem dX0_carry_0 : decode cX0_carry 0 = .ok (.aload_n 0, 1) := dk_42 (dk_at dksX0_carry_0 0 rfl rfl)
theorem dX0_carry_1 : decode cX0_carry 1 = .ok (.iload_n 1, 1) := dk_27 (dk_at dksX0_carry_0 1 rfl rfl)
theorem dX0_carry_2 : decode cX0_carry 2 = .ok (.invokevirtual 177, 3) := dk_182 0 177 (dk_at dksX0_carry_0 2 rfl rfl)
theorem dX0_carry_5 : decode cX0_carry 5 = .ok (.ifCond .eq 48, 3) := dk_153 0 48 (dk_at dksX0_carry_0 5 rfl rfl)
theorem dX0_carry_8 : decode cX0_carry 8 = .ok (.aload_n 0, 1) := dk_42 (dk_at dksX0_carry_0 8 rfl rfl)
theorem dX0_carry_9 : decode cX0_carry 9 = .ok (.iload_n 2, 1) := dk_28 (dk_at dksX0_carry_0 9 rfl rfl)
theorem dX0_carry_10 : decode cX0_carry 10 = .ok (.invokevirtual 162, 3) := dk_182 0 162 (dk_at dksX0_carry_0 10 rfl rfl)
theorem dX0_carry_13 : decode cX0_carry 13 = .ok (.ifCond .eq 40, 3) := dk_153 0 40 (dk_at dksX0_carry_0 13 rfl rfl)
theorem dX0_carry_16 : decode cX0_carry 16 = .ok (.aload_n 0, 1) := dk_42 (dk_at dksX0_carry_0 16 rfl rfl)
theorem dX0_carry_17 : decode cX0_carry 17 = .ok (.getfield 59, 3) := dk_180 0 59 (dk_at dksX0_carry_0 17 rfl rfl)
theorem dX0_carry_20 : decode cX0_carry 20 = .ok (.getfield 183, 3) := dk_180 0 183 (dk_at dksX0_carry_0 20 rfl rfl)
theorem dX0_carry_23 : decode cX0_carry 23 = .ok (.iload_n 1, 1) := dk_27 (dk_at dksX0_carry_0 23 rfl rfl)
theorem dX0_carry_24 : decode cX0_carry 24 = .ok (.iaload, 1) := dk_46 (dk_at dksX0_carry_1 0 rfl rfl)
theorem dX0_carry_25 : decode cX0_carry 25 = .ok (.iload_n 2, 1) := dk_28 (dk_at dksX0_carry_1 1 rfl rfl)
theorem dX0_carry_26 : decode cX0_carry 26 = .ok (.if_icmp .eq 27, 3) := dk_159 0 27 (dk_at dksX0_carry_1 2 rfl rfl)
theorem dX0_carry_29 : decode cX0_carry 29 = .ok (.aload_n 0, 1) := dk_42 (dk_at dksX0_carry_1 5 rfl rfl)
theorem dX0_carry_30 : decode cX0_carry 30 = .ok (.getfield 59, 3) := dk_180 0 59 (dk_at dksX0_carry_1 6 rfl rfl)
theorem dX0_carry_33 : decode cX0_carry 33 = .ok (.aload_n 0, 1) := dk_42 (dk_at dksX0_carry_1 9 rfl rfl)
theorem dX0_carry_34 : decode cX0_carry 34 = .ok (.getfield 48, 3) := dk_180 0 48 (dk_at dksX0_carry_1 10 rfl rfl)
theorem dX0_carry_37 : decode cX0_carry 37 = .ok (.iload_n 2, 1) := dk_28 (dk_at dksX0_carry_1 13 rfl rfl)
theorem dX0_carry_38 : decode cX0_carry 38 = .ok (.invokevirtual 170, 3) := dk_182 0 170 (dk_at dksX0_carry_1 14 rfl rfl)
theorem dX0_carry_41 : decode cX0_carry 41 = .ok (.aload_n 0, 1) := dk_42 (dk_at dksX0_carry_1 17 rfl rfl)
theorem dX0_carry_42 : decode cX0_carry 42 = .ok (.getfield 59, 3) := dk_180 0 59 (dk_at dksX0_carry_1 18 rfl rfl)
theorem dX0_carry_45 : decode cX0_carry 45 = .ok (.getfield 180, 3) := dk_180 0 180 (dk_at dksX0_carry_1 21 rfl rfl)
theorem dX0_carry_48 : decode cX0_carry 48 = .ok (.iload_n 1, 1) := dk_27 (dk_at dksX0_carry_2 0 rfl rfl)
theorem dX0_carry_49 : decode cX0_carry 49 = .ok (.iaload, 1) := dk_46 (dk_at dksX0_carry_2 1 rfl rfl)
theorem dX0_carry_50 : decode cX0_carry 50 = .ok (.if_icmp .ge 5, 3) := dk_162 0 5 (dk_at dksX0_carry_2 2 rfl rfl)
theorem dX0_carry_53 : decode cX0_carry 53 = .ok (.iconst (-1), 1) := dk_2 (dk_at dksX0_carry_2 5 rfl rfl)
theorem dX0_carry_54 : decode cX0_carry 54 = .ok (.ireturn, 1) := dk_172 (dk_at dksX0_carry_2 6 rfl rfl)
theorem dX0_carry_55 : decode cX0_carry 55 = .ok (.aload_n 0, 1) := dk_42 (dk_at dksX0_carry_2 7 rfl rfl)
theorem dX0_carry_56 : decode cX0_carry 56 = .ok (.invokevirtual 226, 3) := dk_182 0 226 (dk_at dksX0_carry_2 8 rfl rfl)
theorem dX0_carry_59 : decode cX0_carry 59 = .ok (.aload_n 0, 1) := dk_42 (dk_at dksX0_carry_2 11 rfl rfl)
theorem dX0_carry_60 : decode cX0_carry 60 = .ok (.getfield 59, 3) := dk_180 0 59 (dk_at dksX0_carry_2 12 rfl rfl)
theorem dX0_carry_63 : decode cX0_carry 63 = .ok (.getfield 183, 3) := dk_180 0 183 (dk_at dksX0_carry_2 15 rfl rfl)
theorem dX0_carry_66 : decode cX0_carry 66 = .ok (.iload_n 1, 1) := dk_27 (dk_at dksX0_carry_2 18 rfl rfl)
theorem dX0_carry_67 : decode cX0_carry 67 = .ok (.iaload, 1) := dk_46 (dk_at dksX0_carry_2 19 rfl rfl)
theorem dX0_carry_68 : decode cX0_carry 68 = .ok (.istore_n 3, 1) := dk_62 (dk_at dksX0_carry_2 20 rfl rfl)
theorem dX0_carry_69 : decode cX0_carry 69 = .ok (.aload_n 0, 1) := dk_42 (dk_at dksX0_carry_2 21 rfl rfl)
theorem dX0_carry_70 : decode cX0_carry 70 = .ok (.getfield 59, 3) := dk_180 0 59 (dk_at dksX0_carry_3 0 rfl rfl)
theorem dX0_carry_73 : decode cX0_carry 73 = .ok (.getfield 183, 3) := dk_180 0 183 (dk_at dksX0_carry_3 3 rfl rfl)
theorem dX0_carry_76 : decode cX0_carry 76 = .ok (.iload_n 1, 1) := dk_27 (dk_at dksX0_carry_3 6 rfl rfl)
theorem dX0_carry_77 : decode cX0_carry 77 = .ok (.iload_n 2, 1) := dk_28 (dk_at dksX0_carry_3 7 rfl rfl)
theorem dX0_carry_78 : decode cX0_carry 78 = .ok (.iastore, 1) := dk_79 (dk_at dksX0_carry_3 8 rfl rfl)
theorem dX0_carry_79 : decode cX0_carry 79 = .ok (.iload_n 3, 1) := dk_29 (dk_at dksX0_carry_3 9 rfl rfl)
theorem dX0_carry_80 : decode cX0_carry 80 = .ok (.ireturn, 1) := dk_172 (dk_at dksX0_carry_3 10 rfl rfl)
abbrev cX0_tell : ByteArray := prog_1_method_21_code
def yX0_tell : MethodName := ⟨RX0, "tell", "(I)I"⟩
def dkwX0_tell_3 : List UInt8 := [180, 0, 189, 27, 46, 172]
abbrev dktX0_tell_3 : List UInt8 := dkwX0_tell_3 ++ []
def dkwX0_tell_2 : List UInt8 := [4, 100, 181, 0, 233, 42, 180, 0, 59, 180, 0, 189, 27, 92, 46, 4, 96, 79, 42, 180, 0, 59]
abbrev dktX0_tell_2 : List UInt8 := dkwX0_tell_2 ++ dktX0_tell_3
def dkwX0_tell_1 : List UInt8 := [180, 0, 189, 27, 46, 16, 9, 160, 0, 5, 2, 172, 42, 182, 0, 226, 42, 180, 0, 59, 89, 180, 0, 233]
abbrev dktX0_tell_1 : List UInt8 := dkwX0_tell_1 ++ dktX0_tell_2
def dkwX0_tell_0 : List UInt8 := [42, 27, 182, 0, 177, 153, 0, 27, 42, 180, 0, 59, 180, 0, 233, 153, 0, 17, 42, 180, 0, 59]
abbrev dktX0_tell_0 : List UInt8 := dkwX0_tell_0 ++ dktX0_tell_1
theorem dksX0_tell_0 : cX0_tell.data.toList.drop 0 = dktX0_tell_0 := by decide +kernel
theorem dksX0_tell_1 : cX0_tell.data.toList.drop 22 = dktX0_tell_1 := dk_seg dksX0_tell_0 22 rfl rfl
theorem dksX0_tell_2 : cX0_tell.data.toList.drop 46 = dktX0_tell_2 := dk_seg dksX0_tell_1 24 rfl rfl
theorem dksX0_tell_3 : cX0_tell.data.toList.drop 68 = dktX0_tell_3 := dk_seg dksX0_tell_2 22 rfl rfl
theorem dX0_tell_0 : decode cX0_tell 0 = .ok (.aload_n 0, 1) := dk_42 (dk_at dksX0_tell_0 0 rfl rfl)
theorem dX0_tell_1 : decode cX0_tell 1 = .ok (.iload_n 1, 1) := dk_27 (dk_at dksX0_tell_0 1 rfl rfl)
theorem dX0_tell_2 : decode cX0_tell 2 = .ok (.invokevirtual 177, 3) := dk_182 0 177 (dk_at dksX0_tell_0 2 rfl rfl)
theorem dX0_tell_5 : decode cX0_tell 5 = .ok (.ifCond .eq 27, 3) := dk_153 0 27 (dk_at dksX0_tell_0 5 rfl rfl)
theorem dX0_tell_8 : decode cX0_tell 8 = .ok (.aload_n 0, 1) := dk_42 (dk_at dksX0_tell_0 8 rfl rfl)
theorem dX0_tell_9 : decode cX0_tell 9 = .ok (.getfield 59, 3) := dk_180 0 59 (dk_at dksX0_tell_0 9 rfl rfl)
theorem dX0_tell_12 : decode cX0_tell 12 = .ok (.getfield 233, 3) := dk_180 0 233 (dk_at dksX0_tell_0 12 rfl rfl)
theorem dX0_tell_15 : decode cX0_tell 15 = .ok (.ifCond .eq 17, 3) := dk_153 0 17 (dk_at dksX0_tell_0 15 rfl rfl)
theorem dX0_tell_18 : decode cX0_tell 18 = .ok (.aload_n 0, 1) := dk_42 (dk_at dksX0_tell_0 18 rfl rfl)
theorem dX0_tell_19 : decode cX0_tell 19 = .ok (.getfield 59, 3) := dk_180 0 59 (dk_at dksX0_tell_0 19 rfl rfl)
theorem dX0_tell_22 : decode cX0_tell 22 = .ok (.getfield 189, 3) := dk_180 0 189 (dk_at dksX0_tell_1 0 rfl rfl)
theorem dX0_tell_25 : decode cX0_tell 25 = .ok (.iload_n 1, 1) := dk_27 (dk_at dksX0_tell_1 3 rfl rfl)
theorem dX0_tell_26 : decode cX0_tell 26 = .ok (.iaload, 1) := dk_46 (dk_at dksX0_tell_1 4 rfl rfl)
theorem dX0_tell_27 : decode cX0_tell 27 = .ok (.bipush 9, 2) := dk_16 9 (dk_at dksX0_tell_1 5 rfl rfl)
theorem dX0_tell_29 : decode cX0_tell 29 = .ok (.if_icmp .ne 5, 3) := dk_160 0 5 (dk_at dksX0_tell_1 7 rfl rfl)
theorem dX0_tell_32 : decode cX0_tell 32 = .ok (.iconst (-1), 1) := dk_2 (dk_at dksX0_tell_1 10 rfl rfl)
theorem dX0_tell_33 : decode cX0_tell 33 = .ok (.ireturn, 1) := dk_172 (dk_at dksX0_tell_1 11 rfl rfl)
theorem dX0_tell_34 : decode cX0_tell 34 = .ok (.aload_n 0, 1) := dk_42 (dk_at dksX0_tell_1 12 rfl rfl)
theorem dX0_tell_35 : decode cX0_tell 35 = .ok (.invokevirtual 226, 3) := dk_182 0 226 (dk_at dksX0_tell_1 13 rfl rfl)
theorem dX0_tell_38 : decode cX0_tell 38 = .ok (.aload_n 0, 1) := dk_42 (dk_at dksX0_tell_1 16 rfl rfl)
theorem dX0_tell_39 : decode cX0_tell 39 = .ok (.getfield 59, 3) := dk_180 0 59 (dk_at dksX0_tell_1 17 rfl rfl)
theorem dX0_tell_42 : decode cX0_tell 42 = .ok (.dup, 1) := dk_89 (dk_at dksX0_tell_1 20 rfl rfl)
theorem dX0_tell_43 : decode cX0_tell 43 = .ok (.getfield 233, 3) := dk_180 0 233 (dk_at dksX0_tell_1 21 rfl rfl)
theorem dX0_tell_46 : decode cX0_tell 46 = .ok (.iconst 1, 1) := dk_4 (dk_at dksX0_tell_2 0 rfl rfl)
theorem dX0_tell_47 : decode cX0_tell 47 = .ok (.isub, 1) := dk_100 (dk_at dksX0_tell_2 1 rfl rfl)
theorem dX0_tell_48 : decode cX0_tell 48 = .ok (.putfield 233, 3) := dk_181 0 233 (dk_at dksX0_tell_2 2 rfl rfl)
theorem dX0_tell_51 : decode cX0_tell 51 = .ok (.aload_n 0, 1) := dk_42 (dk_at dksX0_tell_2 5 rfl rfl)
theorem dX0_tell_52 : decode cX0_tell 52 = .ok (.getfield 59, 3) := dk_180 0 59 (dk_at dksX0_tell_2 6 rfl rfl)
theorem dX0_tell_55 : decode cX0_tell 55 = .ok (.getfield 189, 3) := dk_180 0 189 (dk_at dksX0_tell_2 9 rfl rfl)
theorem dX0_tell_58 : decode cX0_tell 58 = .ok (.iload_n 1, 1) := dk_27 (dk_at dksX0_tell_2 12 rfl rfl)
theorem dX0_tell_59 : decode cX0_tell 59 = .ok (.dup2, 1) := dk_92 (dk_at dksX0_tell_2 13 rfl rfl)
theorem dX0_tell_60 : decode cX0_tell 60 = .ok (.iaload, 1) := dk_46 (dk_at dksX0_tell_2 14 rfl rfl)
theorem dX0_tell_61 : decode cX0_tell 61 = .ok (.iconst 1, 1) := dk_4 (dk_at dksX0_tell_2 15 rfl rfl)
theorem dX0_tell_62 : decode cX0_tell 62 = .ok (.iadd, 1) := dk_96 (dk_at dksX0_tell_2 16 rfl rfl)
theorem dX0_tell_63 : decode cX0_tell 63 = .ok (.iastore, 1) := dk_79 (dk_at dksX0_tell_2 17 rfl rfl)
theorem dX0_tell_64 : decode cX0_tell 64 = .ok (.aload_n 0, 1) := dk_42 (dk_at dksX0_tell_2 18 rfl rfl)
theorem dX0_tell_65 : decode cX0_tell 65 = .ok (.getfield 59, 3) := dk_180 0 59 (dk_at dksX0_tell_2 19 rfl rfl)
theorem dX0_tell_68 : decode cX0_tell 68 = .ok (.getfield 189, 3) := dk_180 0 189 (dk_at dksX0_tell_3 0 rfl rfl)
theorem dX0_tell_71 : decode cX0_tell 71 = .ok (.iload_n 1, 1) := dk_27 (dk_at dksX0_tell_3 3 rfl rfl)
theorem dX0_tell_72 : decode cX0_tell 72 = .ok (.iaload, 1) := dk_46 (dk_at dksX0_tell_3 4 rfl rfl)
theorem dX0_tell_73 : decode cX0_tell 73 = .ok (.ireturn, 1) := dk_172 (dk_at dksX0_tell_3 5 rfl rfl)
abbrev cX0_lose : ByteArray := prog_1_method_22_code
def yX0_lose : MethodName := ⟨RX0, "lose", "(I)I"⟩
def dkwX0_lose_1 : List UInt8 := [42, 180, 0, 59, 27, 182, 0, 235, 28, 172]
abbrev dktX0_lose_1 : List UInt8 := dkwX0_lose_1 ++ []
def dkwX0_lose_0 : List UInt8 := [42, 27, 182, 0, 177, 154, 0, 5, 2, 172, 42, 182, 0, 226, 42, 180, 0, 59, 180, 0, 180, 27, 46, 61]
abbrev dktX0_lose_0 : List UInt8 := dkwX0_lose_0 ++ dktX0_lose_1
theorem dksX0_lose_0 : cX0_lose.data.toList.drop 0 = dktX0_lose_0 := by decide +kernel
theorem dksX0_lose_1 : cX0_lose.data.toList.drop 24 = dktX0_lose_1 := dk_seg dksX0_lose_0 24 rfl rfl
theorem dX0_lose_0 : decode cX0_lose 0 = .ok (.aload_n 0, 1) := dk_42 (dk_at dksX0_lose_0 0 rfl rfl)
theorem dX0_lose_1 : decode cX0_lose 1 = .ok (.iload_n 1, 1) := dk_27 (dk_at dksX0_lose_0 1 rfl rfl)
theorem dX0_lose_2 : decode cX0_lose 2 = .ok (.invokevirtual 177, 3) := dk_182 0 177 (dk_at dksX0_lose_0 2 rfl rfl)
theorem dX0_lose_5 : decode cX0_lose 5 = .ok (.ifCond .ne 5, 3) := dk_154 0 5 (dk_at dksX0_lose_0 5 rfl rfl)
theorem dX0_lose_8 : decode cX0_lose 8 = .ok (.iconst (-1), 1) := dk_2 (dk_at dksX0_lose_0 8 rfl rfl)
theorem dX0_lose_9 : decode cX0_lose 9 = .ok (.ireturn, 1) := dk_172 (dk_at dksX0_lose_0 9 rfl rfl)
theorem dX0_lose_10 : decode cX0_lose 10 = .ok (.aload_n 0, 1) := dk_42 (dk_at dksX0_lose_0 10 rfl rfl)
theorem dX0_lose_11 : decode cX0_lose 11 = .ok (.invokevirtual 226, 3) := dk_182 0 226 (dk_at dksX0_lose_0 11 rfl rfl)
theorem dX0_lose_14 : decode cX0_lose 14 = .ok (.aload_n 0, 1) := dk_42 (dk_at dksX0_lose_0 14 rfl rfl)
theorem dX0_lose_15 : decode cX0_lose 15 = .ok (.getfield 59, 3) := dk_180 0 59 (dk_at dksX0_lose_0 15 rfl rfl)
theorem dX0_lose_18 : decode cX0_lose 18 = .ok (.getfield 180, 3) := dk_180 0 180 (dk_at dksX0_lose_0 18 rfl rfl)
theorem dX0_lose_21 : decode cX0_lose 21 = .ok (.iload_n 1, 1) := dk_27 (dk_at dksX0_lose_0 21 rfl rfl)
theorem dX0_lose_22 : decode cX0_lose 22 = .ok (.iaload, 1) := dk_46 (dk_at dksX0_lose_0 22 rfl rfl)
theorem dX0_lose_23 : decode cX0_lose 23 = .ok (.istore_n 2, 1) := dk_61 (dk_at dksX0_lose_0 23 rfl rfl)
theorem dX0_lose_24 : decode cX0_lose 24 = .ok (.aload_n 0, 1) := dk_42 (dk_at dksX0_lose_1 0 rfl rfl)
theorem dX0_lose_25 : decode cX0_lose 25 = .ok (.getfield 59, 3) := dk_180 0 59 (dk_at dksX0_lose_1 1 rfl rfl)
theorem dX0_lose_28 : decode cX0_lose 28 = .ok (.iload_n 1, 1) := dk_27 (dk_at dksX0_lose_1 4 rfl rfl)
theorem dX0_lose_29 : decode cX0_lose 29 = .ok (.invokevirtual 235, 3) := dk_182 0 235 (dk_at dksX0_lose_1 5 rfl rfl)
theorem dX0_lose_32 : decode cX0_lose 32 = .ok (.iload_n 2, 1) := dk_28 (dk_at dksX0_lose_1 8 rfl rfl)
theorem dX0_lose_33 : decode cX0_lose 33 = .ok (.ireturn, 1) := dk_172 (dk_at dksX0_lose_1 9 rfl rfl)
abbrev cX0_undo : ByteArray := prog_1_method_23_code
def yX0_undo : MethodName := ⟨RX0, "undo", "()Z"⟩
def dkwX0_undo_1 : List UInt8 := [4, 96, 181, 0, 126, 42, 42, 180, 0, 69, 42, 180, 0, 123, 50, 182, 0, 238, 4, 172]
abbrev dktX0_undo_1 : List UInt8 := dkwX0_undo_1 ++ []
def dkwX0_undo_0 : List UInt8 := [42, 180, 0, 123, 154, 0, 5, 3, 172, 42, 89, 180, 0, 123, 4, 100, 181, 0, 123, 42, 89, 180, 0, 126]
abbrev dktX0_undo_0 : List UInt8 := dkwX0_undo_0 ++ dktX0_undo_1
theorem dksX0_undo_0 : cX0_undo.data.toList.drop 0 = dktX0_undo_0 := by decide +kernel
theorem dksX0_undo_1 : cX0_undo.data.toList.drop 24 = dktX0_undo_1 := dk_seg dksX0_undo_0 24 rfl rfl
theorem dX0_undo_0 : decode cX0_undo 0 = .ok (.aload_n 0, 1) := dk_42 (dk_at dksX0_undo_0 0 rfl rfl)
theorem dX0_undo_1 : decode cX0_undo 1 = .ok (.getfield 123, 3) := dk_180 0 123 (dk_at dksX0_undo_0 1 rfl rfl)
theorem dX0_undo_4 : decode cX0_undo 4 = .ok (.ifCond .ne 5, 3) := dk_154 0 5 (dk_at dksX0_undo_0 4 rfl rfl)
theorem dX0_undo_7 : decode cX0_undo 7 = .ok (.iconst 0, 1) := dk_3 (dk_at dksX0_undo_0 7 rfl rfl)
theorem dX0_undo_8 : decode cX0_undo 8 = .ok (.ireturn, 1) := dk_172 (dk_at dksX0_undo_0 8 rfl rfl)
theorem dX0_undo_9 : decode cX0_undo 9 = .ok (.aload_n 0, 1) := dk_42 (dk_at dksX0_undo_0 9 rfl rfl)
theorem dX0_undo_10 : decode cX0_undo 10 = .ok (.dup, 1) := dk_89 (dk_at dksX0_undo_0 10 rfl rfl)
theorem dX0_undo_11 : decode cX0_undo 11 = .ok (.getfield 123, 3) := dk_180 0 123 (dk_at dksX0_undo_0 11 rfl rfl)
theorem dX0_undo_14 : decode cX0_undo 14 = .ok (.iconst 1, 1) := dk_4 (dk_at dksX0_undo_0 14 rfl rfl)
theorem dX0_undo_15 : decode cX0_undo 15 = .ok (.isub, 1) := dk_100 (dk_at dksX0_undo_0 15 rfl rfl)
theorem dX0_undo_16 : decode cX0_undo 16 = .ok (.putfield 123, 3) := dk_181 0 123 (dk_at dksX0_undo_0 16 rfl rfl)
theorem dX0_undo_19 : decode cX0_undo 19 = .ok (.aload_n 0, 1) := dk_42 (dk_at dksX0_undo_0 19 rfl rfl)
theorem dX0_undo_20 : decode cX0_undo 20 = .ok (.dup, 1) := dk_89 (dk_at dksX0_undo_0 20 rfl rfl)
theorem dX0_undo_21 : decode cX0_undo 21 = .ok (.getfield 126, 3) := dk_180 0 126 (dk_at dksX0_undo_0 21 rfl rfl)
theorem dX0_undo_24 : decode cX0_undo 24 = .ok (.iconst 1, 1) := dk_4 (dk_at dksX0_undo_1 0 rfl rfl)
theorem dX0_undo_25 : decode cX0_undo 25 = .ok (.iadd, 1) := dk_96 (dk_at dksX0_undo_1 1 rfl rfl)
theorem dX0_undo_26 : decode cX0_undo 26 = .ok (.putfield 126, 3) := dk_181 0 126 (dk_at dksX0_undo_1 2 rfl rfl)
theorem dX0_undo_29 : decode cX0_undo 29 = .ok (.aload_n 0, 1) := dk_42 (dk_at dksX0_undo_1 5 rfl rfl)
theorem dX0_undo_30 : decode cX0_undo 30 = .ok (.aload_n 0, 1) := dk_42 (dk_at dksX0_undo_1 6 rfl rfl)
theorem dX0_undo_31 : decode cX0_undo 31 = .ok (.getfield 69, 3) := dk_180 0 69 (dk_at dksX0_undo_1 7 rfl rfl)
theorem dX0_undo_34 : decode cX0_undo 34 = .ok (.aload_n 0, 1) := dk_42 (dk_at dksX0_undo_1 10 rfl rfl)
theorem dX0_undo_35 : decode cX0_undo 35 = .ok (.getfield 123, 3) := dk_180 0 123 (dk_at dksX0_undo_1 11 rfl rfl)
theorem dX0_undo_38 : decode cX0_undo 38 = .ok (.aaload, 1) := dk_50 (dk_at dksX0_undo_1 14 rfl rfl)
theorem dX0_undo_39 : decode cX0_undo 39 = .ok (.invokevirtual 238, 3) := dk_182 0 238 (dk_at dksX0_undo_1 15 rfl rfl)
theorem dX0_undo_42 : decode cX0_undo 42 = .ok (.iconst 1, 1) := dk_4 (dk_at dksX0_undo_1 18 rfl rfl)
theorem dX0_undo_43 : decode cX0_undo 43 = .ok (.ireturn, 1) := dk_172 (dk_at dksX0_undo_1 19 rfl rfl)
abbrev cX0_turnAbout : ByteArray := prog_1_method_18_code
def yX0_turnAbout : MethodName := ⟨RX0, "turnAbout", "(LTrunkLitters$House;)V"⟩
def dkwX0_turnAbout_1 : List UInt8 := [180, 0, 63, 182, 0, 219, 87, 177]
abbrev dktX0_turnAbout_1 : List UInt8 := dkwX0_turnAbout_1 ++ []
def dkwX0_turnAbout_0 : List UInt8 := [42, 180, 0, 63, 43, 182, 0, 219, 87, 43, 42, 180, 0, 59, 182, 0, 219, 87, 42, 180, 0, 59, 42]
abbrev dktX0_turnAbout_0 : List UInt8 := dkwX0_turnAbout_0 ++ dktX0_turnAbout_1
theorem dksX0_turnAbout_0 : cX0_turnAbout.data.toList.drop 0 = dktX0_turnAbout_0 := by decide +kernel
theorem dksX0_turnAbout_1 : cX0_turnAbout.data.toList.drop 23 = dktX0_turnAbout_1 := dk_seg dksX0_turnAbout_0 23 rfl rfl
theorem dX0_turnAbout_0 : decode cX0_turnAbout 0 = .ok (.aload_n 0, 1) := dk_42 (dk_at dksX0_turnAbout_0 0 rfl rfl)
theorem dX0_turnAbout_1 : decode cX0_turnAbout 1 = .ok (.getfield 63, 3) := dk_180 0 63 (dk_at dksX0_turnAbout_0 1 rfl rfl)
theorem dX0_turnAbout_4 : decode cX0_turnAbout 4 = .ok (.aload_n 1, 1) := dk_43 (dk_at dksX0_turnAbout_0 4 rfl rfl)
theorem dX0_turnAbout_5 : decode cX0_turnAbout 5 = .ok (.invokevirtual 219, 3) := dk_182 0 219 (dk_at dksX0_turnAbout_0 5 rfl rfl)
theorem dX0_turnAbout_8 : decode cX0_turnAbout 8 = .ok (.pop, 1) := dk_87 (dk_at dksX0_turnAbout_0 8 rfl rfl)
theorem dX0_turnAbout_9 : decode cX0_turnAbout 9 = .ok (.aload_n 1, 1) := dk_43 (dk_at dksX0_turnAbout_0 9 rfl rfl)
theorem dX0_turnAbout_10 : decode cX0_turnAbout 10 = .ok (.aload_n 0, 1) := dk_42 (dk_at dksX0_turnAbout_0 10 rfl rfl)
theorem dX0_turnAbout_11 : decode cX0_turnAbout 11 = .ok (.getfield 59, 3) := dk_180 0 59 (dk_at dksX0_turnAbout_0 11 rfl rfl)
theorem dX0_turnAbout_14 : decode cX0_turnAbout 14 = .ok (.invokevirtual 219, 3) := dk_182 0 219 (dk_at dksX0_turnAbout_0 14 rfl rfl)
theorem dX0_turnAbout_17 : decode cX0_turnAbout 17 = .ok (.pop, 1) := dk_87 (dk_at dksX0_turnAbout_0 17 rfl rfl)
theorem dX0_turnAbout_18 : decode cX0_turnAbout 18 = .ok (.aload_n 0, 1) := dk_42 (dk_at dksX0_turnAbout_0 18 rfl rfl)
theorem dX0_turnAbout_19 : decode cX0_turnAbout 19 = .ok (.getfield 59, 3) := dk_180 0 59 (dk_at dksX0_turnAbout_0 19 rfl rfl)
theorem dX0_turnAbout_22 : decode cX0_turnAbout 22 = .ok (.aload_n 0, 1) := dk_42 (dk_at dksX0_turnAbout_0 22 rfl rfl)
theorem dX0_turnAbout_23 : decode cX0_turnAbout 23 = .ok (.getfield 63, 3) := dk_180 0 63 (dk_at dksX0_turnAbout_1 0 rfl rfl)
theorem dX0_turnAbout_26 : decode cX0_turnAbout 26 = .ok (.invokevirtual 219, 3) := dk_182 0 219 (dk_at dksX0_turnAbout_1 3 rfl rfl)
theorem dX0_turnAbout_29 : decode cX0_turnAbout 29 = .ok (.pop, 1) := dk_87 (dk_at dksX0_turnAbout_1 6 rfl rfl)
theorem dX0_turnAbout_30 : decode cX0_turnAbout 30 = .ok (.return_, 1) := dk_177 (dk_at dksX0_turnAbout_1 7 rfl rfl)
abbrev cX0_redo : ByteArray := prog_1_method_24_code
def yX0_redo : MethodName := ⟨RX0, "redo", "()Z"⟩
def dkwX0_redo_1 : List UInt8 := [180, 0, 123, 4, 96, 181, 0, 123, 42, 89, 180, 0, 126, 4, 100, 181, 0, 126, 4, 172]
abbrev dktX0_redo_1 : List UInt8 := dkwX0_redo_1 ++ []
def dkwX0_redo_0 : List UInt8 := [42, 180, 0, 126, 154, 0, 5, 3, 172, 42, 42, 180, 0, 69, 42, 180, 0, 123, 50, 182, 0, 238, 42, 89]
abbrev dktX0_redo_0 : List UInt8 := dkwX0_redo_0 ++ dktX0_redo_1
theorem dksX0_redo_0 : cX0_redo.data.toList.drop 0 = dktX0_redo_0 := by decide +kernel
theorem dksX0_redo_1 : cX0_redo.data.toList.drop 24 = dktX0_redo_1 := dk_seg dksX0_redo_0 24 rfl rfl
theorem dX0_redo_0 : decode cX0_redo 0 = .ok (.aload_n 0, 1) := dk_42 (dk_at dksX0_redo_0 0 rfl rfl)
theorem dX0_redo_1 : decode cX0_redo 1 = .ok (.getfield 126, 3) := dk_180 0 126 (dk_at dksX0_redo_0 1 rfl rfl)
theorem dX0_redo_4 : decode cX0_redo 4 = .ok (.ifCond .ne 5, 3) := dk_154 0 5 (dk_at dksX0_redo_0 4 rfl rfl)
theorem dX0_redo_7 : decode cX0_redo 7 = .ok (.iconst 0, 1) := dk_3 (dk_at dksX0_redo_0 7 rfl rfl)
theorem dX0_redo_8 : decode cX0_redo 8 = .ok (.ireturn, 1) := dk_172 (dk_at dksX0_redo_0 8 rfl rfl)
theorem dX0_redo_9 : decode cX0_redo 9 = .ok (.aload_n 0, 1) := dk_42 (dk_at dksX0_redo_0 9 rfl rfl)
theorem dX0_redo_10 : decode cX0_redo 10 = .ok (.aload_n 0, 1) := dk_42 (dk_at dksX0_redo_0 10 rfl rfl)
theorem dX0_redo_11 : decode cX0_redo 11 = .ok (.getfield 69, 3) := dk_180 0 69 (dk_at dksX0_redo_0 11 rfl rfl)
theorem dX0_redo_14 : decode cX0_redo 14 = .ok (.aload_n 0, 1) := dk_42 (dk_at dksX0_redo_0 14 rfl rfl)
theorem dX0_redo_15 : decode cX0_redo 15 = .ok (.getfield 123, 3) := dk_180 0 123 (dk_at dksX0_redo_0 15 rfl rfl)
theorem dX0_redo_18 : decode cX0_redo 18 = .ok (.aaload, 1) := dk_50 (dk_at dksX0_redo_0 18 rfl rfl)
theorem dX0_redo_19 : decode cX0_redo 19 = .ok (.invokevirtual 238, 3) := dk_182 0 238 (dk_at dksX0_redo_0 19 rfl rfl)
theorem dX0_redo_22 : decode cX0_redo 22 = .ok (.aload_n 0, 1) := dk_42 (dk_at dksX0_redo_0 22 rfl rfl)
theorem dX0_redo_23 : decode cX0_redo 23 = .ok (.dup, 1) := dk_89 (dk_at dksX0_redo_0 23 rfl rfl)
theorem dX0_redo_24 : decode cX0_redo 24 = .ok (.getfield 123, 3) := dk_180 0 123 (dk_at dksX0_redo_1 0 rfl rfl)
theorem dX0_redo_27 : decode cX0_redo 27 = .ok (.iconst 1, 1) := dk_4 (dk_at dksX0_redo_1 3 rfl rfl)
theorem dX0_redo_28 : decode cX0_redo 28 = .ok (.iadd, 1) := dk_96 (dk_at dksX0_redo_1 4 rfl rfl)
theorem dX0_redo_29 : decode cX0_redo 29 = .ok (.putfield 123, 3) := dk_181 0 123 (dk_at dksX0_redo_1 5 rfl rfl)
theorem dX0_redo_32 : decode cX0_redo 32 = .ok (.aload_n 0, 1) := dk_42 (dk_at dksX0_redo_1 8 rfl rfl)
theorem dX0_redo_33 : decode cX0_redo 33 = .ok (.dup, 1) := dk_89 (dk_at dksX0_redo_1 9 rfl rfl)
theorem dX0_redo_34 : decode cX0_redo 34 = .ok (.getfield 126, 3) := dk_180 0 126 (dk_at dksX0_redo_1 10 rfl rfl)
theorem dX0_redo_37 : decode cX0_redo 37 = .ok (.iconst 1, 1) := dk_4 (dk_at dksX0_redo_1 13 rfl rfl)
theorem dX0_redo_38 : decode cX0_redo 38 = .ok (.isub, 1) := dk_100 (dk_at dksX0_redo_1 14 rfl rfl)
theorem dX0_redo_39 : decode cX0_redo 39 = .ok (.putfield 126, 3) := dk_181 0 126 (dk_at dksX0_redo_1 15 rfl rfl)
theorem dX0_redo_42 : decode cX0_redo 42 = .ok (.iconst 1, 1) := dk_4 (dk_at dksX0_redo_1 18 rfl rfl)
theorem dX0_redo_43 : decode cX0_redo 43 = .ok (.ireturn, 1) := dk_172 (dk_at dksX0_redo_1 19 rfl rfl)
abbrev cX0_will : ByteArray := prog_1_method_26_code
def yX0_will : MethodName := ⟨RX0, "will", "(III)I"⟩
def dkwX0_will_3 : List UInt8 := [180, 0, 180, 27, 46, 167, 0, 12, 42, 180, 0, 66, 180, 0, 186, 27, 46, 172]
abbrev dktX0_will_3 : List UInt8 := dkwX0_will_3 ++ []
def dkwX0_will_2 : List UInt8 := [182, 0, 242, 27, 182, 0, 158, 154, 0, 7, 2, 167, 0, 28, 29, 154, 0, 15, 42, 180, 0, 66]
abbrev dktX0_will_2 : List UInt8 := dkwX0_will_2 ++ dktX0_will_3
def dkwX0_will_1 : List UInt8 := [184, 0, 154, 154, 0, 5, 2, 172, 42, 180, 0, 66, 42, 180, 0, 59, 182, 0, 219, 87, 42, 28]
abbrev dktX0_will_1 : List UInt8 := dkwX0_will_1 ++ dktX0_will_2
def dkwX0_will_0 : List UInt8 := [27, 3, 16, 7, 184, 0, 154, 153, 0, 22, 28, 3, 16, 30, 184, 0, 154, 153, 0, 12, 29, 3, 4]
abbrev dktX0_will_0 : List UInt8 := dkwX0_will_0 ++ dktX0_will_1
theorem dksX0_will_0 : cX0_will.data.toList.drop 0 = dktX0_will_0 := by decide +kernel
theorem dksX0_will_1 : cX0_will.data.toList.drop 23 = dktX0_will_1 := dk_seg dksX0_will_0 23 rfl rfl
theorem dksX0_will_2 : cX0_will.data.toList.drop 45 = dktX0_will_2 := dk_seg dksX0_will_1 22 rfl rfl
theorem dksX0_will_3 : cX0_will.data.toList.drop 67 = dktX0_will_3 := dk_seg dksX0_will_2 22 rfl rfl
theorem dX0_will_0 : decode cX0_will 0 = .ok (.iload_n 1, 1) := dk_27 (dk_at dksX0_will_0 0 rfl rfl)
theorem dX0_will_1 : decode cX0_will 1 = .ok (.iconst 0, 1) := dk_3 (dk_at dksX0_will_0 1 rfl rfl)
theorem dX0_will_2 : decode cX0_will 2 = .ok (.bipush 7, 2) := dk_16 7 (dk_at dksX0_will_0 2 rfl rfl)
theorem dX0_will_4 : decode cX0_will 4 = .ok (.invokestatic 154, 3) := dk_184 0 154 (dk_at dksX0_will_0 4 rfl rfl)
theorem dX0_will_7 : decode cX0_will 7 = .ok (.ifCond .eq 22, 3) := dk_153 0 22 (dk_at dksX0_will_0 7 rfl rfl)
theorem dX0_will_10 : decode cX0_will 10 = .ok (.iload_n 2, 1) := dk_28 (dk_at dksX0_will_0 10 rfl rfl)
theorem dX0_will_11 : decode cX0_will 11 = .ok (.iconst 0, 1) := dk_3 (dk_at dksX0_will_0 11 rfl rfl)
theorem dX0_will_12 : decode cX0_will 12 = .ok (.bipush 30, 2) := dk_16 30 (dk_at dksX0_will_0 12 rfl rfl)
theorem dX0_will_14 : decode cX0_will 14 = .ok (.invokestatic 154, 3) := dk_184 0 154 (dk_at dksX0_will_0 14 rfl rfl)
theorem dX0_will_17 : decode cX0_will 17 = .ok (.ifCond .eq 12, 3) := dk_153 0 12 (dk_at dksX0_will_0 17 rfl rfl)
theorem dX0_will_20 : decode cX0_will 20 = .ok (.iload_n 3, 1) := dk_29 (dk_at dksX0_will_0 20 rfl rfl)
theorem dX0_will_21 : decode cX0_will 21 = .ok (.iconst 0, 1) := dk_3 (dk_at dksX0_will_0 21 rfl rfl)
theorem dX0_will_22 : decode cX0_will 22 = .ok (.iconst 1, 1) := dk_4 (dk_at dksX0_will_0 22 rfl rfl)
theorem dX0_will_23 : decode cX0_will 23 = .ok (.invokestatic 154, 3) := dk_184 0 154 (dk_at dksX0_will_1 0 rfl rfl)
theorem dX0_will_26 : decode cX0_will 26 = .ok (.ifCond .ne 5, 3) := dk_154 0 5 (dk_at dksX0_will_1 3 rfl rfl)
theorem dX0_will_29 : decode cX0_will 29 = .ok (.iconst (-1), 1) := dk_2 (dk_at dksX0_will_1 6 rfl rfl)
theorem dX0_will_30 : decode cX0_will 30 = .ok (.ireturn, 1) := dk_172 (dk_at dksX0_will_1 7 rfl rfl)
theorem dX0_will_31 : decode cX0_will 31 = .ok (.aload_n 0, 1) := dk_42 (dk_at dksX0_will_1 8 rfl rfl)
theorem dX0_will_32 : decode cX0_will 32 = .ok (.getfield 66, 3) := dk_180 0 66 (dk_at dksX0_will_1 9 rfl rfl)
theorem dX0_will_35 : decode cX0_will 35 = .ok (.aload_n 0, 1) := dk_42 (dk_at dksX0_will_1 12 rfl rfl)
theorem dX0_will_36 : decode cX0_will 36 = .ok (.getfield 59, 3) := dk_180 0 59 (dk_at dksX0_will_1 13 rfl rfl)
theorem dX0_will_39 : decode cX0_will 39 = .ok (.invokevirtual 219, 3) := dk_182 0 219 (dk_at dksX0_will_1 16 rfl rfl)
theorem dX0_will_42 : decode cX0_will 42 = .ok (.pop, 1) := dk_87 (dk_at dksX0_will_1 19 rfl rfl)
theorem dX0_will_43 : decode cX0_will 43 = .ok (.aload_n 0, 1) := dk_42 (dk_at dksX0_will_1 20 rfl rfl)
theorem dX0_will_44 : decode cX0_will 44 = .ok (.iload_n 2, 1) := dk_28 (dk_at dksX0_will_1 21 rfl rfl)
theorem dX0_will_45 : decode cX0_will 45 = .ok (.invokevirtual 242, 3) := dk_182 0 242 (dk_at dksX0_will_2 0 rfl rfl)
theorem dX0_will_48 : decode cX0_will 48 = .ok (.iload_n 1, 1) := dk_27 (dk_at dksX0_will_2 3 rfl rfl)
theorem dX0_will_49 : decode cX0_will 49 = .ok (.invokevirtual 158, 3) := dk_182 0 158 (dk_at dksX0_will_2 4 rfl rfl)
theorem dX0_will_52 : decode cX0_will 52 = .ok (.ifCond .ne 7, 3) := dk_154 0 7 (dk_at dksX0_will_2 7 rfl rfl)
theorem dX0_will_55 : decode cX0_will 55 = .ok (.iconst (-1), 1) := dk_2 (dk_at dksX0_will_2 10 rfl rfl)
theorem dX0_will_56 : decode cX0_will 56 = .ok (.goto 28, 3) := dk_167 0 28 (dk_at dksX0_will_2 11 rfl rfl)
theorem dX0_will_59 : decode cX0_will 59 = .ok (.iload_n 3, 1) := dk_29 (dk_at dksX0_will_2 14 rfl rfl)
theorem dX0_will_60 : decode cX0_will 60 = .ok (.ifCond .ne 15, 3) := dk_154 0 15 (dk_at dksX0_will_2 15 rfl rfl)
theorem dX0_will_63 : decode cX0_will 63 = .ok (.aload_n 0, 1) := dk_42 (dk_at dksX0_will_2 18 rfl rfl)
theorem dX0_will_64 : decode cX0_will 64 = .ok (.getfield 66, 3) := dk_180 0 66 (dk_at dksX0_will_2 19 rfl rfl)
theorem dX0_will_67 : decode cX0_will 67 = .ok (.getfield 180, 3) := dk_180 0 180 (dk_at dksX0_will_3 0 rfl rfl)
theorem dX0_will_70 : decode cX0_will 70 = .ok (.iload_n 1, 1) := dk_27 (dk_at dksX0_will_3 3 rfl rfl)
theorem dX0_will_71 : decode cX0_will 71 = .ok (.iaload, 1) := dk_46 (dk_at dksX0_will_3 4 rfl rfl)
theorem dX0_will_72 : decode cX0_will 72 = .ok (.goto 12, 3) := dk_167 0 12 (dk_at dksX0_will_3 5 rfl rfl)
theorem dX0_will_75 : decode cX0_will 75 = .ok (.aload_n 0, 1) := dk_42 (dk_at dksX0_will_3 8 rfl rfl)
theorem dX0_will_76 : decode cX0_will 76 = .ok (.getfield 66, 3) := dk_180 0 66 (dk_at dksX0_will_3 9 rfl rfl)
theorem dX0_will_79 : decode cX0_will 79 = .ok (.getfield 186, 3) := dk_180 0 186 (dk_at dksX0_will_3 12 rfl rfl)
theorem dX0_will_82 : decode cX0_will 82 = .ok (.iload_n 1, 1) := dk_27 (dk_at dksX0_will_3 15 rfl rfl)
theorem dX0_will_83 : decode cX0_will 83 = .ok (.iaload, 1) := dk_46 (dk_at dksX0_will_3 16 rfl rfl)
theorem dX0_will_84 : decode cX0_will 84 = .ok (.ireturn, 1) := dk_172 (dk_at dksX0_will_3 17 rfl rfl)
abbrev cX0_ahead : ByteArray := prog_1_method_25_code
def yX0_ahead : MethodName := ⟨RX0, "ahead", "(I)LTrunkLitters$House;"⟩
def dkwX0_ahead_1 : List UInt8 := [167, 255, 236, 42, 180, 0, 66, 176]
abbrev dktX0_ahead_1 : List UInt8 := dkwX0_ahead_1 ++ []
def dkwX0_ahead_0 : List UInt8 := [3, 61, 28, 27, 162, 0, 21, 42, 180, 0, 66, 42, 180, 0, 48, 182, 0, 229, 87, 132, 2, 1]
abbrev dktX0_ahead_0 : List UInt8 := dkwX0_ahead_0 ++ dktX0_ahead_1
theorem dksX0_ahead_0 : cX0_ahead.data.toList.drop 0 = dktX0_ahead_0 := by decide +kernel
theorem dksX0_ahead_1 : cX0_ahead.data.toList.drop 22 = dktX0_ahead_1 := dk_seg dksX0_ahead_0 22 rfl rfl
theorem dX0_ahead_0 : decode cX0_ahead 0 = .ok (.iconst 0, 1) := dk_3 (dk_at dksX0_ahead_0 0 rfl rfl)
theorem dX0_ahead_1 : decode cX0_ahead 1 = .ok (.istore_n 2, 1) := dk_61 (dk_at dksX0_ahead_0 1 rfl rfl)
theorem dX0_ahead_2 : decode cX0_ahead 2 = .ok (.iload_n 2, 1) := dk_28 (dk_at dksX0_ahead_0 2 rfl rfl)
theorem dX0_ahead_3 : decode cX0_ahead 3 = .ok (.iload_n 1, 1) := dk_27 (dk_at dksX0_ahead_0 3 rfl rfl)
theorem dX0_ahead_4 : decode cX0_ahead 4 = .ok (.if_icmp .ge 21, 3) := dk_162 0 21 (dk_at dksX0_ahead_0 4 rfl rfl)
theorem dX0_ahead_7 : decode cX0_ahead 7 = .ok (.aload_n 0, 1) := dk_42 (dk_at dksX0_ahead_0 7 rfl rfl)
theorem dX0_ahead_8 : decode cX0_ahead 8 = .ok (.getfield 66, 3) := dk_180 0 66 (dk_at dksX0_ahead_0 8 rfl rfl)
theorem dX0_ahead_11 : decode cX0_ahead 11 = .ok (.aload_n 0, 1) := dk_42 (dk_at dksX0_ahead_0 11 rfl rfl)
theorem dX0_ahead_12 : decode cX0_ahead 12 = .ok (.getfield 48, 3) := dk_180 0 48 (dk_at dksX0_ahead_0 12 rfl rfl)
theorem dX0_ahead_15 : decode cX0_ahead 15 = .ok (.invokevirtual 229, 3) := dk_182 0 229 (dk_at dksX0_ahead_0 15 rfl rfl)
theorem dX0_ahead_18 : decode cX0_ahead 18 = .ok (.pop, 1) := dk_87 (dk_at dksX0_ahead_0 18 rfl rfl)
theorem dX0_ahead_19 : decode cX0_ahead 19 = .ok (.iinc 2 1, 3) := dk_132 2 1 (dk_at dksX0_ahead_0 19 rfl rfl)
theorem dX0_ahead_22 : decode cX0_ahead 22 = .ok (.goto (-20), 3) := dk_167 255 236 (dk_at dksX0_ahead_1 0 rfl rfl)
theorem dX0_ahead_25 : decode cX0_ahead 25 = .ok (.aload_n 0, 1) := dk_42 (dk_at dksX0_ahead_1 3 rfl rfl)
theorem dX0_ahead_26 : decode cX0_ahead 26 = .ok (.getfield 66, 3) := dk_180 0 66 (dk_at dksX0_ahead_1 4 rfl rfl)
theorem dX0_ahead_29 : decode cX0_ahead 29 = .ok (.areturn, 1) := dk_176 (dk_at dksX0_ahead_1 7 rfl rfl)
abbrev cX0_alive : ByteArray := prog_1_method_27_code
def yX0_alive : MethodName := ⟨RX0, "alive", "(I)I"⟩
def dkwX0_alive_1 : List UInt8 := [42, 27, 182, 0, 242, 180, 0, 246, 172]
abbrev dktX0_alive_1 : List UInt8 := dkwX0_alive_1 ++ []
def dkwX0_alive_0 : List UInt8 := [27, 3, 16, 30, 184, 0, 154, 154, 0, 5, 2, 172, 42, 180, 0, 66, 42, 180, 0, 59, 182, 0, 219, 87]
abbrev dktX0_alive_0 : List UInt8 := dkwX0_alive_0 ++ dktX0_alive_1
theorem dksX0_alive_0 : cX0_alive.data.toList.drop 0 = dktX0_alive_0 := by decide +kernel
theorem dksX0_alive_1 : cX0_alive.data.toList.drop 24 = dktX0_alive_1 := dk_seg dksX0_alive_0 24 rfl rfl
theorem dX0_alive_0 : decode cX0_alive 0 = .ok (.iload_n 1, 1) := dk_27 (dk_at dksX0_alive_0 0 rfl rfl)
theorem dX0_alive_1 : decode cX0_alive 1 = .ok (.iconst 0, 1) := dk_3 (dk_at dksX0_alive_0 1 rfl rfl)
theorem dX0_alive_2 : decode cX0_alive 2 = .ok (.bipush 30, 2) := dk_16 30 (dk_at dksX0_alive_0 2 rfl rfl)
theorem dX0_alive_4 : decode cX0_alive 4 = .ok (.invokestatic 154, 3) := dk_184 0 154 (dk_at dksX0_alive_0 4 rfl rfl)
theorem dX0_alive_7 : decode cX0_alive 7 = .ok (.ifCond .ne 5, 3) := dk_154 0 5 (dk_at dksX0_alive_0 7 rfl rfl)
theorem dX0_alive_10 : decode cX0_alive 10 = .ok (.iconst (-1), 1) := dk_2 (dk_at dksX0_alive_0 10 rfl rfl)
theorem dX0_alive_11 : decode cX0_alive 11 = .ok (.ireturn, 1) := dk_172 (dk_at dksX0_alive_0 11 rfl rfl)
theorem dX0_alive_12 : decode cX0_alive 12 = .ok (.aload_n 0, 1) := dk_42 (dk_at dksX0_alive_0 12 rfl rfl)
theorem dX0_alive_13 : decode cX0_alive 13 = .ok (.getfield 66, 3) := dk_180 0 66 (dk_at dksX0_alive_0 13 rfl rfl)
theorem dX0_alive_16 : decode cX0_alive 16 = .ok (.aload_n 0, 1) := dk_42 (dk_at dksX0_alive_0 16 rfl rfl)
theorem dX0_alive_17 : decode cX0_alive 17 = .ok (.getfield 59, 3) := dk_180 0 59 (dk_at dksX0_alive_0 17 rfl rfl)
theorem dX0_alive_20 : decode cX0_alive 20 = .ok (.invokevirtual 219, 3) := dk_182 0 219 (dk_at dksX0_alive_0 20 rfl rfl)
theorem dX0_alive_23 : decode cX0_alive 23 = .ok (.pop, 1) := dk_87 (dk_at dksX0_alive_0 23 rfl rfl)
theorem dX0_alive_24 : decode cX0_alive 24 = .ok (.aload_n 0, 1) := dk_42 (dk_at dksX0_alive_1 0 rfl rfl)
theorem dX0_alive_25 : decode cX0_alive 25 = .ok (.iload_n 1, 1) := dk_27 (dk_at dksX0_alive_1 1 rfl rfl)
theorem dX0_alive_26 : decode cX0_alive 26 = .ok (.invokevirtual 242, 3) := dk_182 0 242 (dk_at dksX0_alive_1 2 rfl rfl)
theorem dX0_alive_29 : decode cX0_alive 29 = .ok (.getfield 246, 3) := dk_180 0 246 (dk_at dksX0_alive_1 5 rfl rfl)
theorem dX0_alive_32 : decode cX0_alive 32 = .ok (.ireturn, 1) := dk_172 (dk_at dksX0_alive_1 8 rfl rfl)
abbrev cX0_law : ByteArray := prog_1_method_28_code
def yX0_law : MethodName := ⟨RX0, "law", "(II)I"⟩
def dkwX0_law_2 : List UInt8 := [184, 0, 25, 172]
abbrev dktX0_law_2 : List UInt8 := dkwX0_law_2 ++ []
def dkwX0_law_1 : List UInt8 := [180, 0, 66, 42, 180, 0, 59, 182, 0, 219, 27, 181, 0, 249, 42, 28, 182, 0, 242, 180, 0, 246]
abbrev dktX0_law_1 : List UInt8 := dkwX0_law_1 ++ dktX0_law_2
def dkwX0_law_0 : List UInt8 := [27, 4, 16, 9, 184, 0, 154, 153, 0, 13, 28, 3, 16, 30, 184, 0, 154, 154, 0, 5, 2, 172, 42]
abbrev dktX0_law_0 : List UInt8 := dkwX0_law_0 ++ dktX0_law_1
theorem dksX0_law_0 : cX0_law.data.toList.drop 0 = dktX0_law_0 := by decide +kernel
theorem dksX0_law_1 : cX0_law.data.toList.drop 23 = dktX0_law_1 := dk_seg dksX0_law_0 23 rfl rfl
theorem dksX0_law_2 : cX0_law.data.toList.drop 45 = dktX0_law_2 := dk_seg dksX0_law_1 22 rfl rfl
theorem dX0_law_0 : decode cX0_law 0 = .ok (.iload_n 1, 1) := dk_27 (dk_at dksX0_law_0 0 rfl rfl)
theorem dX0_law_1 : decode cX0_law 1 = .ok (.iconst 1, 1) := dk_4 (dk_at dksX0_law_0 1 rfl rfl)
theorem dX0_law_2 : decode cX0_law 2 = .ok (.bipush 9, 2) := dk_16 9 (dk_at dksX0_law_0 2 rfl rfl)
theorem dX0_law_4 : decode cX0_law 4 = .ok (.invokestatic 154, 3) := dk_184 0 154 (dk_at dksX0_law_0 4 rfl rfl)
theorem dX0_law_7 : decode cX0_law 7 = .ok (.ifCond .eq 13, 3) := dk_153 0 13 (dk_at dksX0_law_0 7 rfl rfl)
theorem dX0_law_10 : decode cX0_law 10 = .ok (.iload_n 2, 1) := dk_28 (dk_at dksX0_law_0 10 rfl rfl)
theorem dX0_law_11 : decode cX0_law 11 = .ok (.iconst 0, 1) := dk_3 (dk_at dksX0_law_0 11 rfl rfl)
theorem dX0_law_12 : decode cX0_law 12 = .ok (.bipush 30, 2) := dk_16 30 (dk_at dksX0_law_0 12 rfl rfl)
theorem dX0_law_14 : decode cX0_law 14 = .ok (.invokestatic 154, 3) := dk_184 0 154 (dk_at dksX0_law_0 14 rfl rfl)
theorem dX0_law_17 : decode cX0_law 17 = .ok (.ifCond .ne 5, 3) := dk_154 0 5 (dk_at dksX0_law_0 17 rfl rfl)
theorem dX0_law_20 : decode cX0_law 20 = .ok (.iconst (-1), 1) := dk_2 (dk_at dksX0_law_0 20 rfl rfl)
theorem dX0_law_21 : decode cX0_law 21 = .ok (.ireturn, 1) := dk_172 (dk_at dksX0_law_0 21 rfl rfl)
theorem dX0_law_22 : decode cX0_law 22 = .ok (.aload_n 0, 1) := dk_42 (dk_at dksX0_law_0 22 rfl rfl)
theorem dX0_law_23 : decode cX0_law 23 = .ok (.getfield 66, 3) := dk_180 0 66 (dk_at dksX0_law_1 0 rfl rfl)
theorem dX0_law_26 : decode cX0_law 26 = .ok (.aload_n 0, 1) := dk_42 (dk_at dksX0_law_1 3 rfl rfl)
theorem dX0_law_27 : decode cX0_law 27 = .ok (.getfield 59, 3) := dk_180 0 59 (dk_at dksX0_law_1 4 rfl rfl)
theorem dX0_law_30 : decode cX0_law 30 = .ok (.invokevirtual 219, 3) := dk_182 0 219 (dk_at dksX0_law_1 7 rfl rfl)
theorem dX0_law_33 : decode cX0_law 33 = .ok (.iload_n 1, 1) := dk_27 (dk_at dksX0_law_1 10 rfl rfl)
theorem dX0_law_34 : decode cX0_law 34 = .ok (.putfield 249, 3) := dk_181 0 249 (dk_at dksX0_law_1 11 rfl rfl)
theorem dX0_law_37 : decode cX0_law 37 = .ok (.aload_n 0, 1) := dk_42 (dk_at dksX0_law_1 14 rfl rfl)
theorem dX0_law_38 : decode cX0_law 38 = .ok (.iload_n 2, 1) := dk_28 (dk_at dksX0_law_1 15 rfl rfl)
theorem dX0_law_39 : decode cX0_law 39 = .ok (.invokevirtual 242, 3) := dk_182 0 242 (dk_at dksX0_law_1 16 rfl rfl)
theorem dX0_law_42 : decode cX0_law 42 = .ok (.getfield 246, 3) := dk_180 0 246 (dk_at dksX0_law_1 19 rfl rfl)
theorem dX0_law_45 : decode cX0_law 45 = .ok (.invokestatic 25, 3) := dk_184 0 25 (dk_at dksX0_law_2 0 rfl rfl)
theorem dX0_law_48 : decode cX0_law 48 = .ok (.ireturn, 1) := dk_172 (dk_at dksX0_law_2 3 rfl rfl)
abbrev cX0_gone : ByteArray := prog_1_method_29_code
def yX0_gone : MethodName := ⟨RX0, "gone", "(I)I"⟩
def dkwX0_gone_3 : List UInt8 := [159, 0, 5, 28, 172, 132, 2, 1, 167, 255, 201, 2, 172]
abbrev dktX0_gone_3 : List UInt8 := dkwX0_gone_3 ++ []
def dkwX0_gone_2 : List UInt8 := [182, 0, 158, 153, 0, 24, 42, 180, 0, 66, 180, 0, 252, 27, 46, 42, 180, 0, 59, 180, 0, 252, 27, 46]
abbrev dktX0_gone_2 : List UInt8 := dkwX0_gone_2 ++ dktX0_gone_3
def dkwX0_gone_1 : List UInt8 := [28, 16, 30, 163, 0, 55, 42, 180, 0, 66, 42, 180, 0, 48, 182, 0, 229, 87, 42, 180, 0, 66, 27]
abbrev dktX0_gone_1 : List UInt8 := dkwX0_gone_1 ++ dktX0_gone_2
def dkwX0_gone_0 : List UInt8 := [42, 27, 182, 0, 177, 154, 0, 5, 2, 172, 42, 180, 0, 66, 42, 180, 0, 59, 182, 0, 219, 87, 4, 61]
abbrev dktX0_gone_0 : List UInt8 := dkwX0_gone_0 ++ dktX0_gone_1
theorem dksX0_gone_0 : cX0_gone.data.toList.drop 0 = dktX0_gone_0 := by decide +kernel
theorem dksX0_gone_1 : cX0_gone.data.toList.drop 24 = dktX0_gone_1 := dk_seg dksX0_gone_0 24 rfl rfl
theorem dksX0_gone_2 : cX0_gone.data.toList.drop 47 = dktX0_gone_2 := dk_seg dksX0_gone_1 23 rfl rfl
theorem dksX0_gone_3 : cX0_gone.data.toList.drop 71 = dktX0_gone_3 := dk_seg dksX0_gone_2 24 rfl rfl
theorem dX0_gone_0 : decode cX0_gone 0 = .ok (.aload_n 0, 1) := dk_42 (dk_at dksX0_gone_0 0 rfl rfl)
theorem dX0_gone_1 : decode cX0_gone 1 = .ok (.iload_n 1, 1) := dk_27 (dk_at dksX0_gone_0 1 rfl rfl)
theorem dX0_gone_2 : decode cX0_gone 2 = .ok (.invokevirtual 177, 3) := dk_182 0 177 (dk_at dksX0_gone_0 2 rfl rfl)
theorem dX0_gone_5 : decode cX0_gone 5 = .ok (.ifCond .ne 5, 3) := dk_154 0 5 (dk_at dksX0_gone_0 5 rfl rfl)
theorem dX0_gone_8 : decode cX0_gone 8 = .ok (.iconst (-1), 1) := dk_2 (dk_at dksX0_gone_0 8 rfl rfl)
theorem dX0_gone_9 : decode cX0_gone 9 = .ok (.ireturn, 1) := dk_172 (dk_at dksX0_gone_0 9 rfl rfl)
theorem dX0_gone_10 : decode cX0_gone 10 = .ok (.aload_n 0, 1) := dk_42 (dk_at dksX0_gone_0 10 rfl rfl)
theorem dX0_gone_11 : decode cX0_gone 11 = .ok (.getfield 66, 3) := dk_180 0 66 (dk_at dksX0_gone_0 11 rfl rfl)
theorem dX0_gone_14 : decode cX0_gone 14 = .ok (.aload_n 0, 1) := dk_42 (dk_at dksX0_gone_0 14 rfl rfl)
theorem dX0_gone_15 : decode cX0_gone 15 = .ok (.getfield 59, 3) := dk_180 0 59 (dk_at dksX0_gone_0 15 rfl rfl)
theorem dX0_gone_18 : decode cX0_gone 18 = .ok (.invokevirtual 219, 3) := dk_182 0 219 (dk_at dksX0_gone_0 18 rfl rfl)
theorem dX0_gone_21 : decode cX0_gone 21 = .ok (.pop, 1) := dk_87 (dk_at dksX0_gone_0 21 rfl rfl)
theorem dX0_gone_22 : decode cX0_gone 22 = .ok (.iconst 1, 1) := dk_4 (dk_at dksX0_gone_0 22 rfl rfl)
theorem dX0_gone_23 : decode cX0_gone 23 = .ok (.istore_n 2, 1) := dk_61 (dk_at dksX0_gone_0 23 rfl rfl)
theorem dX0_gone_24 : decode cX0_gone 24 = .ok (.iload_n 2, 1) := dk_28 (dk_at dksX0_gone_1 0 rfl rfl)
theorem dX0_gone_25 : decode cX0_gone 25 = .ok (.bipush 30, 2) := dk_16 30 (dk_at dksX0_gone_1 1 rfl rfl)
theorem dX0_gone_27 : decode cX0_gone 27 = .ok (.if_icmp .gt 55, 3) := dk_163 0 55 (dk_at dksX0_gone_1 3 rfl rfl)
theorem dX0_gone_30 : decode cX0_gone 30 = .ok (.aload_n 0, 1) := dk_42 (dk_at dksX0_gone_1 6 rfl rfl)
theorem dX0_gone_31 : decode cX0_gone 31 = .ok (.getfield 66, 3) := dk_180 0 66 (dk_at dksX0_gone_1 7 rfl rfl)
theorem dX0_gone_34 : decode cX0_gone 34 = .ok (.aload_n 0, 1) := dk_42 (dk_at dksX0_gone_1 10 rfl rfl)
theorem dX0_gone_35 : decode cX0_gone 35 = .ok (.getfield 48, 3) := dk_180 0 48 (dk_at dksX0_gone_1 11 rfl rfl)
theorem dX0_gone_38 : decode cX0_gone 38 = .ok (.invokevirtual 229, 3) := dk_182 0 229 (dk_at dksX0_gone_1 14 rfl rfl)
theorem dX0_gone_41 : decode cX0_gone 41 = .ok (.pop, 1) := dk_87 (dk_at dksX0_gone_1 17 rfl rfl)
theorem dX0_gone_42 : decode cX0_gone 42 = .ok (.aload_n 0, 1) := dk_42 (dk_at dksX0_gone_1 18 rfl rfl)
theorem dX0_gone_43 : decode cX0_gone 43 = .ok (.getfield 66, 3) := dk_180 0 66 (dk_at dksX0_gone_1 19 rfl rfl)
theorem dX0_gone_46 : decode cX0_gone 46 = .ok (.iload_n 1, 1) := dk_27 (dk_at dksX0_gone_1 22 rfl rfl)
theorem dX0_gone_47 : decode cX0_gone 47 = .ok (.invokevirtual 158, 3) := dk_182 0 158 (dk_at dksX0_gone_2 0 rfl rfl)
theorem dX0_gone_50 : decode cX0_gone 50 = .ok (.ifCond .eq 24, 3) := dk_153 0 24 (dk_at dksX0_gone_2 3 rfl rfl)
theorem dX0_gone_53 : decode cX0_gone 53 = .ok (.aload_n 0, 1) := dk_42 (dk_at dksX0_gone_2 6 rfl rfl)
theorem dX0_gone_54 : decode cX0_gone 54 = .ok (.getfield 66, 3) := dk_180 0 66 (dk_at dksX0_gone_2 7 rfl rfl)
theorem dX0_gone_57 : decode cX0_gone 57 = .ok (.getfield 252, 3) := dk_180 0 252 (dk_at dksX0_gone_2 10 rfl rfl)
theorem dX0_gone_60 : decode cX0_gone 60 = .ok (.iload_n 1, 1) := dk_27 (dk_at dksX0_gone_2 13 rfl rfl)
theorem dX0_gone_61 : decode cX0_gone 61 = .ok (.iaload, 1) := dk_46 (dk_at dksX0_gone_2 14 rfl rfl)
theorem dX0_gone_62 : decode cX0_gone 62 = .ok (.aload_n 0, 1) := dk_42 (dk_at dksX0_gone_2 15 rfl rfl)
theorem dX0_gone_63 : decode cX0_gone 63 = .ok (.getfield 59, 3) := dk_180 0 59 (dk_at dksX0_gone_2 16 rfl rfl)
theorem dX0_gone_66 : decode cX0_gone 66 = .ok (.getfield 252, 3) := dk_180 0 252 (dk_at dksX0_gone_2 19 rfl rfl)
theorem dX0_gone_69 : decode cX0_gone 69 = .ok (.iload_n 1, 1) := dk_27 (dk_at dksX0_gone_2 22 rfl rfl)
theorem dX0_gone_70 : decode cX0_gone 70 = .ok (.iaload, 1) := dk_46 (dk_at dksX0_gone_2 23 rfl rfl)
theorem dX0_gone_71 : decode cX0_gone 71 = .ok (.if_icmp .eq 5, 3) := dk_159 0 5 (dk_at dksX0_gone_3 0 rfl rfl)
theorem dX0_gone_74 : decode cX0_gone 74 = .ok (.iload_n 2, 1) := dk_28 (dk_at dksX0_gone_3 3 rfl rfl)
theorem dX0_gone_75 : decode cX0_gone 75 = .ok (.ireturn, 1) := dk_172 (dk_at dksX0_gone_3 4 rfl rfl)
theorem dX0_gone_76 : decode cX0_gone 76 = .ok (.iinc 2 1, 3) := dk_132 2 1 (dk_at dksX0_gone_3 5 rfl rfl)
theorem dX0_gone_79 : decode cX0_gone 79 = .ok (.goto (-55), 3) := dk_167 255 201 (dk_at dksX0_gone_3 8 rfl rfl)
theorem dX0_gone_82 : decode cX0_gone 82 = .ok (.iconst (-1), 1) := dk_2 (dk_at dksX0_gone_3 11 rfl rfl)
theorem dX0_gone_83 : decode cX0_gone 83 = .ok (.ireturn, 1) := dk_172 (dk_at dksX0_gone_3 12 rfl rfl)
abbrev cX0_fading : ByteArray := prog_1_method_31_code
def yX0_fading : MethodName := ⟨RX0, "fading", "(I)I"⟩
def dkwX0_fading_1 : List UInt8 := [42, 180, 0, 59, 184, 0, 255, 42, 27, 182, 0, 242, 184, 0, 255, 2, 130, 126, 172]
abbrev dktX0_fading_1 : List UInt8 := dkwX0_fading_1 ++ []
def dkwX0_fading_0 : List UInt8 := [27, 3, 16, 30, 184, 0, 154, 154, 0, 5, 2, 172, 42, 180, 0, 66, 42, 180, 0, 59, 182, 0, 219, 87]
abbrev dktX0_fading_0 : List UInt8 := dkwX0_fading_0 ++ dktX0_fading_1
theorem dksX0_fading_0 : cX0_fading.data.toList.drop 0 = dktX0_fading_0 := by decide +kernel
theorem dksX0_fading_1 : cX0_fading.data.toList.drop 24 = dktX0_fading_1 := dk_seg dksX0_fading_0 24 rfl rfl
theorem dX0_fading_0 : decode cX0_fading 0 = .ok (.iload_n 1, 1) := dk_27 (dk_at dksX0_fading_0 0 rfl rfl)
theorem dX0_fading_1 : decode cX0_fading 1 = .ok (.iconst 0, 1) := dk_3 (dk_at dksX0_fading_0 1 rfl rfl)
theorem dX0_fading_2 : decode cX0_fading 2 = .ok (.bipush 30, 2) := dk_16 30 (dk_at dksX0_fading_0 2 rfl rfl)
theorem dX0_fading_4 : decode cX0_fading 4 = .ok (.invokestatic 154, 3) := dk_184 0 154 (dk_at dksX0_fading_0 4 rfl rfl)
theorem dX0_fading_7 : decode cX0_fading 7 = .ok (.ifCond .ne 5, 3) := dk_154 0 5 (dk_at dksX0_fading_0 7 rfl rfl)
theorem dX0_fading_10 : decode cX0_fading 10 = .ok (.iconst (-1), 1) := dk_2 (dk_at dksX0_fading_0 10 rfl rfl)
theorem dX0_fading_11 : decode cX0_fading 11 = .ok (.ireturn, 1) := dk_172 (dk_at dksX0_fading_0 11 rfl rfl)
theorem dX0_fading_12 : decode cX0_fading 12 = .ok (.aload_n 0, 1) := dk_42 (dk_at dksX0_fading_0 12 rfl rfl)
theorem dX0_fading_13 : decode cX0_fading 13 = .ok (.getfield 66, 3) := dk_180 0 66 (dk_at dksX0_fading_0 13 rfl rfl)
theorem dX0_fading_16 : decode cX0_fading 16 = .ok (.aload_n 0, 1) := dk_42 (dk_at dksX0_fading_0 16 rfl rfl)
theorem dX0_fading_17 : decode cX0_fading 17 = .ok (.getfield 59, 3) := dk_180 0 59 (dk_at dksX0_fading_0 17 rfl rfl)
theorem dX0_fading_20 : decode cX0_fading 20 = .ok (.invokevirtual 219, 3) := dk_182 0 219 (dk_at dksX0_fading_0 20 rfl rfl)
theorem dX0_fading_23 : decode cX0_fading 23 = .ok (.pop, 1) := dk_87 (dk_at dksX0_fading_0 23 rfl rfl)
theorem dX0_fading_24 : decode cX0_fading 24 = .ok (.aload_n 0, 1) := dk_42 (dk_at dksX0_fading_1 0 rfl rfl)
theorem dX0_fading_25 : decode cX0_fading 25 = .ok (.getfield 59, 3) := dk_180 0 59 (dk_at dksX0_fading_1 1 rfl rfl)
theorem dX0_fading_28 : decode cX0_fading 28 = .ok (.invokestatic 255, 3) := dk_184 0 255 (dk_at dksX0_fading_1 4 rfl rfl)
theorem dX0_fading_31 : decode cX0_fading 31 = .ok (.aload_n 0, 1) := dk_42 (dk_at dksX0_fading_1 7 rfl rfl)
theorem dX0_fading_32 : decode cX0_fading 32 = .ok (.iload_n 1, 1) := dk_27 (dk_at dksX0_fading_1 8 rfl rfl)
theorem dX0_fading_33 : decode cX0_fading 33 = .ok (.invokevirtual 242, 3) := dk_182 0 242 (dk_at dksX0_fading_1 9 rfl rfl)
theorem dX0_fading_36 : decode cX0_fading 36 = .ok (.invokestatic 255, 3) := dk_184 0 255 (dk_at dksX0_fading_1 12 rfl rfl)
theorem dX0_fading_39 : decode cX0_fading 39 = .ok (.iconst (-1), 1) := dk_2 (dk_at dksX0_fading_1 15 rfl rfl)
theorem dX0_fading_40 : decode cX0_fading 40 = .ok (.ixor, 1) := dk_130 (dk_at dksX0_fading_1 16 rfl rfl)
theorem dX0_fading_41 : decode cX0_fading 41 = .ok (.iand, 1) := dk_126 (dk_at dksX0_fading_1 17 rfl rfl)
theorem dX0_fading_42 : decode cX0_fading 42 = .ok (.ireturn, 1) := dk_172 (dk_at dksX0_fading_1 18 rfl rfl)
abbrev cX0_marksOf : ByteArray := prog_1_method_30_code
def yX0_marksOf : MethodName := ⟨RX0, "marksOf", "(LTrunkLitters$House;)I"⟩
def dkwX0_marksOf_1 : List UInt8 := [46, 167, 0, 4, 3, 128, 60, 132, 2, 1, 167, 255, 226, 27, 172]
abbrev dktX0_marksOf_1 : List UInt8 := dkwX0_marksOf_1 ++ []
def dkwX0_marksOf_0 : List UInt8 := [3, 60, 3, 61, 28, 16, 8, 162, 0, 30, 27, 42, 28, 182, 0, 158, 153, 0, 12, 42, 180, 0, 186, 28]
abbrev dktX0_marksOf_0 : List UInt8 := dkwX0_marksOf_0 ++ dktX0_marksOf_1
theorem dksX0_marksOf_0 : cX0_marksOf.data.toList.drop 0 = dktX0_marksOf_0 := by decide +kernel
theorem dksX0_marksOf_1 : cX0_marksOf.data.toList.drop 24 = dktX0_marksOf_1 := dk_seg dksX0_marksOf_0 24 rfl rfl
theorem dX0_marksOf_0 : decode cX0_marksOf 0 = .ok (.iconst 0, 1) := dk_3 (dk_at dksX0_marksOf_0 0 rfl rfl)
theorem dX0_marksOf_1 : decode cX0_marksOf 1 = .ok (.istore_n 1, 1) := dk_60 (dk_at dksX0_marksOf_0 1 rfl rfl)
theorem dX0_marksOf_2 : decode cX0_marksOf 2 = .ok (.iconst 0, 1) := dk_3 (dk_at dksX0_marksOf_0 2 rfl rfl)
theorem dX0_marksOf_3 : decode cX0_marksOf 3 = .ok (.istore_n 2, 1) := dk_61 (dk_at dksX0_marksOf_0 3 rfl rfl)
theorem dX0_marksOf_4 : decode cX0_marksOf 4 = .ok (.iload_n 2, 1) := dk_28 (dk_at dksX0_marksOf_0 4 rfl rfl)
theorem dX0_marksOf_5 : decode cX0_marksOf 5 = .ok (.bipush 8, 2) := dk_16 8 (dk_at dksX0_marksOf_0 5 rfl rfl)
theorem dX0_marksOf_7 : decode cX0_marksOf 7 = .ok (.if_icmp .ge 30, 3) := dk_162 0 30 (dk_at dksX0_marksOf_0 7 rfl rfl)
theorem dX0_marksOf_10 : decode cX0_marksOf 10 = .ok (.iload_n 1, 1) := dk_27 (dk_at dksX0_marksOf_0 10 rfl rfl)
theorem dX0_marksOf_11 : decode cX0_marksOf 11 = .ok (.aload_n 0, 1) := dk_42 (dk_at dksX0_marksOf_0 11 rfl rfl)
theorem dX0_marksOf_12 : decode cX0_marksOf 12 = .ok (.iload_n 2, 1) := dk_28 (dk_at dksX0_marksOf_0 12 rfl rfl)
theorem dX0_marksOf_13 : decode cX0_marksOf 13 = .ok (.invokevirtual 158, 3) := dk_182 0 158 (dk_at dksX0_marksOf_0 13 rfl rfl)
theorem dX0_marksOf_16 : decode cX0_marksOf 16 = .ok (.ifCond .eq 12, 3) := dk_153 0 12 (dk_at dksX0_marksOf_0 16 rfl rfl)
theorem dX0_marksOf_19 : decode cX0_marksOf 19 = .ok (.aload_n 0, 1) := dk_42 (dk_at dksX0_marksOf_0 19 rfl rfl)
theorem dX0_marksOf_20 : decode cX0_marksOf 20 = .ok (.getfield 186, 3) := dk_180 0 186 (dk_at dksX0_marksOf_0 20 rfl rfl)
theorem dX0_marksOf_23 : decode cX0_marksOf 23 = .ok (.iload_n 2, 1) := dk_28 (dk_at dksX0_marksOf_0 23 rfl rfl)
theorem dX0_marksOf_24 : decode cX0_marksOf 24 = .ok (.iaload, 1) := dk_46 (dk_at dksX0_marksOf_1 0 rfl rfl)
theorem dX0_marksOf_25 : decode cX0_marksOf 25 = .ok (.goto 4, 3) := dk_167 0 4 (dk_at dksX0_marksOf_1 1 rfl rfl)
theorem dX0_marksOf_28 : decode cX0_marksOf 28 = .ok (.iconst 0, 1) := dk_3 (dk_at dksX0_marksOf_1 4 rfl rfl)
theorem dX0_marksOf_29 : decode cX0_marksOf 29 = .ok (.ior, 1) := dk_128 (dk_at dksX0_marksOf_1 5 rfl rfl)
theorem dX0_marksOf_30 : decode cX0_marksOf 30 = .ok (.istore_n 1, 1) := dk_60 (dk_at dksX0_marksOf_1 6 rfl rfl)
theorem dX0_marksOf_31 : decode cX0_marksOf 31 = .ok (.iinc 2 1, 3) := dk_132 2 1 (dk_at dksX0_marksOf_1 7 rfl rfl)
theorem dX0_marksOf_34 : decode cX0_marksOf 34 = .ok (.goto (-30), 3) := dk_167 255 226 (dk_at dksX0_marksOf_1 10 rfl rfl)
theorem dX0_marksOf_37 : decode cX0_marksOf 37 = .ok (.iload_n 1, 1) := dk_27 (dk_at dksX0_marksOf_1 13 rfl rfl)
theorem dX0_marksOf_38 : decode cX0_marksOf 38 = .ok (.ireturn, 1) := dk_172 (dk_at dksX0_marksOf_1 14 rfl rfl)
abbrev cX0_best : ByteArray := prog_1_method_32_code
def yX0_best : MethodName := ⟨RX0, "best", "(II)I"⟩
def dkwX0_best_5 : List UInt8 := [21, 5, 62, 21, 6, 54, 4, 132, 5, 1, 167, 255, 154, 28, 154, 0, 7, 29, 167, 0, 5, 21, 4, 172]
abbrev dktX0_best_5 : List UInt8 := dkwX0_best_5 ++ []
def dkwX0_best_4 : List UInt8 := [79, 42, 8, 182, 0, 242, 180, 0, 246, 184, 0, 25, 54, 6, 21, 6, 21, 4, 163, 0, 6, 167, 0, 10]
abbrev dktX0_best_4 : List UInt8 := dkwX0_best_4 ++ dktX0_best_5
def dkwX0_best_3 : List UInt8 := [46, 162, 0, 6, 167, 0, 51, 42, 180, 0, 66, 42, 180, 0, 59, 182, 0, 219, 180, 0, 183, 27, 21, 5]
abbrev dktX0_best_3 : List UInt8 := dkwX0_best_3 ++ dktX0_best_4
def dkwX0_best_2 : List UInt8 := [159, 0, 31, 42, 180, 0, 59, 42, 180, 0, 48, 21, 5, 182, 0, 170, 42, 180, 0, 59, 180, 0, 180, 27]
abbrev dktX0_best_2 : List UInt8 := dkwX0_best_2 ++ dktX0_best_3
def dkwX0_best_1 : List UInt8 := [3, 54, 5, 21, 5, 42, 182, 0, 152, 162, 0, 99, 21, 5, 42, 180, 0, 59, 180, 0, 183, 27, 46]
abbrev dktX0_best_1 : List UInt8 := dkwX0_best_1 ++ dktX0_best_2
def dkwX0_best_0 : List UInt8 := [42, 27, 182, 0, 177, 153, 0, 12, 28, 3, 4, 184, 0, 154, 154, 0, 5, 2, 172, 2, 62, 2, 54, 4]
abbrev dktX0_best_0 : List UInt8 := dkwX0_best_0 ++ dktX0_best_1
theorem dksX0_best_0 : cX0_best.data.toList.drop 0 = dktX0_best_0 := by decide +kernel
theorem dksX0_best_1 : cX0_best.data.toList.drop 24 = dktX0_best_1 := dk_seg dksX0_best_0 24 rfl rfl
theorem dksX0_best_2 : cX0_best.data.toList.drop 47 = dktX0_best_2 := dk_seg dksX0_best_1 23 rfl rfl
theorem dksX0_best_3 : cX0_best.data.toList.drop 71 = dktX0_best_3 := dk_seg dksX0_best_2 24 rfl rfl
theorem dksX0_best_4 : cX0_best.data.toList.drop 95 = dktX0_best_4 := dk_seg dksX0_best_3 24 rfl rfl
theorem dksX0_best_5 : cX0_best.data.toList.drop 119 = dktX0_best_5 := dk_seg dksX0_best_4 24 rfl rfl
theorem dX0_best_0 : decode cX0_best 0 = .ok (.aload_n 0, 1) := dk_42 (dk_at dksX0_best_0 0 rfl rfl)
theorem dX0_best_1 : decode cX0_best 1 = .ok (.iload_n 1, 1) := dk_27 (dk_at dksX0_best_0 1 rfl rfl)
theorem dX0_best_2 : decode cX0_best 2 = .ok (.invokevirtual 177, 3) := dk_182 0 177 (dk_at dksX0_best_0 2 rfl rfl)
theorem dX0_best_5 : decode cX0_best 5 = .ok (.ifCond .eq 12, 3) := dk_153 0 12 (dk_at dksX0_best_0 5 rfl rfl)
theorem dX0_best_8 : decode cX0_best 8 = .ok (.iload_n 2, 1) := dk_28 (dk_at dksX0_best_0 8 rfl rfl)
theorem dX0_best_9 : decode cX0_best 9 = .ok (.iconst 0, 1) := dk_3 (dk_at dksX0_best_0 9 rfl rfl)
theorem dX0_best_10 : decode cX0_best 10 = .ok (.iconst 1, 1) := dk_4 (dk_at dksX0_best_0 10 rfl rfl)
theorem dX0_best_11 : decode cX0_best 11 = .ok (.invokestatic 154, 3) := dk_184 0 154 (dk_at dksX0_best_0 11 rfl rfl)
theorem dX0_best_14 : decode cX0_best 14 = .ok (.ifCond .ne 5, 3) := dk_154 0 5 (dk_at dksX0_best_0 14 rfl rfl)
theorem dX0_best_17 : decode cX0_best 17 = .ok (.iconst (-1), 1) := dk_2 (dk_at dksX0_best_0 17 rfl rfl)
theorem dX0_best_18 : decode cX0_best 18 = .ok (.ireturn, 1) := dk_172 (dk_at dksX0_best_0 18 rfl rfl)
theorem dX0_best_19 : decode cX0_best 19 = .ok (.iconst (-1), 1) := dk_2 (dk_at dksX0_best_0 19 rfl rfl)
theorem dX0_best_20 : decode cX0_best 20 = .ok (.istore_n 3, 1) := dk_62 (dk_at dksX0_best_0 20 rfl rfl)
theorem dX0_best_21 : decode cX0_best 21 = .ok (.iconst (-1), 1) := dk_2 (dk_at dksX0_best_0 21 rfl rfl)
theorem dX0_best_22 : decode cX0_best 22 = .ok (.istore 4, 2) := dk_54 4 (dk_at dksX0_best_0 22 rfl rfl)
theorem dX0_best_24 : decode cX0_best 24 = .ok (.iconst 0, 1) := dk_3 (dk_at dksX0_best_1 0 rfl rfl)
theorem dX0_best_25 : decode cX0_best 25 = .ok (.istore 5, 2) := dk_54 5 (dk_at dksX0_best_1 1 rfl rfl)
theorem dX0_best_27 : decode cX0_best 27 = .ok (.iload 5, 2) := dk_21 5 (dk_at dksX0_best_1 3 rfl rfl)
theorem dX0_best_29 : decode cX0_best 29 = .ok (.aload_n 0, 1) := dk_42 (dk_at dksX0_best_1 5 rfl rfl)
theorem dX0_best_30 : decode cX0_best 30 = .ok (.invokevirtual 152, 3) := dk_182 0 152 (dk_at dksX0_best_1 6 rfl rfl)
theorem dX0_best_33 : decode cX0_best 33 = .ok (.if_icmp .ge 99, 3) := dk_162 0 99 (dk_at dksX0_best_1 9 rfl rfl)
theorem dX0_best_36 : decode cX0_best 36 = .ok (.iload 5, 2) := dk_21 5 (dk_at dksX0_best_1 12 rfl rfl)
theorem dX0_best_38 : decode cX0_best 38 = .ok (.aload_n 0, 1) := dk_42 (dk_at dksX0_best_1 14 rfl rfl)
theorem dX0_best_39 : decode cX0_best 39 = .ok (.getfield 59, 3) := dk_180 0 59 (dk_at dksX0_best_1 15 rfl rfl)
theorem dX0_best_42 : decode cX0_best 42 = .ok (.getfield 183, 3) := dk_180 0 183 (dk_at dksX0_best_1 18 rfl rfl)
theorem dX0_best_45 : decode cX0_best 45 = .ok (.iload_n 1, 1) := dk_27 (dk_at dksX0_best_1 21 rfl rfl)
theorem dX0_best_46 : decode cX0_best 46 = .ok (.iaload, 1) := dk_46 (dk_at dksX0_best_1 22 rfl rfl)
theorem dX0_best_47 : decode cX0_best 47 = .ok (.if_icmp .eq 31, 3) := dk_159 0 31 (dk_at dksX0_best_2 0 rfl rfl)
theorem dX0_best_50 : decode cX0_best 50 = .ok (.aload_n 0, 1) := dk_42 (dk_at dksX0_best_2 3 rfl rfl)
theorem dX0_best_51 : decode cX0_best 51 = .ok (.getfield 59, 3) := dk_180 0 59 (dk_at dksX0_best_2 4 rfl rfl)
theorem dX0_best_54 : decode cX0_best 54 = .ok (.aload_n 0, 1) := dk_42 (dk_at dksX0_best_2 7 rfl rfl)
theorem dX0_best_55 : decode cX0_best 55 = .ok (.getfield 48, 3) := dk_180 0 48 (dk_at dksX0_best_2 8 rfl rfl)
theorem dX0_best_58 : decode cX0_best 58 = .ok (.iload 5, 2) := dk_21 5 (dk_at dksX0_best_2 11 rfl rfl)
theorem dX0_best_60 : decode cX0_best 60 = .ok (.invokevirtual 170, 3) := dk_182 0 170 (dk_at dksX0_best_2 13 rfl rfl)
theorem dX0_best_63 : decode cX0_best 63 = .ok (.aload_n 0, 1) := dk_42 (dk_at dksX0_best_2 16 rfl rfl)
theorem dX0_best_64 : decode cX0_best 64 = .ok (.getfield 59, 3) := dk_180 0 59 (dk_at dksX0_best_2 17 rfl rfl)
theorem dX0_best_67 : decode cX0_best 67 = .ok (.getfield 180, 3) := dk_180 0 180 (dk_at dksX0_best_2 20 rfl rfl)
theorem dX0_best_70 : decode cX0_best 70 = .ok (.iload_n 1, 1) := dk_27 (dk_at dksX0_best_2 23 rfl rfl)
theorem dX0_best_71 : decode cX0_best 71 = .ok (.iaload, 1) := dk_46 (dk_at dksX0_best_3 0 rfl rfl)
theorem dX0_best_72 : decode cX0_best 72 = .ok (.if_icmp .ge 6, 3) := dk_162 0 6 (dk_at dksX0_best_3 1 rfl rfl)
theorem dX0_best_75 : decode cX0_best 75 = .ok (.goto 51, 3) := dk_167 0 51 (dk_at dksX0_best_3 4 rfl rfl)
theorem dX0_best_78 : decode cX0_best 78 = .ok (.aload_n 0, 1) := dk_42 (dk_at dksX0_best_3 7 rfl rfl)
theorem dX0_best_79 : decode cX0_best 79 = .ok (.getfield 66, 3) := dk_180 0 66 (dk_at dksX0_best_3 8 rfl rfl)
theorem dX0_best_82 : decode cX0_best 82 = .ok (.aload_n 0, 1) := dk_42 (dk_at dksX0_best_3 11 rfl rfl)
theorem dX0_best_83 : decode cX0_best 83 = .ok (.getfield 59, 3) := dk_180 0 59 (dk_at dksX0_best_3 12 rfl rfl)
theorem dX0_best_86 : decode cX0_best 86 = .ok (.invokevirtual 219, 3) := dk_182 0 219 (dk_at dksX0_best_3 15 rfl rfl)
theorem dX0_best_89 : decode cX0_best 89 = .ok (.getfield 183, 3) := dk_180 0 183 (dk_at dksX0_best_3 18 rfl rfl)
theorem dX0_best_92 : decode cX0_best 92 = .ok (.iload_n 1, 1) := dk_27 (dk_at dksX0_best_3 21 rfl rfl)
theorem dX0_best_93 : decode cX0_best 93 = .ok (.iload 5, 2) := dk_21 5 (dk_at dksX0_best_3 22 rfl rfl)
theorem dX0_best_95 : decode cX0_best 95 = .ok (.iastore, 1) := dk_79 (dk_at dksX0_best_4 0 rfl rfl)
theorem dX0_best_96 : decode cX0_best 96 = .ok (.aload_n 0, 1) := dk_42 (dk_at dksX0_best_4 1 rfl rfl)
theorem dX0_best_97 : decode cX0_best 97 = .ok (.iconst 5, 1) := dk_8 (dk_at dksX0_best_4 2 rfl rfl)
theorem dX0_best_98 : decode cX0_best 98 = .ok (.invokevirtual 242, 3) := dk_182 0 242 (dk_at dksX0_best_4 3 rfl rfl)
theorem dX0_best_101 : decode cX0_best 101 = .ok (.getfield 246, 3) := dk_180 0 246 (dk_at dksX0_best_4 6 rfl rfl)
theorem dX0_best_104 : decode cX0_best 104 = .ok (.invokestatic 25, 3) := dk_184 0 25 (dk_at dksX0_best_4 9 rfl rfl)
theorem dX0_best_107 : decode cX0_best 107 = .ok (.istore 6, 2) := dk_54 6 (dk_at dksX0_best_4 12 rfl rfl)
theorem dX0_best_109 : decode cX0_best 109 = .ok (.iload 6, 2) := dk_21 6 (dk_at dksX0_best_4 14 rfl rfl)
theorem dX0_best_111 : decode cX0_best 111 = .ok (.iload 4, 2) := dk_21 4 (dk_at dksX0_best_4 16 rfl rfl)
theorem dX0_best_113 : decode cX0_best 113 = .ok (.if_icmp .gt 6, 3) := dk_163 0 6 (dk_at dksX0_best_4 18 rfl rfl)
theorem dX0_best_116 : decode cX0_best 116 = .ok (.goto 10, 3) := dk_167 0 10 (dk_at dksX0_best_4 21 rfl rfl)
theorem dX0_best_119 : decode cX0_best 119 = .ok (.iload 5, 2) := dk_21 5 (dk_at dksX0_best_5 0 rfl rfl)
theorem dX0_best_121 : decode cX0_best 121 = .ok (.istore_n 3, 1) := dk_62 (dk_at dksX0_best_5 2 rfl rfl)
theorem dX0_best_122 : decode cX0_best 122 = .ok (.iload 6, 2) := dk_21 6 (dk_at dksX0_best_5 3 rfl rfl)
theorem dX0_best_124 : decode cX0_best 124 = .ok (.istore 4, 2) := dk_54 4 (dk_at dksX0_best_5 5 rfl rfl)
theorem dX0_best_126 : decode cX0_best 126 = .ok (.iinc 5 1, 3) := dk_132 5 1 (dk_at dksX0_best_5 7 rfl rfl)
theorem dX0_best_129 : decode cX0_best 129 = .ok (.goto (-102), 3) := dk_167 255 154 (dk_at dksX0_best_5 10 rfl rfl)
theorem dX0_best_132 : decode cX0_best 132 = .ok (.iload_n 2, 1) := dk_28 (dk_at dksX0_best_5 13 rfl rfl)
theorem dX0_best_133 : decode cX0_best 133 = .ok (.ifCond .ne 7, 3) := dk_154 0 7 (dk_at dksX0_best_5 14 rfl rfl)
theorem dX0_best_136 : decode cX0_best 136 = .ok (.iload_n 3, 1) := dk_29 (dk_at dksX0_best_5 17 rfl rfl)
theorem dX0_best_137 : decode cX0_best 137 = .ok (.goto 5, 3) := dk_167 0 5 (dk_at dksX0_best_5 18 rfl rfl)
theorem dX0_best_140 : decode cX0_best 140 = .ok (.iload 4, 2) := dk_21 4 (dk_at dksX0_best_5 21 rfl rfl)
theorem dX0_best_142 : decode cX0_best 142 = .ok (.ireturn, 1) := dk_172 (dk_at dksX0_best_5 23 rfl rfl)
abbrev cX0_need : ByteArray := prog_1_method_33_code
def yX0_need : MethodName := ⟨RX0, "need", "(I)I"⟩
def dkwX0_need_2 : List UInt8 := [184, 1, 3, 167, 0, 4, 3, 96, 61, 132, 3, 1, 167, 255, 214, 28, 172]
abbrev dktX0_need_2 : List UInt8 := dkwX0_need_2 ++ []
def dkwX0_need_1 : List UInt8 := [180, 0, 59, 29, 182, 0, 158, 153, 0, 21, 3, 27, 42, 180, 0, 59, 180, 0, 189, 29, 46, 100]
abbrev dktX0_need_1 : List UInt8 := dkwX0_need_1 ++ dktX0_need_2
def dkwX0_need_0 : List UInt8 := [27, 3, 16, 30, 184, 0, 154, 154, 0, 5, 2, 172, 3, 61, 3, 62, 29, 16, 8, 162, 0, 42, 28, 42]
abbrev dktX0_need_0 : List UInt8 := dkwX0_need_0 ++ dktX0_need_1
theorem dksX0_need_0 : cX0_need.data.toList.drop 0 = dktX0_need_0 := by decide +kernel
theorem dksX0_need_1 : cX0_need.data.toList.drop 24 = dktX0_need_1 := dk_seg dksX0_need_0 24 rfl rfl
theorem dksX0_need_2 : cX0_need.data.toList.drop 46 = dktX0_need_2 := dk_seg dksX0_need_1 22 rfl rfl
theorem dX0_need_0 : decode cX0_need 0 = .ok (.iload_n 1, 1) := dk_27 (dk_at dksX0_need_0 0 rfl rfl)
theorem dX0_need_1 : decode cX0_need 1 = .ok (.iconst 0, 1) := dk_3 (dk_at dksX0_need_0 1 rfl rfl)
theorem dX0_need_2 : decode cX0_need 2 = .ok (.bipush 30, 2) := dk_16 30 (dk_at dksX0_need_0 2 rfl rfl)
theorem dX0_need_4 : decode cX0_need 4 = .ok (.invokestatic 154, 3) := dk_184 0 154 (dk_at dksX0_need_0 4 rfl rfl)
theorem dX0_need_7 : decode cX0_need 7 = .ok (.ifCond .ne 5, 3) := dk_154 0 5 (dk_at dksX0_need_0 7 rfl rfl)
theorem dX0_need_10 : decode cX0_need 10 = .ok (.iconst (-1), 1) := dk_2 (dk_at dksX0_need_0 10 rfl rfl)
theorem dX0_need_11 : decode cX0_need 11 = .ok (.ireturn, 1) := dk_172 (dk_at dksX0_need_0 11 rfl rfl)
theorem dX0_need_12 : decode cX0_need 12 = .ok (.iconst 0, 1) := dk_3 (dk_at dksX0_need_0 12 rfl rfl)
theorem dX0_need_13 : decode cX0_need 13 = .ok (.istore_n 2, 1) := dk_61 (dk_at dksX0_need_0 13 rfl rfl)
theorem dX0_need_14 : decode cX0_need 14 = .ok (.iconst 0, 1) := dk_3 (dk_at dksX0_need_0 14 rfl rfl)
theorem dX0_need_15 : decode cX0_need 15 = .ok (.istore_n 3, 1) := dk_62 (dk_at dksX0_need_0 15 rfl rfl)
theorem dX0_need_16 : decode cX0_need 16 = .ok (.iload_n 3, 1) := dk_29 (dk_at dksX0_need_0 16 rfl rfl)
theorem dX0_need_17 : decode cX0_need 17 = .ok (.bipush 8, 2) := dk_16 8 (dk_at dksX0_need_0 17 rfl rfl)
theorem dX0_need_19 : decode cX0_need 19 = .ok (.if_icmp .ge 42, 3) := dk_162 0 42 (dk_at dksX0_need_0 19 rfl rfl)
theorem dX0_need_22 : decode cX0_need 22 = .ok (.iload_n 2, 1) := dk_28 (dk_at dksX0_need_0 22 rfl rfl)
theorem dX0_need_23 : decode cX0_need 23 = .ok (.aload_n 0, 1) := dk_42 (dk_at dksX0_need_0 23 rfl rfl)
theorem dX0_need_24 : decode cX0_need 24 = .ok (.getfield 59, 3) := dk_180 0 59 (dk_at dksX0_need_1 0 rfl rfl)
theorem dX0_need_27 : decode cX0_need 27 = .ok (.iload_n 3, 1) := dk_29 (dk_at dksX0_need_1 3 rfl rfl)
theorem dX0_need_28 : decode cX0_need 28 = .ok (.invokevirtual 158, 3) := dk_182 0 158 (dk_at dksX0_need_1 4 rfl rfl)
theorem dX0_need_31 : decode cX0_need 31 = .ok (.ifCond .eq 21, 3) := dk_153 0 21 (dk_at dksX0_need_1 7 rfl rfl)
theorem dX0_need_34 : decode cX0_need 34 = .ok (.iconst 0, 1) := dk_3 (dk_at dksX0_need_1 10 rfl rfl)
theorem dX0_need_35 : decode cX0_need 35 = .ok (.iload_n 1, 1) := dk_27 (dk_at dksX0_need_1 11 rfl rfl)
theorem dX0_need_36 : decode cX0_need 36 = .ok (.aload_n 0, 1) := dk_42 (dk_at dksX0_need_1 12 rfl rfl)
theorem dX0_need_37 : decode cX0_need 37 = .ok (.getfield 59, 3) := dk_180 0 59 (dk_at dksX0_need_1 13 rfl rfl)
theorem dX0_need_40 : decode cX0_need 40 = .ok (.getfield 189, 3) := dk_180 0 189 (dk_at dksX0_need_1 16 rfl rfl)
theorem dX0_need_43 : decode cX0_need 43 = .ok (.iload_n 3, 1) := dk_29 (dk_at dksX0_need_1 19 rfl rfl)
theorem dX0_need_44 : decode cX0_need 44 = .ok (.iaload, 1) := dk_46 (dk_at dksX0_need_1 20 rfl rfl)
theorem dX0_need_45 : decode cX0_need 45 = .ok (.isub, 1) := dk_100 (dk_at dksX0_need_1 21 rfl rfl)
theorem dX0_need_46 : decode cX0_need 46 = .ok (.invokestatic 259, 3) := dk_184 1 3 (dk_at dksX0_need_2 0 rfl rfl)
theorem dX0_need_49 : decode cX0_need 49 = .ok (.goto 4, 3) := dk_167 0 4 (dk_at dksX0_need_2 3 rfl rfl)
theorem dX0_need_52 : decode cX0_need 52 = .ok (.iconst 0, 1) := dk_3 (dk_at dksX0_need_2 6 rfl rfl)
theorem dX0_need_53 : decode cX0_need 53 = .ok (.iadd, 1) := dk_96 (dk_at dksX0_need_2 7 rfl rfl)
theorem dX0_need_54 : decode cX0_need 54 = .ok (.istore_n 2, 1) := dk_61 (dk_at dksX0_need_2 8 rfl rfl)
theorem dX0_need_55 : decode cX0_need 55 = .ok (.iinc 3 1, 3) := dk_132 3 1 (dk_at dksX0_need_2 9 rfl rfl)
theorem dX0_need_58 : decode cX0_need 58 = .ok (.goto (-42), 3) := dk_167 255 214 (dk_at dksX0_need_2 12 rfl rfl)
theorem dX0_need_61 : decode cX0_need 61 = .ok (.iload_n 2, 1) := dk_28 (dk_at dksX0_need_2 15 rfl rfl)
theorem dX0_need_62 : decode cX0_need 62 = .ok (.ireturn, 1) := dk_172 (dk_at dksX0_need_2 16 rfl rfl)
abbrev cX0_pining : ByteArray := prog_1_method_34_code
def yX0_pining : MethodName := ⟨RX0, "pining", "()I"⟩
def dkwX0_pining_2 : List UInt8 := [167, 255, 214, 27, 172]
abbrev dktX0_pining_2 : List UInt8 := dkwX0_pining_2 ++ []
def dkwX0_pining_1 : List UInt8 := [180, 0, 59, 180, 0, 192, 28, 46, 158, 0, 9, 4, 28, 120, 167, 0, 4, 3, 128, 60, 132, 2, 1]
abbrev dktX0_pining_1 : List UInt8 := dkwX0_pining_1 ++ dktX0_pining_2
def dkwX0_pining_0 : List UInt8 := [3, 60, 3, 61, 28, 16, 8, 162, 0, 42, 27, 42, 180, 0, 59, 28, 182, 0, 158, 153, 0, 21, 42]
abbrev dktX0_pining_0 : List UInt8 := dkwX0_pining_0 ++ dktX0_pining_1
theorem dksX0_pining_0 : cX0_pining.data.toList.drop 0 = dktX0_pining_0 := by decide +kernel
theorem dksX0_pining_1 : cX0_pining.data.toList.drop 23 = dktX0_pining_1 := dk_seg dksX0_pining_0 23 rfl rfl
theorem dksX0_pining_2 : cX0_pining.data.toList.drop 46 = dktX0_pining_2 := dk_seg dksX0_pining_1 23 rfl rfl
theorem dX0_pining_0 : decode cX0_pining 0 = .ok (.iconst 0, 1) := dk_3 (dk_at dksX0_pining_0 0 rfl rfl)
theorem dX0_pining_1 : decode cX0_pining 1 = .ok (.istore_n 1, 1) := dk_60 (dk_at dksX0_pining_0 1 rfl rfl)
theorem dX0_pining_2 : decode cX0_pining 2 = .ok (.iconst 0, 1) := dk_3 (dk_at dksX0_pining_0 2 rfl rfl)
theorem dX0_pining_3 : decode cX0_pining 3 = .ok (.istore_n 2, 1) := dk_61 (dk_at dksX0_pining_0 3 rfl rfl)
theorem dX0_pining_4 : decode cX0_pining 4 = .ok (.iload_n 2, 1) := dk_28 (dk_at dksX0_pining_0 4 rfl rfl)
theorem dX0_pining_5 : decode cX0_pining 5 = .ok (.bipush 8, 2) := dk_16 8 (dk_at dksX0_pining_0 5 rfl rfl)
theorem dX0_pining_7 : decode cX0_pining 7 = .ok (.if_icmp .ge 42, 3) := dk_162 0 42 (dk_at dksX0_pining_0 7 rfl rfl)
theorem dX0_pining_10 : decode cX0_pining 10 = .ok (.iload_n 1, 1) := dk_27 (dk_at dksX0_pining_0 10 rfl rfl)
theorem dX0_pining_11 : decode cX0_pining 11 = .ok (.aload_n 0, 1) := dk_42 (dk_at dksX0_pining_0 11 rfl rfl)
theorem dX0_pining_12 : decode cX0_pining 12 = .ok (.getfield 59, 3) := dk_180 0 59 (dk_at dksX0_pining_0 12 rfl rfl)
theorem dX0_pining_15 : decode cX0_pining 15 = .ok (.iload_n 2, 1) := dk_28 (dk_at dksX0_pining_0 15 rfl rfl)
theorem dX0_pining_16 : decode cX0_pining 16 = .ok (.invokevirtual 158, 3) := dk_182 0 158 (dk_at dksX0_pining_0 16 rfl rfl)
theorem dX0_pining_19 : decode cX0_pining 19 = .ok (.ifCond .eq 21, 3) := dk_153 0 21 (dk_at dksX0_pining_0 19 rfl rfl)
theorem dX0_pining_22 : decode cX0_pining 22 = .ok (.aload_n 0, 1) := dk_42 (dk_at dksX0_pining_0 22 rfl rfl)
theorem dX0_pining_23 : decode cX0_pining 23 = .ok (.getfield 59, 3) := dk_180 0 59 (dk_at dksX0_pining_1 0 rfl rfl)
theorem dX0_pining_26 : decode cX0_pining 26 = .ok (.getfield 192, 3) := dk_180 0 192 (dk_at dksX0_pining_1 3 rfl rfl)
theorem dX0_pining_29 : decode cX0_pining 29 = .ok (.iload_n 2, 1) := dk_28 (dk_at dksX0_pining_1 6 rfl rfl)
theorem dX0_pining_30 : decode cX0_pining 30 = .ok (.iaload, 1) := dk_46 (dk_at dksX0_pining_1 7 rfl rfl)
theorem dX0_pining_31 : decode cX0_pining 31 = .ok (.ifCond .le 9, 3) := dk_158 0 9 (dk_at dksX0_pining_1 8 rfl rfl)
theorem dX0_pining_34 : decode cX0_pining 34 = .ok (.iconst 1, 1) := dk_4 (dk_at dksX0_pining_1 11 rfl rfl)
theorem dX0_pining_35 : decode cX0_pining 35 = .ok (.iload_n 2, 1) := dk_28 (dk_at dksX0_pining_1 12 rfl rfl)
theorem dX0_pining_36 : decode cX0_pining 36 = .ok (.ishl, 1) := dk_120 (dk_at dksX0_pining_1 13 rfl rfl)
theorem dX0_pining_37 : decode cX0_pining 37 = .ok (.goto 4, 3) := dk_167 0 4 (dk_at dksX0_pining_1 14 rfl rfl)
theorem dX0_pining_40 : decode cX0_pining 40 = .ok (.iconst 0, 1) := dk_3 (dk_at dksX0_pining_1 17 rfl rfl)
theorem dX0_pining_41 : decode cX0_pining 41 = .ok (.ior, 1) := dk_128 (dk_at dksX0_pining_1 18 rfl rfl)
theorem dX0_pining_42 : decode cX0_pining 42 = .ok (.istore_n 1, 1) := dk_60 (dk_at dksX0_pining_1 19 rfl rfl)
theorem dX0_pining_43 : decode cX0_pining 43 = .ok (.iinc 2 1, 3) := dk_132 2 1 (dk_at dksX0_pining_1 20 rfl rfl)
theorem dX0_pining_46 : decode cX0_pining 46 = .ok (.goto (-42), 3) := dk_167 255 214 (dk_at dksX0_pining_2 0 rfl rfl)
theorem dX0_pining_49 : decode cX0_pining 49 = .ok (.iload_n 1, 1) := dk_27 (dk_at dksX0_pining_2 3 rfl rfl)
theorem dX0_pining_50 : decode cX0_pining 50 = .ok (.ireturn, 1) := dk_172 (dk_at dksX0_pining_2 4 rfl rfl)
abbrev cX0_pack : ByteArray := prog_1_method_36_code
def yX0_pack : MethodName := ⟨RX0, "pack", "()I"⟩
def dkwX0_pack_3 : List UInt8 := [180, 1, 9, 7, 164, 0, 7, 2, 167, 0, 7, 42, 180, 1, 9, 172]
abbrev dktX0_pack_3 : List UInt8 := dkwX0_pack_3 ++ []
def dkwX0_pack_2 : List UInt8 := [182, 1, 12, 42, 42, 180, 1, 9, 7, 164, 0, 7, 3, 167, 0, 5, 16, 8, 181, 0, 129, 42]
abbrev dktX0_pack_2 : List UInt8 := dkwX0_pack_2 ++ dktX0_pack_3
def dkwX0_pack_1 : List UInt8 := [180, 0, 149, 27, 182, 0, 9, 192, 0, 165, 180, 0, 167, 79, 132, 1, 1, 167, 255, 222, 42, 3, 3]
abbrev dktX0_pack_1 : List UInt8 := dkwX0_pack_1 ++ dktX0_pack_2
def dkwX0_pack_0 : List UInt8 := [42, 8, 181, 1, 9, 3, 60, 27, 42, 182, 0, 152, 162, 0, 32, 42, 180, 0, 80, 27, 42, 180, 0, 48]
abbrev dktX0_pack_0 : List UInt8 := dkwX0_pack_0 ++ dktX0_pack_1
theorem dksX0_pack_0 : cX0_pack.data.toList.drop 0 = dktX0_pack_0 := by decide +kernel
theorem dksX0_pack_1 : cX0_pack.data.toList.drop 24 = dktX0_pack_1 := dk_seg dksX0_pack_0 24 rfl rfl
theorem dksX0_pack_2 : cX0_pack.data.toList.drop 47 = dktX0_pack_2 := dk_seg dksX0_pack_1 23 rfl rfl
theorem dksX0_pack_3 : cX0_pack.data.toList.drop 69 = dktX0_pack_3 := dk_seg dksX0_pack_2 22 rfl rfl
theorem dX0_pack_0 : decode cX0_pack 0 = .ok (.aload_n 0, 1) := dk_42 (dk_at dksX0_pack_0 0 rfl rfl)
theorem dX0_pack_1 : decode cX0_pack 1 = .ok (.iconst 5, 1) := dk_8 (dk_at dksX0_pack_0 1 rfl rfl)
theorem dX0_pack_2 : decode cX0_pack 2 = .ok (.putfield 265, 3) := dk_181 1 9 (dk_at dksX0_pack_0 2 rfl rfl)
theorem dX0_pack_5 : decode cX0_pack 5 = .ok (.iconst 0, 1) := dk_3 (dk_at dksX0_pack_0 5 rfl rfl)
theorem dX0_pack_6 : decode cX0_pack 6 = .ok (.istore_n 1, 1) := dk_60 (dk_at dksX0_pack_0 6 rfl rfl)
theorem dX0_pack_7 : decode cX0_pack 7 = .ok (.iload_n 1, 1) := dk_27 (dk_at dksX0_pack_0 7 rfl rfl)
theorem dX0_pack_8 : decode cX0_pack 8 = .ok (.aload_n 0, 1) := dk_42 (dk_at dksX0_pack_0 8 rfl rfl)
theorem dX0_pack_9 : decode cX0_pack 9 = .ok (.invokevirtual 152, 3) := dk_182 0 152 (dk_at dksX0_pack_0 9 rfl rfl)
theorem dX0_pack_12 : decode cX0_pack 12 = .ok (.if_icmp .ge 32, 3) := dk_162 0 32 (dk_at dksX0_pack_0 12 rfl rfl)
theorem dX0_pack_15 : decode cX0_pack 15 = .ok (.aload_n 0, 1) := dk_42 (dk_at dksX0_pack_0 15 rfl rfl)
theorem dX0_pack_16 : decode cX0_pack 16 = .ok (.getfield 80, 3) := dk_180 0 80 (dk_at dksX0_pack_0 16 rfl rfl)
theorem dX0_pack_19 : decode cX0_pack 19 = .ok (.iload_n 1, 1) := dk_27 (dk_at dksX0_pack_0 19 rfl rfl)
theorem dX0_pack_20 : decode cX0_pack 20 = .ok (.aload_n 0, 1) := dk_42 (dk_at dksX0_pack_0 20 rfl rfl)
theorem dX0_pack_21 : decode cX0_pack 21 = .ok (.getfield 48, 3) := dk_180 0 48 (dk_at dksX0_pack_0 21 rfl rfl)
theorem dX0_pack_24 : decode cX0_pack 24 = .ok (.getfield 149, 3) := dk_180 0 149 (dk_at dksX0_pack_1 0 rfl rfl)
theorem dX0_pack_27 : decode cX0_pack 27 = .ok (.iload_n 1, 1) := dk_27 (dk_at dksX0_pack_1 3 rfl rfl)
theorem dX0_pack_28 : decode cX0_pack 28 = .ok (.invokevirtual 9, 3) := dk_182 0 9 (dk_at dksX0_pack_1 4 rfl rfl)
theorem dX0_pack_31 : decode cX0_pack 31 = .ok (.checkcast 165, 3) := dk_192 0 165 (dk_at dksX0_pack_1 7 rfl rfl)
theorem dX0_pack_34 : decode cX0_pack 34 = .ok (.getfield 167, 3) := dk_180 0 167 (dk_at dksX0_pack_1 10 rfl rfl)
theorem dX0_pack_37 : decode cX0_pack 37 = .ok (.iastore, 1) := dk_79 (dk_at dksX0_pack_1 13 rfl rfl)
theorem dX0_pack_38 : decode cX0_pack 38 = .ok (.iinc 1 1, 3) := dk_132 1 1 (dk_at dksX0_pack_1 14 rfl rfl)
theorem dX0_pack_41 : decode cX0_pack 41 = .ok (.goto (-34), 3) := dk_167 255 222 (dk_at dksX0_pack_1 17 rfl rfl)
theorem dX0_pack_44 : decode cX0_pack 44 = .ok (.aload_n 0, 1) := dk_42 (dk_at dksX0_pack_1 20 rfl rfl)
theorem dX0_pack_45 : decode cX0_pack 45 = .ok (.iconst 0, 1) := dk_3 (dk_at dksX0_pack_1 21 rfl rfl)
theorem dX0_pack_46 : decode cX0_pack 46 = .ok (.iconst 0, 1) := dk_3 (dk_at dksX0_pack_1 22 rfl rfl)
theorem dX0_pack_47 : decode cX0_pack 47 = .ok (.invokevirtual 268, 3) := dk_182 1 12 (dk_at dksX0_pack_2 0 rfl rfl)
theorem dX0_pack_50 : decode cX0_pack 50 = .ok (.aload_n 0, 1) := dk_42 (dk_at dksX0_pack_2 3 rfl rfl)
theorem dX0_pack_51 : decode cX0_pack 51 = .ok (.aload_n 0, 1) := dk_42 (dk_at dksX0_pack_2 4 rfl rfl)
theorem dX0_pack_52 : decode cX0_pack 52 = .ok (.getfield 265, 3) := dk_180 1 9 (dk_at dksX0_pack_2 5 rfl rfl)
theorem dX0_pack_55 : decode cX0_pack 55 = .ok (.iconst 4, 1) := dk_7 (dk_at dksX0_pack_2 8 rfl rfl)
theorem dX0_pack_56 : decode cX0_pack 56 = .ok (.if_icmp .le 7, 3) := dk_164 0 7 (dk_at dksX0_pack_2 9 rfl rfl)
theorem dX0_pack_59 : decode cX0_pack 59 = .ok (.iconst 0, 1) := dk_3 (dk_at dksX0_pack_2 12 rfl rfl)
theorem dX0_pack_60 : decode cX0_pack 60 = .ok (.goto 5, 3) := dk_167 0 5 (dk_at dksX0_pack_2 13 rfl rfl)
theorem dX0_pack_63 : decode cX0_pack 63 = .ok (.bipush 8, 2) := dk_16 8 (dk_at dksX0_pack_2 16 rfl rfl)
theorem dX0_pack_65 : decode cX0_pack 65 = .ok (.putfield 129, 3) := dk_181 0 129 (dk_at dksX0_pack_2 18 rfl rfl)
theorem dX0_pack_68 : decode cX0_pack 68 = .ok (.aload_n 0, 1) := dk_42 (dk_at dksX0_pack_2 21 rfl rfl)
theorem dX0_pack_69 : decode cX0_pack 69 = .ok (.getfield 265, 3) := dk_180 1 9 (dk_at dksX0_pack_3 0 rfl rfl)
theorem dX0_pack_72 : decode cX0_pack 72 = .ok (.iconst 4, 1) := dk_7 (dk_at dksX0_pack_3 3 rfl rfl)
theorem dX0_pack_73 : decode cX0_pack 73 = .ok (.if_icmp .le 7, 3) := dk_164 0 7 (dk_at dksX0_pack_3 4 rfl rfl)
theorem dX0_pack_76 : decode cX0_pack 76 = .ok (.iconst (-1), 1) := dk_2 (dk_at dksX0_pack_3 7 rfl rfl)
theorem dX0_pack_77 : decode cX0_pack 77 = .ok (.goto 7, 3) := dk_167 0 7 (dk_at dksX0_pack_3 8 rfl rfl)
theorem dX0_pack_80 : decode cX0_pack 80 = .ok (.aload_n 0, 1) := dk_42 (dk_at dksX0_pack_3 11 rfl rfl)
theorem dX0_pack_81 : decode cX0_pack 81 = .ok (.getfield 265, 3) := dk_180 1 9 (dk_at dksX0_pack_3 12 rfl rfl)
theorem dX0_pack_84 : decode cX0_pack 84 = .ok (.ireturn, 1) := dk_172 (dk_at dksX0_pack_3 15 rfl rfl)
abbrev cX0_packs : ByteArray := prog_1_method_35_code
def yX0_packs : MethodName := ⟨RX0, "packs", "(II)V"⟩
def dkwX0_packs_6 : List UInt8 := [92, 46, 42, 180, 0, 59, 180, 0, 180, 27, 46, 96, 79, 132, 3, 1, 167, 255, 169, 177]
abbrev dktX0_packs_6 : List UInt8 := dkwX0_packs_6 ++ []
def dkwX0_packs_5 : List UInt8 := [42, 180, 0, 77, 27, 29, 79, 42, 27, 4, 96, 28, 4, 29, 120, 128, 182, 1, 12, 42, 180, 0, 80, 29]
abbrev dktX0_packs_5 : List UInt8 := dkwX0_packs_5 ++ dktX0_packs_6
def dkwX0_packs_4 : List UInt8 := [162, 0, 6, 167, 0, 58, 42, 180, 0, 80, 29, 92, 46, 42, 180, 0, 59, 180, 0, 180, 27, 46, 100, 79]
abbrev dktX0_packs_4 : List UInt8 := dkwX0_packs_4 ++ dktX0_packs_5
def dkwX0_packs_3 : List UInt8 := [29, 42, 182, 0, 152, 162, 0, 85, 42, 180, 0, 80, 29, 46, 42, 180, 0, 59, 180, 0, 180, 27, 46]
abbrev dktX0_packs_3 : List UInt8 := dkwX0_packs_3 ++ dktX0_packs_4
def dkwX0_packs_2 : List UInt8 := [2, 79, 42, 180, 0, 59, 27, 182, 0, 158, 154, 0, 12, 42, 27, 4, 96, 28, 182, 1, 12, 177, 3, 62]
abbrev dktX0_packs_2 : List UInt8 := dkwX0_packs_2 ++ dktX0_packs_3
def dkwX0_packs_1 : List UInt8 := [181, 1, 9, 42, 180, 0, 77, 3, 42, 180, 0, 73, 3, 16, 8, 184, 0, 213, 177, 42, 180, 0, 77, 27]
abbrev dktX0_packs_1 : List UInt8 := dkwX0_packs_1 ++ dktX0_packs_2
def dkwX0_packs_0 : List UInt8 := [28, 184, 0, 25, 42, 180, 1, 9, 161, 0, 4, 177, 27, 16, 8, 160, 0, 27, 42, 28, 184, 0, 25]
abbrev dktX0_packs_0 : List UInt8 := dkwX0_packs_0 ++ dktX0_packs_1
theorem dksX0_packs_0 : cX0_packs.data.toList.drop 0 = dktX0_packs_0 := by decide +kernel
theorem dksX0_packs_1 : cX0_packs.data.toList.drop 23 = dktX0_packs_1 := dk_seg dksX0_packs_0 23 rfl rfl
theorem dksX0_packs_2 : cX0_packs.data.toList.drop 47 = dktX0_packs_2 := dk_seg dksX0_packs_1 24 rfl rfl
theorem dksX0_packs_3 : cX0_packs.data.toList.drop 71 = dktX0_packs_3 := dk_seg dksX0_packs_2 24 rfl rfl
theorem dksX0_packs_4 : cX0_packs.data.toList.drop 94 = dktX0_packs_4 := dk_seg dksX0_packs_3 23 rfl rfl
theorem dksX0_packs_5 : cX0_packs.data.toList.drop 118 = dktX0_packs_5 := dk_seg dksX0_packs_4 24 rfl rfl
theorem dksX0_packs_6 : cX0_packs.data.toList.drop 142 = dktX0_packs_6 := dk_seg dksX0_packs_5 24 rfl rfl
theorem dX0_packs_0 : decode cX0_packs 0 = .ok (.iload_n 2, 1) := dk_28 (dk_at dksX0_packs_0 0 rfl rfl)
theorem dX0_packs_1 : decode cX0_packs 1 = .ok (.invokestatic 25, 3) := dk_184 0 25 (dk_at dksX0_packs_0 1 rfl rfl)
theorem dX0_packs_4 : decode cX0_packs 4 = .ok (.aload_n 0, 1) := dk_42 (dk_at dksX0_packs_0 4 rfl rfl)
theorem dX0_packs_5 : decode cX0_packs 5 = .ok (.getfield 265, 3) := dk_180 1 9 (dk_at dksX0_packs_0 5 rfl rfl)
theorem dX0_packs_8 : decode cX0_packs 8 = .ok (.if_icmp .lt 4, 3) := dk_161 0 4 (dk_at dksX0_packs_0 8 rfl rfl)
theorem dX0_packs_11 : decode cX0_packs 11 = .ok (.return_, 1) := dk_177 (dk_at dksX0_packs_0 11 rfl rfl)
theorem dX0_packs_12 : decode cX0_packs 12 = .ok (.iload_n 1, 1) := dk_27 (dk_at dksX0_packs_0 12 rfl rfl)
theorem dX0_packs_13 : decode cX0_packs 13 = .ok (.bipush 8, 2) := dk_16 8 (dk_at dksX0_packs_0 13 rfl rfl)
theorem dX0_packs_15 : decode cX0_packs 15 = .ok (.if_icmp .ne 27, 3) := dk_160 0 27 (dk_at dksX0_packs_0 15 rfl rfl)
theorem dX0_packs_18 : decode cX0_packs 18 = .ok (.aload_n 0, 1) := dk_42 (dk_at dksX0_packs_0 18 rfl rfl)
theorem dX0_packs_19 : decode cX0_packs 19 = .ok (.iload_n 2, 1) := dk_28 (dk_at dksX0_packs_0 19 rfl rfl)
theorem dX0_packs_20 : decode cX0_packs 20 = .ok (.invokestatic 25, 3) := dk_184 0 25 (dk_at dksX0_packs_0 20 rfl rfl)
theorem dX0_packs_23 : decode cX0_packs 23 = .ok (.putfield 265, 3) := dk_181 1 9 (dk_at dksX0_packs_1 0 rfl rfl)
theorem dX0_packs_26 : decode cX0_packs 26 = .ok (.aload_n 0, 1) := dk_42 (dk_at dksX0_packs_1 3 rfl rfl)
theorem dX0_packs_27 : decode cX0_packs 27 = .ok (.getfield 77, 3) := dk_180 0 77 (dk_at dksX0_packs_1 4 rfl rfl)
theorem dX0_packs_30 : decode cX0_packs 30 = .ok (.iconst 0, 1) := dk_3 (dk_at dksX0_packs_1 7 rfl rfl)
theorem dX0_packs_31 : decode cX0_packs 31 = .ok (.aload_n 0, 1) := dk_42 (dk_at dksX0_packs_1 8 rfl rfl)
theorem dX0_packs_32 : decode cX0_packs 32 = .ok (.getfield 73, 3) := dk_180 0 73 (dk_at dksX0_packs_1 9 rfl rfl)
theorem dX0_packs_35 : decode cX0_packs 35 = .ok (.iconst 0, 1) := dk_3 (dk_at dksX0_packs_1 12 rfl rfl)
theorem dX0_packs_36 : decode cX0_packs 36 = .ok (.bipush 8, 2) := dk_16 8 (dk_at dksX0_packs_1 13 rfl rfl)
theorem dX0_packs_38 : decode cX0_packs 38 = .ok (.invokestatic 213, 3) := dk_184 0 213 (dk_at dksX0_packs_1 15 rfl rfl)
theorem dX0_packs_41 : decode cX0_packs 41 = .ok (.return_, 1) := dk_177 (dk_at dksX0_packs_1 18 rfl rfl)
theorem dX0_packs_42 : decode cX0_packs 42 = .ok (.aload_n 0, 1) := dk_42 (dk_at dksX0_packs_1 19 rfl rfl)
theorem dX0_packs_43 : decode cX0_packs 43 = .ok (.getfield 77, 3) := dk_180 0 77 (dk_at dksX0_packs_1 20 rfl rfl)
theorem dX0_packs_46 : decode cX0_packs 46 = .ok (.iload_n 1, 1) := dk_27 (dk_at dksX0_packs_1 23 rfl rfl)
theorem dX0_packs_47 : decode cX0_packs 47 = .ok (.iconst (-1), 1) := dk_2 (dk_at dksX0_packs_2 0 rfl rfl)
theorem dX0_packs_48 : decode cX0_packs 48 = .ok (.iastore, 1) := dk_79 (dk_at dksX0_packs_2 1 rfl rfl)
theorem dX0_packs_49 : decode cX0_packs 49 = .ok (.aload_n 0, 1) := dk_42 (dk_at dksX0_packs_2 2 rfl rfl)
theorem dX0_packs_50 : decode cX0_packs 50 = .ok (.getfield 59, 3) := dk_180 0 59 (dk_at dksX0_packs_2 3 rfl rfl)
theorem dX0_packs_53 : decode cX0_packs 53 = .ok (.iload_n 1, 1) := dk_27 (dk_at dksX0_packs_2 6 rfl rfl)
theorem dX0_packs_54 : decode cX0_packs 54 = .ok (.invokevirtual 158, 3) := dk_182 0 158 (dk_at dksX0_packs_2 7 rfl rfl)
theorem dX0_packs_57 : decode cX0_packs 57 = .ok (.ifCond .ne 12, 3) := dk_154 0 12 (dk_at dksX0_packs_2 10 rfl rfl)
theorem dX0_packs_60 : decode cX0_packs 60 = .ok (.aload_n 0, 1) := dk_42 (dk_at dksX0_packs_2 13 rfl rfl)
theorem dX0_packs_61 : decode cX0_packs 61 = .ok (.iload_n 1, 1) := dk_27 (dk_at dksX0_packs_2 14 rfl rfl)
theorem dX0_packs_62 : decode cX0_packs 62 = .ok (.iconst 1, 1) := dk_4 (dk_at dksX0_packs_2 15 rfl rfl)
theorem dX0_packs_63 : decode cX0_packs 63 = .ok (.iadd, 1) := dk_96 (dk_at dksX0_packs_2 16 rfl rfl)
theorem dX0_packs_64 : decode cX0_packs 64 = .ok (.iload_n 2, 1) := dk_28 (dk_at dksX0_packs_2 17 rfl rfl)
theorem dX0_packs_65 : decode cX0_packs 65 = .ok (.invokevirtual 268, 3) := dk_182 1 12 (dk_at dksX0_packs_2 18 rfl rfl)
theorem dX0_packs_68 : decode cX0_packs 68 = .ok (.return_, 1) := dk_177 (dk_at dksX0_packs_2 21 rfl rfl)
theorem dX0_packs_69 : decode cX0_packs 69 = .ok (.iconst 0, 1) := dk_3 (dk_at dksX0_packs_2 22 rfl rfl)
theorem dX0_packs_70 : decode cX0_packs 70 = .ok (.istore_n 3, 1) := dk_62 (dk_at dksX0_packs_2 23 rfl rfl)
theorem dX0_packs_71 : decode cX0_packs 71 = .ok (.iload_n 3, 1) := dk_29 (dk_at dksX0_packs_3 0 rfl rfl)
theorem dX0_packs_72 : decode cX0_packs 72 = .ok (.aload_n 0, 1) := dk_42 (dk_at dksX0_packs_3 1 rfl rfl)
theorem dX0_packs_73 : decode cX0_packs 73 = .ok (.invokevirtual 152, 3) := dk_182 0 152 (dk_at dksX0_packs_3 2 rfl rfl)
theorem dX0_packs_76 : decode cX0_packs 76 = .ok (.if_icmp .ge 85, 3) := dk_162 0 85 (dk_at dksX0_packs_3 5 rfl rfl)
theorem dX0_packs_79 : decode cX0_packs 79 = .ok (.aload_n 0, 1) := dk_42 (dk_at dksX0_packs_3 8 rfl rfl)
theorem dX0_packs_80 : decode cX0_packs 80 = .ok (.getfield 80, 3) := dk_180 0 80 (dk_at dksX0_packs_3 9 rfl rfl)
theorem dX0_packs_83 : decode cX0_packs 83 = .ok (.iload_n 3, 1) := dk_29 (dk_at dksX0_packs_3 12 rfl rfl)
theorem dX0_packs_84 : decode cX0_packs 84 = .ok (.iaload, 1) := dk_46 (dk_at dksX0_packs_3 13 rfl rfl)
theorem dX0_packs_85 : decode cX0_packs 85 = .ok (.aload_n 0, 1) := dk_42 (dk_at dksX0_packs_3 14 rfl rfl)
theorem dX0_packs_86 : decode cX0_packs 86 = .ok (.getfield 59, 3) := dk_180 0 59 (dk_at dksX0_packs_3 15 rfl rfl)
theorem dX0_packs_89 : decode cX0_packs 89 = .ok (.getfield 180, 3) := dk_180 0 180 (dk_at dksX0_packs_3 18 rfl rfl)
theorem dX0_packs_92 : decode cX0_packs 92 = .ok (.iload_n 1, 1) := dk_27 (dk_at dksX0_packs_3 21 rfl rfl)
theorem dX0_packs_93 : decode cX0_packs 93 = .ok (.iaload, 1) := dk_46 (dk_at dksX0_packs_3 22 rfl rfl)
theorem dX0_packs_94 : decode cX0_packs 94 = .ok (.if_icmp .ge 6, 3) := dk_162 0 6 (dk_at dksX0_packs_4 0 rfl rfl)
theorem dX0_packs_97 : decode cX0_packs 97 = .ok (.goto 58, 3) := dk_167 0 58 (dk_at dksX0_packs_4 3 rfl rfl)
theorem dX0_packs_100 : decode cX0_packs 100 = .ok (.aload_n 0, 1) := dk_42 (dk_at dksX0_packs_4 6 rfl rfl)
theorem dX0_packs_101 : decode cX0_packs 101 = .ok (.getfield 80, 3) := dk_180 0 80 (dk_at dksX0_packs_4 7 rfl rfl)
theorem dX0_packs_104 : decode cX0_packs 104 = .ok (.iload_n 3, 1) := dk_29 (dk_at dksX0_packs_4 10 rfl rfl)
theorem dX0_packs_105 : decode cX0_packs 105 = .ok (.dup2, 1) := dk_92 (dk_at dksX0_packs_4 11 rfl rfl)
theorem dX0_packs_106 : decode cX0_packs 106 = .ok (.iaload, 1) := dk_46 (dk_at dksX0_packs_4 12 rfl rfl)
theorem dX0_packs_107 : decode cX0_packs 107 = .ok (.aload_n 0, 1) := dk_42 (dk_at dksX0_packs_4 13 rfl rfl)
theorem dX0_packs_108 : decode cX0_packs 108 = .ok (.getfield 59, 3) := dk_180 0 59 (dk_at dksX0_packs_4 14 rfl rfl)
theorem dX0_packs_111 : decode cX0_packs 111 = .ok (.getfield 180, 3) := dk_180 0 180 (dk_at dksX0_packs_4 17 rfl rfl)
theorem dX0_packs_114 : decode cX0_packs 114 = .ok (.iload_n 1, 1) := dk_27 (dk_at dksX0_packs_4 20 rfl rfl)
theorem dX0_packs_115 : decode cX0_packs 115 = .ok (.iaload, 1) := dk_46 (dk_at dksX0_packs_4 21 rfl rfl)
theorem dX0_packs_116 : decode cX0_packs 116 = .ok (.isub, 1) := dk_100 (dk_at dksX0_packs_4 22 rfl rfl)
theorem dX0_packs_117 : decode cX0_packs 117 = .ok (.iastore, 1) := dk_79 (dk_at dksX0_packs_4 23 rfl rfl)
theorem dX0_packs_118 : decode cX0_packs 118 = .ok (.aload_n 0, 1) := dk_42 (dk_at dksX0_packs_5 0 rfl rfl)
theorem dX0_packs_119 : decode cX0_packs 119 = .ok (.getfield 77, 3) := dk_180 0 77 (dk_at dksX0_packs_5 1 rfl rfl)
theorem dX0_packs_122 : decode cX0_packs 122 = .ok (.iload_n 1, 1) := dk_27 (dk_at dksX0_packs_5 4 rfl rfl)
theorem dX0_packs_123 : decode cX0_packs 123 = .ok (.iload_n 3, 1) := dk_29 (dk_at dksX0_packs_5 5 rfl rfl)
theorem dX0_packs_124 : decode cX0_packs 124 = .ok (.iastore, 1) := dk_79 (dk_at dksX0_packs_5 6 rfl rfl)
theorem dX0_packs_125 : decode cX0_packs 125 = .ok (.aload_n 0, 1) := dk_42 (dk_at dksX0_packs_5 7 rfl rfl)
theorem dX0_packs_126 : decode cX0_packs 126 = .ok (.iload_n 1, 1) := dk_27 (dk_at dksX0_packs_5 8 rfl rfl)
theorem dX0_packs_127 : decode cX0_packs 127 = .ok (.iconst 1, 1) := dk_4 (dk_at dksX0_packs_5 9 rfl rfl)
theorem dX0_packs_128 : decode cX0_packs 128 = .ok (.iadd, 1) := dk_96 (dk_at dksX0_packs_5 10 rfl rfl)
theorem dX0_packs_129 : decode cX0_packs 129 = .ok (.iload_n 2, 1) := dk_28 (dk_at dksX0_packs_5 11 rfl rfl)
theorem dX0_packs_130 : decode cX0_packs 130 = .ok (.iconst 1, 1) := dk_4 (dk_at dksX0_packs_5 12 rfl rfl)
theorem dX0_packs_131 : decode cX0_packs 131 = .ok (.iload_n 3, 1) := dk_29 (dk_at dksX0_packs_5 13 rfl rfl)
theorem dX0_packs_132 : decode cX0_packs 132 = .ok (.ishl, 1) := dk_120 (dk_at dksX0_packs_5 14 rfl rfl)
theorem dX0_packs_133 : decode cX0_packs 133 = .ok (.ior, 1) := dk_128 (dk_at dksX0_packs_5 15 rfl rfl)
theorem dX0_packs_134 : decode cX0_packs 134 = .ok (.invokevirtual 268, 3) := dk_182 1 12 (dk_at dksX0_packs_5 16 rfl rfl)
theorem dX0_packs_137 : decode cX0_packs 137 = .ok (.aload_n 0, 1) := dk_42 (dk_at dksX0_packs_5 19 rfl rfl)
theorem dX0_packs_138 : decode cX0_packs 138 = .ok (.getfield 80, 3) := dk_180 0 80 (dk_at dksX0_packs_5 20 rfl rfl)
theorem dX0_packs_141 : decode cX0_packs 141 = .ok (.iload_n 3, 1) := dk_29 (dk_at dksX0_packs_5 23 rfl rfl)
theorem dX0_packs_142 : decode cX0_packs 142 = .ok (.dup2, 1) := dk_92 (dk_at dksX0_packs_6 0 rfl rfl)
theorem dX0_packs_143 : decode cX0_packs 143 = .ok (.iaload, 1) := dk_46 (dk_at dksX0_packs_6 1 rfl rfl)
theorem dX0_packs_144 : decode cX0_packs 144 = .ok (.aload_n 0, 1) := dk_42 (dk_at dksX0_packs_6 2 rfl rfl)
theorem dX0_packs_145 : decode cX0_packs 145 = .ok (.getfield 59, 3) := dk_180 0 59 (dk_at dksX0_packs_6 3 rfl rfl)
theorem dX0_packs_148 : decode cX0_packs 148 = .ok (.getfield 180, 3) := dk_180 0 180 (dk_at dksX0_packs_6 6 rfl rfl)
theorem dX0_packs_151 : decode cX0_packs 151 = .ok (.iload_n 1, 1) := dk_27 (dk_at dksX0_packs_6 9 rfl rfl)
theorem dX0_packs_152 : decode cX0_packs 152 = .ok (.iaload, 1) := dk_46 (dk_at dksX0_packs_6 10 rfl rfl)
theorem dX0_packs_153 : decode cX0_packs 153 = .ok (.iadd, 1) := dk_96 (dk_at dksX0_packs_6 11 rfl rfl)
theorem dX0_packs_154 : decode cX0_packs 154 = .ok (.iastore, 1) := dk_79 (dk_at dksX0_packs_6 12 rfl rfl)
theorem dX0_packs_155 : decode cX0_packs 155 = .ok (.iinc 3 1, 3) := dk_132 3 1 (dk_at dksX0_packs_6 13 rfl rfl)
theorem dX0_packs_158 : decode cX0_packs 158 = .ok (.goto (-87), 3) := dk_167 255 169 (dk_at dksX0_packs_6 16 rfl rfl)
theorem dX0_packs_161 : decode cX0_packs 161 = .ok (.return_, 1) := dk_177 (dk_at dksX0_packs_6 19 rfl rfl)
abbrev cX0_fill : ByteArray := prog_1_method_37_code
def yX0_fill : MethodName := ⟨RX0, "fill", "(II)I"⟩
def dkwX0_fill_6 : List UInt8 := [180, 0, 59, 29, 182, 1, 16, 167, 0, 4, 29, 172]
abbrev dktX0_fill_6 : List UInt8 := dkwX0_fill_6 ++ []
def dkwX0_fill_5 : List UInt8 := [184, 0, 25, 162, 0, 8, 21, 4, 167, 0, 4, 29, 62, 132, 4, 1, 167, 255, 147, 28, 154, 0, 14, 42]
abbrev dktX0_fill_5 : List UInt8 := dkwX0_fill_5 ++ dktX0_fill_6
def dkwX0_fill_4 : List UInt8 := [167, 0, 36, 21, 5, 21, 6, 163, 0, 22, 21, 5, 21, 6, 160, 0, 20, 21, 4, 184, 0, 25, 29]
abbrev dktX0_fill_4 : List UInt8 := dkwX0_fill_4 ++ dktX0_fill_5
def dkwX0_fill_3 : List UInt8 := [21, 5, 42, 180, 0, 48, 180, 0, 149, 27, 182, 0, 9, 192, 0, 165, 180, 0, 167, 164, 0, 6]
abbrev dktX0_fill_3 : List UInt8 := dkwX0_fill_3 ++ dktX0_fill_4
def dkwX0_fill_2 : List UInt8 := [180, 0, 59, 29, 182, 1, 16, 54, 6, 21, 4, 42, 180, 0, 59, 180, 0, 246, 2, 130, 126, 154, 0, 61]
abbrev dktX0_fill_2 : List UInt8 := dkwX0_fill_2 ++ dktX0_fill_3
def dkwX0_fill_1 : List UInt8 := [21, 4, 42, 180, 0, 59, 180, 0, 246, 163, 0, 103, 42, 180, 0, 59, 21, 4, 182, 1, 16, 54, 5, 42]
abbrev dktX0_fill_1 : List UInt8 := dkwX0_fill_1 ++ dktX0_fill_2
def dkwX0_fill_0 : List UInt8 := [42, 27, 182, 0, 162, 153, 0, 12, 28, 3, 4, 184, 0, 154, 154, 0, 5, 2, 172, 3, 62, 4, 54, 4]
abbrev dktX0_fill_0 : List UInt8 := dkwX0_fill_0 ++ dktX0_fill_1
theorem dksX0_fill_0 : cX0_fill.data.toList.drop 0 = dktX0_fill_0 := by decide +kernel
theorem dksX0_fill_1 : cX0_fill.data.toList.drop 24 = dktX0_fill_1 := dk_seg dksX0_fill_0 24 rfl rfl
theorem dksX0_fill_2 : cX0_fill.data.toList.drop 48 = dktX0_fill_2 := dk_seg dksX0_fill_1 24 rfl rfl
theorem dksX0_fill_3 : cX0_fill.data.toList.drop 72 = dktX0_fill_3 := dk_seg dksX0_fill_2 24 rfl rfl
theorem dksX0_fill_4 : cX0_fill.data.toList.drop 94 = dktX0_fill_4 := dk_seg dksX0_fill_3 22 rfl rfl
theorem dksX0_fill_5 : cX0_fill.data.toList.drop 117 = dktX0_fill_5 := dk_seg dksX0_fill_4 23 rfl rfl
theorem dksX0_fill_6 : cX0_fill.data.toList.drop 141 = dktX0_fill_6 := dk_seg dksX0_fill_5 24 rfl rfl
theorem dX0_fill_0 : decode cX0_fill 0 = .ok (.aload_n 0, 1) := dk_42 (dk_at dksX0_fill_0 0 rfl rfl)
theorem dX0_fill_1 : decode cX0_fill 1 = .ok (.iload_n 1, 1) := dk_27 (dk_at dksX0_fill_0 1 rfl rfl)
theorem dX0_fill_2 : decode cX0_fill 2 = .ok (.invokevirtual 162, 3) := dk_182 0 162 (dk_at dksX0_fill_0 2 rfl rfl)
theorem dX0_fill_5 : decode cX0_fill 5 = .ok (.ifCond .eq 12, 3) := dk_153 0 12 (dk_at dksX0_fill_0 5 rfl rfl)
theorem dX0_fill_8 : decode cX0_fill 8 = .ok (.iload_n 2, 1) := dk_28 (dk_at dksX0_fill_0 8 rfl rfl)
theorem dX0_fill_9 : decode cX0_fill 9 = .ok (.iconst 0, 1) := dk_3 (dk_at dksX0_fill_0 9 rfl rfl)
theorem dX0_fill_10 : decode cX0_fill 10 = .ok (.iconst 1, 1) := dk_4 (dk_at dksX0_fill_0 10 rfl rfl)
theorem dX0_fill_11 : decode cX0_fill 11 = .ok (.invokestatic 154, 3) := dk_184 0 154 (dk_at dksX0_fill_0 11 rfl rfl)
theorem dX0_fill_14 : decode cX0_fill 14 = .ok (.ifCond .ne 5, 3) := dk_154 0 5 (dk_at dksX0_fill_0 14 rfl rfl)
theorem dX0_fill_17 : decode cX0_fill 17 = .ok (.iconst (-1), 1) := dk_2 (dk_at dksX0_fill_0 17 rfl rfl)
theorem dX0_fill_18 : decode cX0_fill 18 = .ok (.ireturn, 1) := dk_172 (dk_at dksX0_fill_0 18 rfl rfl)
theorem dX0_fill_19 : decode cX0_fill 19 = .ok (.iconst 0, 1) := dk_3 (dk_at dksX0_fill_0 19 rfl rfl)
theorem dX0_fill_20 : decode cX0_fill 20 = .ok (.istore_n 3, 1) := dk_62 (dk_at dksX0_fill_0 20 rfl rfl)
theorem dX0_fill_21 : decode cX0_fill 21 = .ok (.iconst 1, 1) := dk_4 (dk_at dksX0_fill_0 21 rfl rfl)
theorem dX0_fill_22 : decode cX0_fill 22 = .ok (.istore 4, 2) := dk_54 4 (dk_at dksX0_fill_0 22 rfl rfl)
theorem dX0_fill_24 : decode cX0_fill 24 = .ok (.iload 4, 2) := dk_21 4 (dk_at dksX0_fill_1 0 rfl rfl)
theorem dX0_fill_26 : decode cX0_fill 26 = .ok (.aload_n 0, 1) := dk_42 (dk_at dksX0_fill_1 2 rfl rfl)
theorem dX0_fill_27 : decode cX0_fill 27 = .ok (.getfield 59, 3) := dk_180 0 59 (dk_at dksX0_fill_1 3 rfl rfl)
theorem dX0_fill_30 : decode cX0_fill 30 = .ok (.getfield 246, 3) := dk_180 0 246 (dk_at dksX0_fill_1 6 rfl rfl)
theorem dX0_fill_33 : decode cX0_fill 33 = .ok (.if_icmp .gt 103, 3) := dk_163 0 103 (dk_at dksX0_fill_1 9 rfl rfl)
theorem dX0_fill_36 : decode cX0_fill 36 = .ok (.aload_n 0, 1) := dk_42 (dk_at dksX0_fill_1 12 rfl rfl)
theorem dX0_fill_37 : decode cX0_fill 37 = .ok (.getfield 59, 3) := dk_180 0 59 (dk_at dksX0_fill_1 13 rfl rfl)
theorem dX0_fill_40 : decode cX0_fill 40 = .ok (.iload 4, 2) := dk_21 4 (dk_at dksX0_fill_1 16 rfl rfl)
theorem dX0_fill_42 : decode cX0_fill 42 = .ok (.invokevirtual 272, 3) := dk_182 1 16 (dk_at dksX0_fill_1 18 rfl rfl)
theorem dX0_fill_45 : decode cX0_fill 45 = .ok (.istore 5, 2) := dk_54 5 (dk_at dksX0_fill_1 21 rfl rfl)
theorem dX0_fill_47 : decode cX0_fill 47 = .ok (.aload_n 0, 1) := dk_42 (dk_at dksX0_fill_1 23 rfl rfl)
theorem dX0_fill_48 : decode cX0_fill 48 = .ok (.getfield 59, 3) := dk_180 0 59 (dk_at dksX0_fill_2 0 rfl rfl)
theorem dX0_fill_51 : decode cX0_fill 51 = .ok (.iload_n 3, 1) := dk_29 (dk_at dksX0_fill_2 3 rfl rfl)
theorem dX0_fill_52 : decode cX0_fill 52 = .ok (.invokevirtual 272, 3) := dk_182 1 16 (dk_at dksX0_fill_2 4 rfl rfl)
theorem dX0_fill_55 : decode cX0_fill 55 = .ok (.istore 6, 2) := dk_54 6 (dk_at dksX0_fill_2 7 rfl rfl)
theorem dX0_fill_57 : decode cX0_fill 57 = .ok (.iload 4, 2) := dk_21 4 (dk_at dksX0_fill_2 9 rfl rfl)
theorem dX0_fill_59 : decode cX0_fill 59 = .ok (.aload_n 0, 1) := dk_42 (dk_at dksX0_fill_2 11 rfl rfl)
theorem dX0_fill_60 : decode cX0_fill 60 = .ok (.getfield 59, 3) := dk_180 0 59 (dk_at dksX0_fill_2 12 rfl rfl)
theorem dX0_fill_63 : decode cX0_fill 63 = .ok (.getfield 246, 3) := dk_180 0 246 (dk_at dksX0_fill_2 15 rfl rfl)
theorem dX0_fill_66 : decode cX0_fill 66 = .ok (.iconst (-1), 1) := dk_2 (dk_at dksX0_fill_2 18 rfl rfl)
theorem dX0_fill_67 : decode cX0_fill 67 = .ok (.ixor, 1) := dk_130 (dk_at dksX0_fill_2 19 rfl rfl)
theorem dX0_fill_68 : decode cX0_fill 68 = .ok (.iand, 1) := dk_126 (dk_at dksX0_fill_2 20 rfl rfl)
theorem dX0_fill_69 : decode cX0_fill 69 = .ok (.ifCond .ne 61, 3) := dk_154 0 61 (dk_at dksX0_fill_2 21 rfl rfl)
theorem dX0_fill_72 : decode cX0_fill 72 = .ok (.iload 5, 2) := dk_21 5 (dk_at dksX0_fill_3 0 rfl rfl)
theorem dX0_fill_74 : decode cX0_fill 74 = .ok (.aload_n 0, 1) := dk_42 (dk_at dksX0_fill_3 2 rfl rfl)
theorem dX0_fill_75 : decode cX0_fill 75 = .ok (.getfield 48, 3) := dk_180 0 48 (dk_at dksX0_fill_3 3 rfl rfl)
theorem dX0_fill_78 : decode cX0_fill 78 = .ok (.getfield 149, 3) := dk_180 0 149 (dk_at dksX0_fill_3 6 rfl rfl)
theorem dX0_fill_81 : decode cX0_fill 81 = .ok (.iload_n 1, 1) := dk_27 (dk_at dksX0_fill_3 9 rfl rfl)
theorem dX0_fill_82 : decode cX0_fill 82 = .ok (.invokevirtual 9, 3) := dk_182 0 9 (dk_at dksX0_fill_3 10 rfl rfl)
theorem dX0_fill_85 : decode cX0_fill 85 = .ok (.checkcast 165, 3) := dk_192 0 165 (dk_at dksX0_fill_3 13 rfl rfl)
theorem dX0_fill_88 : decode cX0_fill 88 = .ok (.getfield 167, 3) := dk_180 0 167 (dk_at dksX0_fill_3 16 rfl rfl)
theorem dX0_fill_91 : decode cX0_fill 91 = .ok (.if_icmp .le 6, 3) := dk_164 0 6 (dk_at dksX0_fill_3 19 rfl rfl)
theorem dX0_fill_94 : decode cX0_fill 94 = .ok (.goto 36, 3) := dk_167 0 36 (dk_at dksX0_fill_4 0 rfl rfl)
theorem dX0_fill_97 : decode cX0_fill 97 = .ok (.iload 5, 2) := dk_21 5 (dk_at dksX0_fill_4 3 rfl rfl)
theorem dX0_fill_99 : decode cX0_fill 99 = .ok (.iload 6, 2) := dk_21 6 (dk_at dksX0_fill_4 5 rfl rfl)
theorem dX0_fill_101 : decode cX0_fill 101 = .ok (.if_icmp .gt 22, 3) := dk_163 0 22 (dk_at dksX0_fill_4 7 rfl rfl)
theorem dX0_fill_104 : decode cX0_fill 104 = .ok (.iload 5, 2) := dk_21 5 (dk_at dksX0_fill_4 10 rfl rfl)
theorem dX0_fill_106 : decode cX0_fill 106 = .ok (.iload 6, 2) := dk_21 6 (dk_at dksX0_fill_4 12 rfl rfl)
theorem dX0_fill_108 : decode cX0_fill 108 = .ok (.if_icmp .ne 20, 3) := dk_160 0 20 (dk_at dksX0_fill_4 14 rfl rfl)
theorem dX0_fill_111 : decode cX0_fill 111 = .ok (.iload 4, 2) := dk_21 4 (dk_at dksX0_fill_4 17 rfl rfl)
theorem dX0_fill_113 : decode cX0_fill 113 = .ok (.invokestatic 25, 3) := dk_184 0 25 (dk_at dksX0_fill_4 19 rfl rfl)
theorem dX0_fill_116 : decode cX0_fill 116 = .ok (.iload_n 3, 1) := dk_29 (dk_at dksX0_fill_4 22 rfl rfl)
theorem dX0_fill_117 : decode cX0_fill 117 = .ok (.invokestatic 25, 3) := dk_184 0 25 (dk_at dksX0_fill_5 0 rfl rfl)
theorem dX0_fill_120 : decode cX0_fill 120 = .ok (.if_icmp .ge 8, 3) := dk_162 0 8 (dk_at dksX0_fill_5 3 rfl rfl)
theorem dX0_fill_123 : decode cX0_fill 123 = .ok (.iload 4, 2) := dk_21 4 (dk_at dksX0_fill_5 6 rfl rfl)
theorem dX0_fill_125 : decode cX0_fill 125 = .ok (.goto 4, 3) := dk_167 0 4 (dk_at dksX0_fill_5 8 rfl rfl)
theorem dX0_fill_128 : decode cX0_fill 128 = .ok (.iload_n 3, 1) := dk_29 (dk_at dksX0_fill_5 11 rfl rfl)
theorem dX0_fill_129 : decode cX0_fill 129 = .ok (.istore_n 3, 1) := dk_62 (dk_at dksX0_fill_5 12 rfl rfl)
theorem dX0_fill_130 : decode cX0_fill 130 = .ok (.iinc 4 1, 3) := dk_132 4 1 (dk_at dksX0_fill_5 13 rfl rfl)
theorem dX0_fill_133 : decode cX0_fill 133 = .ok (.goto (-109), 3) := dk_167 255 147 (dk_at dksX0_fill_5 16 rfl rfl)
theorem dX0_fill_136 : decode cX0_fill 136 = .ok (.iload_n 2, 1) := dk_28 (dk_at dksX0_fill_5 19 rfl rfl)
theorem dX0_fill_137 : decode cX0_fill 137 = .ok (.ifCond .ne 14, 3) := dk_154 0 14 (dk_at dksX0_fill_5 20 rfl rfl)
theorem dX0_fill_140 : decode cX0_fill 140 = .ok (.aload_n 0, 1) := dk_42 (dk_at dksX0_fill_5 23 rfl rfl)
theorem dX0_fill_141 : decode cX0_fill 141 = .ok (.getfield 59, 3) := dk_180 0 59 (dk_at dksX0_fill_6 0 rfl rfl)
theorem dX0_fill_144 : decode cX0_fill 144 = .ok (.iload_n 3, 1) := dk_29 (dk_at dksX0_fill_6 3 rfl rfl)
theorem dX0_fill_145 : decode cX0_fill 145 = .ok (.invokevirtual 272, 3) := dk_182 1 16 (dk_at dksX0_fill_6 4 rfl rfl)
theorem dX0_fill_148 : decode cX0_fill 148 = .ok (.goto 4, 3) := dk_167 0 4 (dk_at dksX0_fill_6 7 rfl rfl)
theorem dX0_fill_151 : decode cX0_fill 151 = .ok (.iload_n 3, 1) := dk_29 (dk_at dksX0_fill_6 10 rfl rfl)
theorem dX0_fill_152 : decode cX0_fill 152 = .ok (.ireturn, 1) := dk_172 (dk_at dksX0_fill_6 11 rfl rfl)
abbrev cX0_alike : ByteArray := prog_1_method_38_code
def yX0_alike : MethodName := ⟨RX0, "alike", "(II)I"⟩
def dkwX0_alike_1 : List UInt8 := [46, 42, 180, 0, 59, 180, 0, 186, 28, 46, 184, 1, 19, 167, 0, 4, 2, 172]
abbrev dktX0_alike_1 : List UInt8 := dkwX0_alike_1 ++ []
def dkwX0_alike_0 : List UInt8 := [42, 27, 182, 0, 177, 153, 0, 35, 42, 28, 182, 0, 177, 153, 0, 27, 42, 180, 0, 59, 180, 0, 186, 27]
abbrev dktX0_alike_0 : List UInt8 := dkwX0_alike_0 ++ dktX0_alike_1
theorem dksX0_alike_0 : cX0_alike.data.toList.drop 0 = dktX0_alike_0 := by decide +kernel
theorem dksX0_alike_1 : cX0_alike.data.toList.drop 24 = dktX0_alike_1 := dk_seg dksX0_alike_0 24 rfl rfl
theorem dX0_alike_0 : decode cX0_alike 0 = .ok (.aload_n 0, 1) := dk_42 (dk_at dksX0_alike_0 0 rfl rfl)
theorem dX0_alike_1 : decode cX0_alike 1 = .ok (.iload_n 1, 1) := dk_27 (dk_at dksX0_alike_0 1 rfl rfl)
theorem dX0_alike_2 : decode cX0_alike 2 = .ok (.invokevirtual 177, 3) := dk_182 0 177 (dk_at dksX0_alike_0 2 rfl rfl)
theorem dX0_alike_5 : decode cX0_alike 5 = .ok (.ifCond .eq 35, 3) := dk_153 0 35 (dk_at dksX0_alike_0 5 rfl rfl)
theorem dX0_alike_8 : decode cX0_alike 8 = .ok (.aload_n 0, 1) := dk_42 (dk_at dksX0_alike_0 8 rfl rfl)
theorem dX0_alike_9 : decode cX0_alike 9 = .ok (.iload_n 2, 1) := dk_28 (dk_at dksX0_alike_0 9 rfl rfl)
theorem dX0_alike_10 : decode cX0_alike 10 = .ok (.invokevirtual 177, 3) := dk_182 0 177 (dk_at dksX0_alike_0 10 rfl rfl)
theorem dX0_alike_13 : decode cX0_alike 13 = .ok (.ifCond .eq 27, 3) := dk_153 0 27 (dk_at dksX0_alike_0 13 rfl rfl)
theorem dX0_alike_16 : decode cX0_alike 16 = .ok (.aload_n 0, 1) := dk_42 (dk_at dksX0_alike_0 16 rfl rfl)
theorem dX0_alike_17 : decode cX0_alike 17 = .ok (.getfield 59, 3) := dk_180 0 59 (dk_at dksX0_alike_0 17 rfl rfl)
theorem dX0_alike_20 : decode cX0_alike 20 = .ok (.getfield 186, 3) := dk_180 0 186 (dk_at dksX0_alike_0 20 rfl rfl)
theorem dX0_alike_23 : decode cX0_alike 23 = .ok (.iload_n 1, 1) := dk_27 (dk_at dksX0_alike_0 23 rfl rfl)
theorem dX0_alike_24 : decode cX0_alike 24 = .ok (.iaload, 1) := dk_46 (dk_at dksX0_alike_1 0 rfl rfl)
theorem dX0_alike_25 : decode cX0_alike 25 = .ok (.aload_n 0, 1) := dk_42 (dk_at dksX0_alike_1 1 rfl rfl)
theorem dX0_alike_26 : decode cX0_alike 26 = .ok (.getfield 59, 3) := dk_180 0 59 (dk_at dksX0_alike_1 2 rfl rfl)
theorem dX0_alike_29 : decode cX0_alike 29 = .ok (.getfield 186, 3) := dk_180 0 186 (dk_at dksX0_alike_1 5 rfl rfl)
theorem dX0_alike_32 : decode cX0_alike 32 = .ok (.iload_n 2, 1) := dk_28 (dk_at dksX0_alike_1 8 rfl rfl)
theorem dX0_alike_33 : decode cX0_alike 33 = .ok (.iaload, 1) := dk_46 (dk_at dksX0_alike_1 9 rfl rfl)
theorem dX0_alike_34 : decode cX0_alike 34 = .ok (.invokestatic 275, 3) := dk_184 1 19 (dk_at dksX0_alike_1 10 rfl rfl)
theorem dX0_alike_37 : decode cX0_alike 37 = .ok (.goto 4, 3) := dk_167 0 4 (dk_at dksX0_alike_1 13 rfl rfl)
theorem dX0_alike_40 : decode cX0_alike 40 = .ok (.iconst (-1), 1) := dk_2 (dk_at dksX0_alike_1 16 rfl rfl)
theorem dX0_alike_41 : decode cX0_alike 41 = .ok (.ireturn, 1) := dk_172 (dk_at dksX0_alike_1 17 rfl rfl)
abbrev cX0_sires : ByteArray := prog_1_method_40_code
def yX0_sires : MethodName := ⟨RX0, "sires", "(II)I"⟩
def dkwX0_sires_6 : List UInt8 := [154, 0, 7, 29, 167, 0, 15, 28, 4, 160, 0, 8, 21, 4, 167, 0, 5, 21, 5, 172]
abbrev dktX0_sires_6 : List UInt8 := dkwX0_sires_6 ++ []
def dkwX0_sires_5 : List UInt8 := [54, 5, 132, 7, 1, 167, 255, 175, 132, 6, 1, 167, 255, 156, 29, 156, 0, 7, 2, 167, 0, 23, 28]
abbrev dktX0_sires_5 : List UInt8 := dkwX0_sires_5 ++ dktX0_sires_6
def dkwX0_sires_4 : List UInt8 := [21, 5, 161, 0, 6, 167, 0, 21, 21, 6, 62, 21, 7, 54, 4, 42, 27, 21, 6, 21, 7, 182, 1, 22]
abbrev dktX0_sires_4 : List UInt8 := dkwX0_sires_4 ++ dktX0_sires_5
def dkwX0_sires_3 : List UInt8 := [153, 0, 50, 21, 6, 27, 159, 0, 44, 21, 7, 27, 159, 0, 38, 42, 27, 21, 6, 21, 7, 182, 1, 22]
abbrev dktX0_sires_3 : List UInt8 := dkwX0_sires_3 ++ dktX0_sires_4
def dkwX0_sires_2 : List UInt8 := [162, 0, 80, 42, 180, 0, 59, 21, 6, 182, 0, 158, 153, 0, 62, 42, 180, 0, 59, 21, 7, 182, 0, 158]
abbrev dktX0_sires_2 : List UInt8 := dkwX0_sires_2 ++ dktX0_sires_3
def dkwX0_sires_1 : List UInt8 := [16, 7, 54, 5, 3, 54, 6, 21, 6, 16, 8, 162, 0, 99, 21, 6, 4, 96, 54, 7, 21, 7, 16, 8]
abbrev dktX0_sires_1 : List UInt8 := dkwX0_sires_1 ++ dktX0_sires_2
def dkwX0_sires_0 : List UInt8 := [42, 27, 182, 0, 177, 153, 0, 12, 28, 3, 5, 184, 0, 154, 154, 0, 5, 2, 172, 2, 62, 2, 54, 4]
abbrev dktX0_sires_0 : List UInt8 := dkwX0_sires_0 ++ dktX0_sires_1
theorem dksX0_sires_0 : cX0_sires.data.toList.drop 0 = dktX0_sires_0 := by decide +kernel
theorem dksX0_sires_1 : cX0_sires.data.toList.drop 24 = dktX0_sires_1 := dk_seg dksX0_sires_0 24 rfl rfl
theorem dksX0_sires_2 : cX0_sires.data.toList.drop 48 = dktX0_sires_2 := dk_seg dksX0_sires_1 24 rfl rfl
theorem dksX0_sires_3 : cX0_sires.data.toList.drop 72 = dktX0_sires_3 := dk_seg dksX0_sires_2 24 rfl rfl
theorem dksX0_sires_4 : cX0_sires.data.toList.drop 96 = dktX0_sires_4 := dk_seg dksX0_sires_3 24 rfl rfl
theorem dksX0_sires_5 : cX0_sires.data.toList.drop 120 = dktX0_sires_5 := dk_seg dksX0_sires_4 24 rfl rfl
theorem dksX0_sires_6 : cX0_sires.data.toList.drop 143 = dktX0_sires_6 := dk_seg dksX0_sires_5 23 rfl rfl
theorem dX0_sires_0 : decode cX0_sires 0 = .ok (.aload_n 0, 1) := dk_42 (dk_at dksX0_sires_0 0 rfl rfl)
theorem dX0_sires_1 : decode cX0_sires 1 = .ok (.iload_n 1, 1) := dk_27 (dk_at dksX0_sires_0 1 rfl rfl)
theorem dX0_sires_2 : decode cX0_sires 2 = .ok (.invokevirtual 177, 3) := dk_182 0 177 (dk_at dksX0_sires_0 2 rfl rfl)
theorem dX0_sires_5 : decode cX0_sires 5 = .ok (.ifCond .eq 12, 3) := dk_153 0 12 (dk_at dksX0_sires_0 5 rfl rfl)
theorem dX0_sires_8 : decode cX0_sires 8 = .ok (.iload_n 2, 1) := dk_28 (dk_at dksX0_sires_0 8 rfl rfl)
theorem dX0_sires_9 : decode cX0_sires 9 = .ok (.iconst 0, 1) := dk_3 (dk_at dksX0_sires_0 9 rfl rfl)
theorem dX0_sires_10 : decode cX0_sires 10 = .ok (.iconst 2, 1) := dk_5 (dk_at dksX0_sires_0 10 rfl rfl)
theorem dX0_sires_11 : decode cX0_sires 11 = .ok (.invokestatic 154, 3) := dk_184 0 154 (dk_at dksX0_sires_0 11 rfl rfl)
theorem dX0_sires_14 : decode cX0_sires 14 = .ok (.ifCond .ne 5, 3) := dk_154 0 5 (dk_at dksX0_sires_0 14 rfl rfl)
theorem dX0_sires_17 : decode cX0_sires 17 = .ok (.iconst (-1), 1) := dk_2 (dk_at dksX0_sires_0 17 rfl rfl)
theorem dX0_sires_18 : decode cX0_sires 18 = .ok (.ireturn, 1) := dk_172 (dk_at dksX0_sires_0 18 rfl rfl)
theorem dX0_sires_19 : decode cX0_sires 19 = .ok (.iconst (-1), 1) := dk_2 (dk_at dksX0_sires_0 19 rfl rfl)
theorem dX0_sires_20 : decode cX0_sires 20 = .ok (.istore_n 3, 1) := dk_62 (dk_at dksX0_sires_0 20 rfl rfl)
theorem dX0_sires_21 : decode cX0_sires 21 = .ok (.iconst (-1), 1) := dk_2 (dk_at dksX0_sires_0 21 rfl rfl)
theorem dX0_sires_22 : decode cX0_sires 22 = .ok (.istore 4, 2) := dk_54 4 (dk_at dksX0_sires_0 22 rfl rfl)
theorem dX0_sires_24 : decode cX0_sires 24 = .ok (.bipush 7, 2) := dk_16 7 (dk_at dksX0_sires_1 0 rfl rfl)
theorem dX0_sires_26 : decode cX0_sires 26 = .ok (.istore 5, 2) := dk_54 5 (dk_at dksX0_sires_1 2 rfl rfl)
theorem dX0_sires_28 : decode cX0_sires 28 = .ok (.iconst 0, 1) := dk_3 (dk_at dksX0_sires_1 4 rfl rfl)
theorem dX0_sires_29 : decode cX0_sires 29 = .ok (.istore 6, 2) := dk_54 6 (dk_at dksX0_sires_1 5 rfl rfl)
theorem dX0_sires_31 : decode cX0_sires 31 = .ok (.iload 6, 2) := dk_21 6 (dk_at dksX0_sires_1 7 rfl rfl)
theorem dX0_sires_33 : decode cX0_sires 33 = .ok (.bipush 8, 2) := dk_16 8 (dk_at dksX0_sires_1 9 rfl rfl)
theorem dX0_sires_35 : decode cX0_sires 35 = .ok (.if_icmp .ge 99, 3) := dk_162 0 99 (dk_at dksX0_sires_1 11 rfl rfl)
theorem dX0_sires_38 : decode cX0_sires 38 = .ok (.iload 6, 2) := dk_21 6 (dk_at dksX0_sires_1 14 rfl rfl)
theorem dX0_sires_40 : decode cX0_sires 40 = .ok (.iconst 1, 1) := dk_4 (dk_at dksX0_sires_1 16 rfl rfl)
theorem dX0_sires_41 : decode cX0_sires 41 = .ok (.iadd, 1) := dk_96 (dk_at dksX0_sires_1 17 rfl rfl)
theorem dX0_sires_42 : decode cX0_sires 42 = .ok (.istore 7, 2) := dk_54 7 (dk_at dksX0_sires_1 18 rfl rfl)
theorem dX0_sires_44 : decode cX0_sires 44 = .ok (.iload 7, 2) := dk_21 7 (dk_at dksX0_sires_1 20 rfl rfl)
theorem dX0_sires_46 : decode cX0_sires 46 = .ok (.bipush 8, 2) := dk_16 8 (dk_at dksX0_sires_1 22 rfl rfl)
theorem dX0_sires_48 : decode cX0_sires 48 = .ok (.if_icmp .ge 80, 3) := dk_162 0 80 (dk_at dksX0_sires_2 0 rfl rfl)
theorem dX0_sires_51 : decode cX0_sires 51 = .ok (.aload_n 0, 1) := dk_42 (dk_at dksX0_sires_2 3 rfl rfl)
theorem dX0_sires_52 : decode cX0_sires 52 = .ok (.getfield 59, 3) := dk_180 0 59 (dk_at dksX0_sires_2 4 rfl rfl)
theorem dX0_sires_55 : decode cX0_sires 55 = .ok (.iload 6, 2) := dk_21 6 (dk_at dksX0_sires_2 7 rfl rfl)
theorem dX0_sires_57 : decode cX0_sires 57 = .ok (.invokevirtual 158, 3) := dk_182 0 158 (dk_at dksX0_sires_2 9 rfl rfl)
theorem dX0_sires_60 : decode cX0_sires 60 = .ok (.ifCond .eq 62, 3) := dk_153 0 62 (dk_at dksX0_sires_2 12 rfl rfl)
theorem dX0_sires_63 : decode cX0_sires 63 = .ok (.aload_n 0, 1) := dk_42 (dk_at dksX0_sires_2 15 rfl rfl)
theorem dX0_sires_64 : decode cX0_sires 64 = .ok (.getfield 59, 3) := dk_180 0 59 (dk_at dksX0_sires_2 16 rfl rfl)
theorem dX0_sires_67 : decode cX0_sires 67 = .ok (.iload 7, 2) := dk_21 7 (dk_at dksX0_sires_2 19 rfl rfl)
theorem dX0_sires_69 : decode cX0_sires 69 = .ok (.invokevirtual 158, 3) := dk_182 0 158 (dk_at dksX0_sires_2 21 rfl rfl)
theorem dX0_sires_72 : decode cX0_sires 72 = .ok (.ifCond .eq 50, 3) := dk_153 0 50 (dk_at dksX0_sires_3 0 rfl rfl)
theorem dX0_sires_75 : decode cX0_sires 75 = .ok (.iload 6, 2) := dk_21 6 (dk_at dksX0_sires_3 3 rfl rfl)
theorem dX0_sires_77 : decode cX0_sires 77 = .ok (.iload_n 1, 1) := dk_27 (dk_at dksX0_sires_3 5 rfl rfl)
theorem dX0_sires_78 : decode cX0_sires 78 = .ok (.if_icmp .eq 44, 3) := dk_159 0 44 (dk_at dksX0_sires_3 6 rfl rfl)
theorem dX0_sires_81 : decode cX0_sires 81 = .ok (.iload 7, 2) := dk_21 7 (dk_at dksX0_sires_3 9 rfl rfl)
theorem dX0_sires_83 : decode cX0_sires 83 = .ok (.iload_n 1, 1) := dk_27 (dk_at dksX0_sires_3 11 rfl rfl)
theorem dX0_sires_84 : decode cX0_sires 84 = .ok (.if_icmp .eq 38, 3) := dk_159 0 38 (dk_at dksX0_sires_3 12 rfl rfl)
theorem dX0_sires_87 : decode cX0_sires 87 = .ok (.aload_n 0, 1) := dk_42 (dk_at dksX0_sires_3 15 rfl rfl)
theorem dX0_sires_88 : decode cX0_sires 88 = .ok (.iload_n 1, 1) := dk_27 (dk_at dksX0_sires_3 16 rfl rfl)
theorem dX0_sires_89 : decode cX0_sires 89 = .ok (.iload 6, 2) := dk_21 6 (dk_at dksX0_sires_3 17 rfl rfl)
theorem dX0_sires_91 : decode cX0_sires 91 = .ok (.iload 7, 2) := dk_21 7 (dk_at dksX0_sires_3 19 rfl rfl)
theorem dX0_sires_93 : decode cX0_sires 93 = .ok (.invokevirtual 278, 3) := dk_182 1 22 (dk_at dksX0_sires_3 21 rfl rfl)
theorem dX0_sires_96 : decode cX0_sires 96 = .ok (.iload 5, 2) := dk_21 5 (dk_at dksX0_sires_4 0 rfl rfl)
theorem dX0_sires_98 : decode cX0_sires 98 = .ok (.if_icmp .lt 6, 3) := dk_161 0 6 (dk_at dksX0_sires_4 2 rfl rfl)
theorem dX0_sires_101 : decode cX0_sires 101 = .ok (.goto 21, 3) := dk_167 0 21 (dk_at dksX0_sires_4 5 rfl rfl)
theorem dX0_sires_104 : decode cX0_sires 104 = .ok (.iload 6, 2) := dk_21 6 (dk_at dksX0_sires_4 8 rfl rfl)
theorem dX0_sires_106 : decode cX0_sires 106 = .ok (.istore_n 3, 1) := dk_62 (dk_at dksX0_sires_4 10 rfl rfl)
theorem dX0_sires_107 : decode cX0_sires 107 = .ok (.iload 7, 2) := dk_21 7 (dk_at dksX0_sires_4 11 rfl rfl)
theorem dX0_sires_109 : decode cX0_sires 109 = .ok (.istore 4, 2) := dk_54 4 (dk_at dksX0_sires_4 13 rfl rfl)
theorem dX0_sires_111 : decode cX0_sires 111 = .ok (.aload_n 0, 1) := dk_42 (dk_at dksX0_sires_4 15 rfl rfl)
theorem dX0_sires_112 : decode cX0_sires 112 = .ok (.iload_n 1, 1) := dk_27 (dk_at dksX0_sires_4 16 rfl rfl)
theorem dX0_sires_113 : decode cX0_sires 113 = .ok (.iload 6, 2) := dk_21 6 (dk_at dksX0_sires_4 17 rfl rfl)
theorem dX0_sires_115 : decode cX0_sires 115 = .ok (.iload 7, 2) := dk_21 7 (dk_at dksX0_sires_4 19 rfl rfl)
theorem dX0_sires_117 : decode cX0_sires 117 = .ok (.invokevirtual 278, 3) := dk_182 1 22 (dk_at dksX0_sires_4 21 rfl rfl)
theorem dX0_sires_120 : decode cX0_sires 120 = .ok (.istore 5, 2) := dk_54 5 (dk_at dksX0_sires_5 0 rfl rfl)
theorem dX0_sires_122 : decode cX0_sires 122 = .ok (.iinc 7 1, 3) := dk_132 7 1 (dk_at dksX0_sires_5 2 rfl rfl)
theorem dX0_sires_125 : decode cX0_sires 125 = .ok (.goto (-81), 3) := dk_167 255 175 (dk_at dksX0_sires_5 5 rfl rfl)
theorem dX0_sires_128 : decode cX0_sires 128 = .ok (.iinc 6 1, 3) := dk_132 6 1 (dk_at dksX0_sires_5 8 rfl rfl)
theorem dX0_sires_131 : decode cX0_sires 131 = .ok (.goto (-100), 3) := dk_167 255 156 (dk_at dksX0_sires_5 11 rfl rfl)
theorem dX0_sires_134 : decode cX0_sires 134 = .ok (.iload_n 3, 1) := dk_29 (dk_at dksX0_sires_5 14 rfl rfl)
theorem dX0_sires_135 : decode cX0_sires 135 = .ok (.ifCond .ge 7, 3) := dk_156 0 7 (dk_at dksX0_sires_5 15 rfl rfl)
theorem dX0_sires_138 : decode cX0_sires 138 = .ok (.iconst (-1), 1) := dk_2 (dk_at dksX0_sires_5 18 rfl rfl)
theorem dX0_sires_139 : decode cX0_sires 139 = .ok (.goto 23, 3) := dk_167 0 23 (dk_at dksX0_sires_5 19 rfl rfl)
theorem dX0_sires_142 : decode cX0_sires 142 = .ok (.iload_n 2, 1) := dk_28 (dk_at dksX0_sires_5 22 rfl rfl)
theorem dX0_sires_143 : decode cX0_sires 143 = .ok (.ifCond .ne 7, 3) := dk_154 0 7 (dk_at dksX0_sires_6 0 rfl rfl)
theorem dX0_sires_146 : decode cX0_sires 146 = .ok (.iload_n 3, 1) := dk_29 (dk_at dksX0_sires_6 3 rfl rfl)
theorem dX0_sires_147 : decode cX0_sires 147 = .ok (.goto 15, 3) := dk_167 0 15 (dk_at dksX0_sires_6 4 rfl rfl)
theorem dX0_sires_150 : decode cX0_sires 150 = .ok (.iload_n 2, 1) := dk_28 (dk_at dksX0_sires_6 7 rfl rfl)
theorem dX0_sires_151 : decode cX0_sires 151 = .ok (.iconst 1, 1) := dk_4 (dk_at dksX0_sires_6 8 rfl rfl)
theorem dX0_sires_152 : decode cX0_sires 152 = .ok (.if_icmp .ne 8, 3) := dk_160 0 8 (dk_at dksX0_sires_6 9 rfl rfl)
theorem dX0_sires_155 : decode cX0_sires 155 = .ok (.iload 4, 2) := dk_21 4 (dk_at dksX0_sires_6 12 rfl rfl)
theorem dX0_sires_157 : decode cX0_sires 157 = .ok (.goto 5, 3) := dk_167 0 5 (dk_at dksX0_sires_6 14 rfl rfl)
theorem dX0_sires_160 : decode cX0_sires 160 = .ok (.iload 5, 2) := dk_21 5 (dk_at dksX0_sires_6 17 rfl rfl)
theorem dX0_sires_162 : decode cX0_sires 162 = .ok (.ireturn, 1) := dk_172 (dk_at dksX0_sires_6 19 rfl rfl)
abbrev cX0_foreign : ByteArray := prog_1_method_39_code
def yX0_foreign : MethodName := ⟨RX0, "foreign", "(III)I"⟩
def dkwX0_foreign_1 : List UInt8 := [180, 0, 186, 27, 46, 42, 180, 0, 59, 180, 0, 186, 29, 46, 130, 126, 184, 0, 25, 172]
abbrev dktX0_foreign_1 : List UInt8 := dkwX0_foreign_1 ++ []
def dkwX0_foreign_0 : List UInt8 := [42, 180, 0, 59, 180, 0, 186, 27, 46, 42, 180, 0, 59, 180, 0, 186, 28, 46, 130, 42, 180, 0, 59]
abbrev dktX0_foreign_0 : List UInt8 := dkwX0_foreign_0 ++ dktX0_foreign_1
theorem dksX0_foreign_0 : cX0_foreign.data.toList.drop 0 = dktX0_foreign_0 := by decide +kernel
theorem dksX0_foreign_1 : cX0_foreign.data.toList.drop 23 = dktX0_foreign_1 := dk_seg dksX0_foreign_0 23 rfl rfl
theorem dX0_foreign_0 : decode cX0_foreign 0 = .ok (.aload_n 0, 1) := dk_42 (dk_at dksX0_foreign_0 0 rfl rfl)
theorem dX0_foreign_1 : decode cX0_foreign 1 = .ok (.getfield 59, 3) := dk_180 0 59 (dk_at dksX0_foreign_0 1 rfl rfl)
theorem dX0_foreign_4 : decode cX0_foreign 4 = .ok (.getfield 186, 3) := dk_180 0 186 (dk_at dksX0_foreign_0 4 rfl rfl)
theorem dX0_foreign_7 : decode cX0_foreign 7 = .ok (.iload_n 1, 1) := dk_27 (dk_at dksX0_foreign_0 7 rfl rfl)
theorem dX0_foreign_8 : decode cX0_foreign 8 = .ok (.iaload, 1) := dk_46 (dk_at dksX0_foreign_0 8 rfl rfl)
theorem dX0_foreign_9 : decode cX0_foreign 9 = .ok (.aload_n 0, 1) := dk_42 (dk_at dksX0_foreign_0 9 rfl rfl)
theorem dX0_foreign_10 : decode cX0_foreign 10 = .ok (.getfield 59, 3) := dk_180 0 59 (dk_at dksX0_foreign_0 10 rfl rfl)
theorem dX0_foreign_13 : decode cX0_foreign 13 = .ok (.getfield 186, 3) := dk_180 0 186 (dk_at dksX0_foreign_0 13 rfl rfl)
theorem dX0_foreign_16 : decode cX0_foreign 16 = .ok (.iload_n 2, 1) := dk_28 (dk_at dksX0_foreign_0 16 rfl rfl)
theorem dX0_foreign_17 : decode cX0_foreign 17 = .ok (.iaload, 1) := dk_46 (dk_at dksX0_foreign_0 17 rfl rfl)
theorem dX0_foreign_18 : decode cX0_foreign 18 = .ok (.ixor, 1) := dk_130 (dk_at dksX0_foreign_0 18 rfl rfl)
theorem dX0_foreign_19 : decode cX0_foreign 19 = .ok (.aload_n 0, 1) := dk_42 (dk_at dksX0_foreign_0 19 rfl rfl)
theorem dX0_foreign_20 : decode cX0_foreign 20 = .ok (.getfield 59, 3) := dk_180 0 59 (dk_at dksX0_foreign_0 20 rfl rfl)
theorem dX0_foreign_23 : decode cX0_foreign 23 = .ok (.getfield 186, 3) := dk_180 0 186 (dk_at dksX0_foreign_1 0 rfl rfl)
theorem dX0_foreign_26 : decode cX0_foreign 26 = .ok (.iload_n 1, 1) := dk_27 (dk_at dksX0_foreign_1 3 rfl rfl)
theorem dX0_foreign_27 : decode cX0_foreign 27 = .ok (.iaload, 1) := dk_46 (dk_at dksX0_foreign_1 4 rfl rfl)
theorem dX0_foreign_28 : decode cX0_foreign 28 = .ok (.aload_n 0, 1) := dk_42 (dk_at dksX0_foreign_1 5 rfl rfl)
theorem dX0_foreign_29 : decode cX0_foreign 29 = .ok (.getfield 59, 3) := dk_180 0 59 (dk_at dksX0_foreign_1 6 rfl rfl)
theorem dX0_foreign_32 : decode cX0_foreign 32 = .ok (.getfield 186, 3) := dk_180 0 186 (dk_at dksX0_foreign_1 9 rfl rfl)
theorem dX0_foreign_35 : decode cX0_foreign 35 = .ok (.iload_n 3, 1) := dk_29 (dk_at dksX0_foreign_1 12 rfl rfl)
theorem dX0_foreign_36 : decode cX0_foreign 36 = .ok (.iaload, 1) := dk_46 (dk_at dksX0_foreign_1 13 rfl rfl)
theorem dX0_foreign_37 : decode cX0_foreign 37 = .ok (.ixor, 1) := dk_130 (dk_at dksX0_foreign_1 14 rfl rfl)
theorem dX0_foreign_38 : decode cX0_foreign 38 = .ok (.iand, 1) := dk_126 (dk_at dksX0_foreign_1 15 rfl rfl)
theorem dX0_foreign_39 : decode cX0_foreign 39 = .ok (.invokestatic 25, 3) := dk_184 0 25 (dk_at dksX0_foreign_1 16 rfl rfl)
theorem dX0_foreign_42 : decode cX0_foreign 42 = .ok (.ireturn, 1) := dk_172 (dk_at dksX0_foreign_1 19 rfl rfl)
abbrev cX0_quartet : ByteArray := prog_1_method_42_code
def yX0_quartet : MethodName := ⟨RX0, "quartet", "(IIIII)I"⟩
def dkwX0_quartet_6 : List UInt8 := [160, 0, 7, 4, 167, 0, 4, 5, 172]
abbrev dktX0_quartet_6 : List UInt8 := dkwX0_quartet_6 ++ []
def dkwX0_quartet_5 : List UInt8 := [160, 0, 8, 21, 9, 167, 0, 26, 21, 6, 21, 9, 160, 0, 7, 3, 167, 0, 15, 21, 7, 21, 9]
abbrev dktX0_quartet_5 : List UInt8 := dkwX0_quartet_5 ++ dktX0_quartet_6
def dkwX0_quartet_4 : List UInt8 := [182, 1, 26, 54, 8, 21, 6, 21, 7, 21, 8, 184, 1, 30, 184, 1, 30, 54, 9, 21, 5, 4]
abbrev dktX0_quartet_4 : List UInt8 := dkwX0_quartet_4 ++ dktX0_quartet_5
def dkwX0_quartet_3 : List UInt8 := [21, 4, 182, 1, 26, 54, 6, 42, 27, 29, 28, 21, 4, 182, 1, 26, 54, 7, 42, 27, 21, 4, 28, 29]
abbrev dktX0_quartet_3 : List UInt8 := dkwX0_quartet_3 ++ dktX0_quartet_4
def dkwX0_quartet_2 : List UInt8 := [128, 184, 0, 25, 7, 161, 0, 13, 21, 5, 3, 4, 184, 0, 154, 154, 0, 5, 2, 172, 42, 27, 28, 29]
abbrev dktX0_quartet_2 : List UInt8 := dkwX0_quartet_2 ++ dktX0_quartet_3
def dkwX0_quartet_1 : List UInt8 := [42, 21, 4, 182, 0, 177, 153, 0, 36, 4, 27, 120, 4, 28, 120, 128, 4, 29, 120, 128, 4, 21, 4, 120]
abbrev dktX0_quartet_1 : List UInt8 := dkwX0_quartet_1 ++ dktX0_quartet_2
def dkwX0_quartet_0 : List UInt8 := [42, 27, 182, 0, 177, 153, 0, 61, 42, 28, 182, 0, 177, 153, 0, 53, 42, 29, 182, 0, 177, 153, 0, 45]
abbrev dktX0_quartet_0 : List UInt8 := dkwX0_quartet_0 ++ dktX0_quartet_1
theorem dksX0_quartet_0 : cX0_quartet.data.toList.drop 0 = dktX0_quartet_0 := by decide +kernel
theorem dksX0_quartet_1 : cX0_quartet.data.toList.drop 24 = dktX0_quartet_1 := dk_seg dksX0_quartet_0 24 rfl rfl
theorem dksX0_quartet_2 : cX0_quartet.data.toList.drop 48 = dktX0_quartet_2 := dk_seg dksX0_quartet_1 24 rfl rfl
theorem dksX0_quartet_3 : cX0_quartet.data.toList.drop 72 = dktX0_quartet_3 := dk_seg dksX0_quartet_2 24 rfl rfl
theorem dksX0_quartet_4 : cX0_quartet.data.toList.drop 96 = dktX0_quartet_4 := dk_seg dksX0_quartet_3 24 rfl rfl
theorem dksX0_quartet_5 : cX0_quartet.data.toList.drop 118 = dktX0_quartet_5 := dk_seg dksX0_quartet_4 22 rfl rfl
theorem dksX0_quartet_6 : cX0_quartet.data.toList.drop 141 = dktX0_quartet_6 := dk_seg dksX0_quartet_5 23 rfl rfl
theorem dX0_quartet_0 : decode cX0_quartet 0 = .ok (.aload_n 0, 1) := dk_42 (dk_at dksX0_quartet_0 0 rfl rfl)
theorem dX0_quartet_1 : decode cX0_quartet 1 = .ok (.iload_n 1, 1) := dk_27 (dk_at dksX0_quartet_0 1 rfl rfl)
theorem dX0_quartet_2 : decode cX0_quartet 2 = .ok (.invokevirtual 177, 3) := dk_182 0 177 (dk_at dksX0_quartet_0 2 rfl rfl)
theorem dX0_quartet_5 : decode cX0_quartet 5 = .ok (.ifCond .eq 61, 3) := dk_153 0 61 (dk_at dksX0_quartet_0 5 rfl rfl)
theorem dX0_quartet_8 : decode cX0_quartet 8 = .ok (.aload_n 0, 1) := dk_42 (dk_at dksX0_quartet_0 8 rfl rfl)
theorem dX0_quartet_9 : decode cX0_quartet 9 = .ok (.iload_n 2, 1) := dk_28 (dk_at dksX0_quartet_0 9 rfl rfl)
theorem dX0_quartet_10 : decode cX0_quartet 10 = .ok (.invokevirtual 177, 3) := dk_182 0 177 (dk_at dksX0_quartet_0 10 rfl rfl)
theorem dX0_quartet_13 : decode cX0_quartet 13 = .ok (.ifCond .eq 53, 3) := dk_153 0 53 (dk_at dksX0_quartet_0 13 rfl rfl)
theorem dX0_quartet_16 : decode cX0_quartet 16 = .ok (.aload_n 0, 1) := dk_42 (dk_at dksX0_quartet_0 16 rfl rfl)
theorem dX0_quartet_17 : decode cX0_quartet 17 = .ok (.iload_n 3, 1) := dk_29 (dk_at dksX0_quartet_0 17 rfl rfl)
theorem dX0_quartet_18 : decode cX0_quartet 18 = .ok (.invokevirtual 177, 3) := dk_182 0 177 (dk_at dksX0_quartet_0 18 rfl rfl)
theorem dX0_quartet_21 : decode cX0_quartet 21 = .ok (.ifCond .eq 45, 3) := dk_153 0 45 (dk_at dksX0_quartet_0 21 rfl rfl)
theorem dX0_quartet_24 : decode cX0_quartet 24 = .ok (.aload_n 0, 1) := dk_42 (dk_at dksX0_quartet_1 0 rfl rfl)
theorem dX0_quartet_25 : decode cX0_quartet 25 = .ok (.iload 4, 2) := dk_21 4 (dk_at dksX0_quartet_1 1 rfl rfl)
theorem dX0_quartet_27 : decode cX0_quartet 27 = .ok (.invokevirtual 177, 3) := dk_182 0 177 (dk_at dksX0_quartet_1 3 rfl rfl)
theorem dX0_quartet_30 : decode cX0_quartet 30 = .ok (.ifCond .eq 36, 3) := dk_153 0 36 (dk_at dksX0_quartet_1 6 rfl rfl)
theorem dX0_quartet_33 : decode cX0_quartet 33 = .ok (.iconst 1, 1) := dk_4 (dk_at dksX0_quartet_1 9 rfl rfl)
theorem dX0_quartet_34 : decode cX0_quartet 34 = .ok (.iload_n 1, 1) := dk_27 (dk_at dksX0_quartet_1 10 rfl rfl)
theorem dX0_quartet_35 : decode cX0_quartet 35 = .ok (.ishl, 1) := dk_120 (dk_at dksX0_quartet_1 11 rfl rfl)
theorem dX0_quartet_36 : decode cX0_quartet 36 = .ok (.iconst 1, 1) := dk_4 (dk_at dksX0_quartet_1 12 rfl rfl)
theorem dX0_quartet_37 : decode cX0_quartet 37 = .ok (.iload_n 2, 1) := dk_28 (dk_at dksX0_quartet_1 13 rfl rfl)
theorem dX0_quartet_38 : decode cX0_quartet 38 = .ok (.ishl, 1) := dk_120 (dk_at dksX0_quartet_1 14 rfl rfl)
theorem dX0_quartet_39 : decode cX0_quartet 39 = .ok (.ior, 1) := dk_128 (dk_at dksX0_quartet_1 15 rfl rfl)
theorem dX0_quartet_40 : decode cX0_quartet 40 = .ok (.iconst 1, 1) := dk_4 (dk_at dksX0_quartet_1 16 rfl rfl)
theorem dX0_quartet_41 : decode cX0_quartet 41 = .ok (.iload_n 3, 1) := dk_29 (dk_at dksX0_quartet_1 17 rfl rfl)
theorem dX0_quartet_42 : decode cX0_quartet 42 = .ok (.ishl, 1) := dk_120 (dk_at dksX0_quartet_1 18 rfl rfl)
theorem dX0_quartet_43 : decode cX0_quartet 43 = .ok (.ior, 1) := dk_128 (dk_at dksX0_quartet_1 19 rfl rfl)
theorem dX0_quartet_44 : decode cX0_quartet 44 = .ok (.iconst 1, 1) := dk_4 (dk_at dksX0_quartet_1 20 rfl rfl)
theorem dX0_quartet_45 : decode cX0_quartet 45 = .ok (.iload 4, 2) := dk_21 4 (dk_at dksX0_quartet_1 21 rfl rfl)
theorem dX0_quartet_47 : decode cX0_quartet 47 = .ok (.ishl, 1) := dk_120 (dk_at dksX0_quartet_1 23 rfl rfl)
theorem dX0_quartet_48 : decode cX0_quartet 48 = .ok (.ior, 1) := dk_128 (dk_at dksX0_quartet_2 0 rfl rfl)
theorem dX0_quartet_49 : decode cX0_quartet 49 = .ok (.invokestatic 25, 3) := dk_184 0 25 (dk_at dksX0_quartet_2 1 rfl rfl)
theorem dX0_quartet_52 : decode cX0_quartet 52 = .ok (.iconst 4, 1) := dk_7 (dk_at dksX0_quartet_2 4 rfl rfl)
theorem dX0_quartet_53 : decode cX0_quartet 53 = .ok (.if_icmp .lt 13, 3) := dk_161 0 13 (dk_at dksX0_quartet_2 5 rfl rfl)
theorem dX0_quartet_56 : decode cX0_quartet 56 = .ok (.iload 5, 2) := dk_21 5 (dk_at dksX0_quartet_2 8 rfl rfl)
theorem dX0_quartet_58 : decode cX0_quartet 58 = .ok (.iconst 0, 1) := dk_3 (dk_at dksX0_quartet_2 10 rfl rfl)
theorem dX0_quartet_59 : decode cX0_quartet 59 = .ok (.iconst 1, 1) := dk_4 (dk_at dksX0_quartet_2 11 rfl rfl)
theorem dX0_quartet_60 : decode cX0_quartet 60 = .ok (.invokestatic 154, 3) := dk_184 0 154 (dk_at dksX0_quartet_2 12 rfl rfl)
theorem dX0_quartet_63 : decode cX0_quartet 63 = .ok (.ifCond .ne 5, 3) := dk_154 0 5 (dk_at dksX0_quartet_2 15 rfl rfl)
theorem dX0_quartet_66 : decode cX0_quartet 66 = .ok (.iconst (-1), 1) := dk_2 (dk_at dksX0_quartet_2 18 rfl rfl)
theorem dX0_quartet_67 : decode cX0_quartet 67 = .ok (.ireturn, 1) := dk_172 (dk_at dksX0_quartet_2 19 rfl rfl)
theorem dX0_quartet_68 : decode cX0_quartet 68 = .ok (.aload_n 0, 1) := dk_42 (dk_at dksX0_quartet_2 20 rfl rfl)
theorem dX0_quartet_69 : decode cX0_quartet 69 = .ok (.iload_n 1, 1) := dk_27 (dk_at dksX0_quartet_2 21 rfl rfl)
theorem dX0_quartet_70 : decode cX0_quartet 70 = .ok (.iload_n 2, 1) := dk_28 (dk_at dksX0_quartet_2 22 rfl rfl)
theorem dX0_quartet_71 : decode cX0_quartet 71 = .ok (.iload_n 3, 1) := dk_29 (dk_at dksX0_quartet_2 23 rfl rfl)
theorem dX0_quartet_72 : decode cX0_quartet 72 = .ok (.iload 4, 2) := dk_21 4 (dk_at dksX0_quartet_3 0 rfl rfl)
theorem dX0_quartet_74 : decode cX0_quartet 74 = .ok (.invokevirtual 282, 3) := dk_182 1 26 (dk_at dksX0_quartet_3 2 rfl rfl)
theorem dX0_quartet_77 : decode cX0_quartet 77 = .ok (.istore 6, 2) := dk_54 6 (dk_at dksX0_quartet_3 5 rfl rfl)
theorem dX0_quartet_79 : decode cX0_quartet 79 = .ok (.aload_n 0, 1) := dk_42 (dk_at dksX0_quartet_3 7 rfl rfl)
theorem dX0_quartet_80 : decode cX0_quartet 80 = .ok (.iload_n 1, 1) := dk_27 (dk_at dksX0_quartet_3 8 rfl rfl)
theorem dX0_quartet_81 : decode cX0_quartet 81 = .ok (.iload_n 3, 1) := dk_29 (dk_at dksX0_quartet_3 9 rfl rfl)
theorem dX0_quartet_82 : decode cX0_quartet 82 = .ok (.iload_n 2, 1) := dk_28 (dk_at dksX0_quartet_3 10 rfl rfl)
theorem dX0_quartet_83 : decode cX0_quartet 83 = .ok (.iload 4, 2) := dk_21 4 (dk_at dksX0_quartet_3 11 rfl rfl)
theorem dX0_quartet_85 : decode cX0_quartet 85 = .ok (.invokevirtual 282, 3) := dk_182 1 26 (dk_at dksX0_quartet_3 13 rfl rfl)
theorem dX0_quartet_88 : decode cX0_quartet 88 = .ok (.istore 7, 2) := dk_54 7 (dk_at dksX0_quartet_3 16 rfl rfl)
theorem dX0_quartet_90 : decode cX0_quartet 90 = .ok (.aload_n 0, 1) := dk_42 (dk_at dksX0_quartet_3 18 rfl rfl)
theorem dX0_quartet_91 : decode cX0_quartet 91 = .ok (.iload_n 1, 1) := dk_27 (dk_at dksX0_quartet_3 19 rfl rfl)
theorem dX0_quartet_92 : decode cX0_quartet 92 = .ok (.iload 4, 2) := dk_21 4 (dk_at dksX0_quartet_3 20 rfl rfl)
theorem dX0_quartet_94 : decode cX0_quartet 94 = .ok (.iload_n 2, 1) := dk_28 (dk_at dksX0_quartet_3 22 rfl rfl)
theorem dX0_quartet_95 : decode cX0_quartet 95 = .ok (.iload_n 3, 1) := dk_29 (dk_at dksX0_quartet_3 23 rfl rfl)
theorem dX0_quartet_96 : decode cX0_quartet 96 = .ok (.invokevirtual 282, 3) := dk_182 1 26 (dk_at dksX0_quartet_4 0 rfl rfl)
theorem dX0_quartet_99 : decode cX0_quartet 99 = .ok (.istore 8, 2) := dk_54 8 (dk_at dksX0_quartet_4 3 rfl rfl)
theorem dX0_quartet_101 : decode cX0_quartet 101 = .ok (.iload 6, 2) := dk_21 6 (dk_at dksX0_quartet_4 5 rfl rfl)
theorem dX0_quartet_103 : decode cX0_quartet 103 = .ok (.iload 7, 2) := dk_21 7 (dk_at dksX0_quartet_4 7 rfl rfl)
theorem dX0_quartet_105 : decode cX0_quartet 105 = .ok (.iload 8, 2) := dk_21 8 (dk_at dksX0_quartet_4 9 rfl rfl)
theorem dX0_quartet_107 : decode cX0_quartet 107 = .ok (.invokestatic 286, 3) := dk_184 1 30 (dk_at dksX0_quartet_4 11 rfl rfl)
theorem dX0_quartet_110 : decode cX0_quartet 110 = .ok (.invokestatic 286, 3) := dk_184 1 30 (dk_at dksX0_quartet_4 14 rfl rfl)
theorem dX0_quartet_113 : decode cX0_quartet 113 = .ok (.istore 9, 2) := dk_54 9 (dk_at dksX0_quartet_4 17 rfl rfl)
theorem dX0_quartet_115 : decode cX0_quartet 115 = .ok (.iload 5, 2) := dk_21 5 (dk_at dksX0_quartet_4 19 rfl rfl)
theorem dX0_quartet_117 : decode cX0_quartet 117 = .ok (.iconst 1, 1) := dk_4 (dk_at dksX0_quartet_4 21 rfl rfl)
theorem dX0_quartet_118 : decode cX0_quartet 118 = .ok (.if_icmp .ne 8, 3) := dk_160 0 8 (dk_at dksX0_quartet_5 0 rfl rfl)
theorem dX0_quartet_121 : decode cX0_quartet 121 = .ok (.iload 9, 2) := dk_21 9 (dk_at dksX0_quartet_5 3 rfl rfl)
theorem dX0_quartet_123 : decode cX0_quartet 123 = .ok (.goto 26, 3) := dk_167 0 26 (dk_at dksX0_quartet_5 5 rfl rfl)
theorem dX0_quartet_126 : decode cX0_quartet 126 = .ok (.iload 6, 2) := dk_21 6 (dk_at dksX0_quartet_5 8 rfl rfl)
theorem dX0_quartet_128 : decode cX0_quartet 128 = .ok (.iload 9, 2) := dk_21 9 (dk_at dksX0_quartet_5 10 rfl rfl)
theorem dX0_quartet_130 : decode cX0_quartet 130 = .ok (.if_icmp .ne 7, 3) := dk_160 0 7 (dk_at dksX0_quartet_5 12 rfl rfl)
theorem dX0_quartet_133 : decode cX0_quartet 133 = .ok (.iconst 0, 1) := dk_3 (dk_at dksX0_quartet_5 15 rfl rfl)
theorem dX0_quartet_134 : decode cX0_quartet 134 = .ok (.goto 15, 3) := dk_167 0 15 (dk_at dksX0_quartet_5 16 rfl rfl)
theorem dX0_quartet_137 : decode cX0_quartet 137 = .ok (.iload 7, 2) := dk_21 7 (dk_at dksX0_quartet_5 19 rfl rfl)
theorem dX0_quartet_139 : decode cX0_quartet 139 = .ok (.iload 9, 2) := dk_21 9 (dk_at dksX0_quartet_5 21 rfl rfl)
theorem dX0_quartet_141 : decode cX0_quartet 141 = .ok (.if_icmp .ne 7, 3) := dk_160 0 7 (dk_at dksX0_quartet_6 0 rfl rfl)
theorem dX0_quartet_144 : decode cX0_quartet 144 = .ok (.iconst 1, 1) := dk_4 (dk_at dksX0_quartet_6 3 rfl rfl)
theorem dX0_quartet_145 : decode cX0_quartet 145 = .ok (.goto 4, 3) := dk_167 0 4 (dk_at dksX0_quartet_6 4 rfl rfl)
theorem dX0_quartet_148 : decode cX0_quartet 148 = .ok (.iconst 2, 1) := dk_5 (dk_at dksX0_quartet_6 7 rfl rfl)
theorem dX0_quartet_149 : decode cX0_quartet 149 = .ok (.ireturn, 1) := dk_172 (dk_at dksX0_quartet_6 8 rfl rfl)
abbrev cX0_changes : ByteArray := prog_1_method_41_code
def yX0_changes : MethodName := ⟨RX0, "changes", "(IIII)I"⟩
def dkwX0_changes_5 : List UInt8 := [21, 8, 159, 0, 7, 5, 167, 0, 4, 4, 96, 54, 5, 132, 6, 1, 167, 255, 130, 21, 5, 172]
abbrev dktX0_changes_5 : List UInt8 := dkwX0_changes_5 ++ []
def dkwX0_changes_4 : List UInt8 := [21, 11, 153, 0, 9, 21, 11, 7, 160, 0, 7, 3, 167, 0, 21, 21, 11, 5, 160, 0, 14, 21, 7]
abbrev dktX0_changes_4 : List UInt8 := dkwX0_changes_4 ++ dktX0_changes_5
def dkwX0_changes_3 : List UInt8 := [46, 21, 6, 122, 4, 126, 54, 10, 21, 7, 21, 8, 96, 21, 9, 96, 21, 10, 96, 54, 11, 21, 5]
abbrev dktX0_changes_3 : List UInt8 := dkwX0_changes_3 ++ dktX0_changes_4
def dkwX0_changes_2 : List UInt8 := [180, 0, 59, 180, 0, 186, 29, 46, 21, 6, 122, 4, 126, 54, 9, 42, 180, 0, 59, 180, 0, 186, 21, 4]
abbrev dktX0_changes_2 : List UInt8 := dkwX0_changes_2 ++ dktX0_changes_3
def dkwX0_changes_1 : List UInt8 := [122, 4, 126, 54, 7, 42, 180, 0, 59, 180, 0, 186, 28, 46, 21, 6, 122, 4, 126, 54, 8, 42]
abbrev dktX0_changes_1 : List UInt8 := dkwX0_changes_1 ++ dktX0_changes_2
def dkwX0_changes_0 : List UInt8 := [3, 54, 5, 3, 54, 6, 21, 6, 16, 6, 162, 0, 125, 42, 180, 0, 59, 180, 0, 186, 27, 46, 21, 6]
abbrev dktX0_changes_0 : List UInt8 := dkwX0_changes_0 ++ dktX0_changes_1
theorem dksX0_changes_0 : cX0_changes.data.toList.drop 0 = dktX0_changes_0 := by decide +kernel
theorem dksX0_changes_1 : cX0_changes.data.toList.drop 24 = dktX0_changes_1 := dk_seg dksX0_changes_0 24 rfl rfl
theorem dksX0_changes_2 : cX0_changes.data.toList.drop 46 = dktX0_changes_2 := dk_seg dksX0_changes_1 22 rfl rfl
theorem dksX0_changes_3 : cX0_changes.data.toList.drop 70 = dktX0_changes_3 := dk_seg dksX0_changes_2 24 rfl rfl
theorem dksX0_changes_4 : cX0_changes.data.toList.drop 93 = dktX0_changes_4 := dk_seg dksX0_changes_3 23 rfl rfl
theorem dksX0_changes_5 : cX0_changes.data.toList.drop 116 = dktX0_changes_5 := dk_seg dksX0_changes_4 23 rfl rfl
theorem dX0_changes_0 : decode cX0_changes 0 = .ok (.iconst 0, 1) := dk_3 (dk_at dksX0_changes_0 0 rfl rfl)
theorem dX0_changes_1 : decode cX0_changes 1 = .ok (.istore 5, 2) := dk_54 5 (dk_at dksX0_changes_0 1 rfl rfl)
theorem dX0_changes_3 : decode cX0_changes 3 = .ok (.iconst 0, 1) := dk_3 (dk_at dksX0_changes_0 3 rfl rfl)
theorem dX0_changes_4 : decode cX0_changes 4 = .ok (.istore 6, 2) := dk_54 6 (dk_at dksX0_changes_0 4 rfl rfl)
theorem dX0_changes_6 : decode cX0_changes 6 = .ok (.iload 6, 2) := dk_21 6 (dk_at dksX0_changes_0 6 rfl rfl)
theorem dX0_changes_8 : decode cX0_changes 8 = .ok (.bipush 6, 2) := dk_16 6 (dk_at dksX0_changes_0 8 rfl rfl)
theorem dX0_changes_10 : decode cX0_changes 10 = .ok (.if_icmp .ge 125, 3) := dk_162 0 125 (dk_at dksX0_changes_0 10 rfl rfl)
theorem dX0_changes_13 : decode cX0_changes 13 = .ok (.aload_n 0, 1) := dk_42 (dk_at dksX0_changes_0 13 rfl rfl)
theorem dX0_changes_14 : decode cX0_changes 14 = .ok (.getfield 59, 3) := dk_180 0 59 (dk_at dksX0_changes_0 14 rfl rfl)
theorem dX0_changes_17 : decode cX0_changes 17 = .ok (.getfield 186, 3) := dk_180 0 186 (dk_at dksX0_changes_0 17 rfl rfl)
theorem dX0_changes_20 : decode cX0_changes 20 = .ok (.iload_n 1, 1) := dk_27 (dk_at dksX0_changes_0 20 rfl rfl)
theorem dX0_changes_21 : decode cX0_changes 21 = .ok (.iaload, 1) := dk_46 (dk_at dksX0_changes_0 21 rfl rfl)
theorem dX0_changes_22 : decode cX0_changes 22 = .ok (.iload 6, 2) := dk_21 6 (dk_at dksX0_changes_0 22 rfl rfl)
theorem dX0_changes_24 : decode cX0_changes 24 = .ok (.ishr, 1) := dk_122 (dk_at dksX0_changes_1 0 rfl rfl)
theorem dX0_changes_25 : decode cX0_changes 25 = .ok (.iconst 1, 1) := dk_4 (dk_at dksX0_changes_1 1 rfl rfl)
theorem dX0_changes_26 : decode cX0_changes 26 = .ok (.iand, 1) := dk_126 (dk_at dksX0_changes_1 2 rfl rfl)
theorem dX0_changes_27 : decode cX0_changes 27 = .ok (.istore 7, 2) := dk_54 7 (dk_at dksX0_changes_1 3 rfl rfl)
theorem dX0_changes_29 : decode cX0_changes 29 = .ok (.aload_n 0, 1) := dk_42 (dk_at dksX0_changes_1 5 rfl rfl)
theorem dX0_changes_30 : decode cX0_changes 30 = .ok (.getfield 59, 3) := dk_180 0 59 (dk_at dksX0_changes_1 6 rfl rfl)
theorem dX0_changes_33 : decode cX0_changes 33 = .ok (.getfield 186, 3) := dk_180 0 186 (dk_at dksX0_changes_1 9 rfl rfl)
theorem dX0_changes_36 : decode cX0_changes 36 = .ok (.iload_n 2, 1) := dk_28 (dk_at dksX0_changes_1 12 rfl rfl)
theorem dX0_changes_37 : decode cX0_changes 37 = .ok (.iaload, 1) := dk_46 (dk_at dksX0_changes_1 13 rfl rfl)
theorem dX0_changes_38 : decode cX0_changes 38 = .ok (.iload 6, 2) := dk_21 6 (dk_at dksX0_changes_1 14 rfl rfl)
theorem dX0_changes_40 : decode cX0_changes 40 = .ok (.ishr, 1) := dk_122 (dk_at dksX0_changes_1 16 rfl rfl)
theorem dX0_changes_41 : decode cX0_changes 41 = .ok (.iconst 1, 1) := dk_4 (dk_at dksX0_changes_1 17 rfl rfl)
theorem dX0_changes_42 : decode cX0_changes 42 = .ok (.iand, 1) := dk_126 (dk_at dksX0_changes_1 18 rfl rfl)
theorem dX0_changes_43 : decode cX0_changes 43 = .ok (.istore 8, 2) := dk_54 8 (dk_at dksX0_changes_1 19 rfl rfl)
theorem dX0_changes_45 : decode cX0_changes 45 = .ok (.aload_n 0, 1) := dk_42 (dk_at dksX0_changes_1 21 rfl rfl)
theorem dX0_changes_46 : decode cX0_changes 46 = .ok (.getfield 59, 3) := dk_180 0 59 (dk_at dksX0_changes_2 0 rfl rfl)
theorem dX0_changes_49 : decode cX0_changes 49 = .ok (.getfield 186, 3) := dk_180 0 186 (dk_at dksX0_changes_2 3 rfl rfl)
theorem dX0_changes_52 : decode cX0_changes 52 = .ok (.iload_n 3, 1) := dk_29 (dk_at dksX0_changes_2 6 rfl rfl)
theorem dX0_changes_53 : decode cX0_changes 53 = .ok (.iaload, 1) := dk_46 (dk_at dksX0_changes_2 7 rfl rfl)
theorem dX0_changes_54 : decode cX0_changes 54 = .ok (.iload 6, 2) := dk_21 6 (dk_at dksX0_changes_2 8 rfl rfl)
theorem dX0_changes_56 : decode cX0_changes 56 = .ok (.ishr, 1) := dk_122 (dk_at dksX0_changes_2 10 rfl rfl)
theorem dX0_changes_57 : decode cX0_changes 57 = .ok (.iconst 1, 1) := dk_4 (dk_at dksX0_changes_2 11 rfl rfl)
theorem dX0_changes_58 : decode cX0_changes 58 = .ok (.iand, 1) := dk_126 (dk_at dksX0_changes_2 12 rfl rfl)
theorem dX0_changes_59 : decode cX0_changes 59 = .ok (.istore 9, 2) := dk_54 9 (dk_at dksX0_changes_2 13 rfl rfl)
theorem dX0_changes_61 : decode cX0_changes 61 = .ok (.aload_n 0, 1) := dk_42 (dk_at dksX0_changes_2 15 rfl rfl)
theorem dX0_changes_62 : decode cX0_changes 62 = .ok (.getfield 59, 3) := dk_180 0 59 (dk_at dksX0_changes_2 16 rfl rfl)
theorem dX0_changes_65 : decode cX0_changes 65 = .ok (.getfield 186, 3) := dk_180 0 186 (dk_at dksX0_changes_2 19 rfl rfl)
theorem dX0_changes_68 : decode cX0_changes 68 = .ok (.iload 4, 2) := dk_21 4 (dk_at dksX0_changes_2 22 rfl rfl)
theorem dX0_changes_70 : decode cX0_changes 70 = .ok (.iaload, 1) := dk_46 (dk_at dksX0_changes_3 0 rfl rfl)
theorem dX0_changes_71 : decode cX0_changes 71 = .ok (.iload 6, 2) := dk_21 6 (dk_at dksX0_changes_3 1 rfl rfl)
theorem dX0_changes_73 : decode cX0_changes 73 = .ok (.ishr, 1) := dk_122 (dk_at dksX0_changes_3 3 rfl rfl)
theorem dX0_changes_74 : decode cX0_changes 74 = .ok (.iconst 1, 1) := dk_4 (dk_at dksX0_changes_3 4 rfl rfl)
theorem dX0_changes_75 : decode cX0_changes 75 = .ok (.iand, 1) := dk_126 (dk_at dksX0_changes_3 5 rfl rfl)
theorem dX0_changes_76 : decode cX0_changes 76 = .ok (.istore 10, 2) := dk_54 10 (dk_at dksX0_changes_3 6 rfl rfl)
theorem dX0_changes_78 : decode cX0_changes 78 = .ok (.iload 7, 2) := dk_21 7 (dk_at dksX0_changes_3 8 rfl rfl)
theorem dX0_changes_80 : decode cX0_changes 80 = .ok (.iload 8, 2) := dk_21 8 (dk_at dksX0_changes_3 10 rfl rfl)
theorem dX0_changes_82 : decode cX0_changes 82 = .ok (.iadd, 1) := dk_96 (dk_at dksX0_changes_3 12 rfl rfl)
theorem dX0_changes_83 : decode cX0_changes 83 = .ok (.iload 9, 2) := dk_21 9 (dk_at dksX0_changes_3 13 rfl rfl)
theorem dX0_changes_85 : decode cX0_changes 85 = .ok (.iadd, 1) := dk_96 (dk_at dksX0_changes_3 15 rfl rfl)
theorem dX0_changes_86 : decode cX0_changes 86 = .ok (.iload 10, 2) := dk_21 10 (dk_at dksX0_changes_3 16 rfl rfl)
theorem dX0_changes_88 : decode cX0_changes 88 = .ok (.iadd, 1) := dk_96 (dk_at dksX0_changes_3 18 rfl rfl)
theorem dX0_changes_89 : decode cX0_changes 89 = .ok (.istore 11, 2) := dk_54 11 (dk_at dksX0_changes_3 19 rfl rfl)
theorem dX0_changes_91 : decode cX0_changes 91 = .ok (.iload 5, 2) := dk_21 5 (dk_at dksX0_changes_3 21 rfl rfl)
theorem dX0_changes_93 : decode cX0_changes 93 = .ok (.iload 11, 2) := dk_21 11 (dk_at dksX0_changes_4 0 rfl rfl)
theorem dX0_changes_95 : decode cX0_changes 95 = .ok (.ifCond .eq 9, 3) := dk_153 0 9 (dk_at dksX0_changes_4 2 rfl rfl)
theorem dX0_changes_98 : decode cX0_changes 98 = .ok (.iload 11, 2) := dk_21 11 (dk_at dksX0_changes_4 5 rfl rfl)
theorem dX0_changes_100 : decode cX0_changes 100 = .ok (.iconst 4, 1) := dk_7 (dk_at dksX0_changes_4 7 rfl rfl)
theorem dX0_changes_101 : decode cX0_changes 101 = .ok (.if_icmp .ne 7, 3) := dk_160 0 7 (dk_at dksX0_changes_4 8 rfl rfl)
theorem dX0_changes_104 : decode cX0_changes 104 = .ok (.iconst 0, 1) := dk_3 (dk_at dksX0_changes_4 11 rfl rfl)
theorem dX0_changes_105 : decode cX0_changes 105 = .ok (.goto 21, 3) := dk_167 0 21 (dk_at dksX0_changes_4 12 rfl rfl)
theorem dX0_changes_108 : decode cX0_changes 108 = .ok (.iload 11, 2) := dk_21 11 (dk_at dksX0_changes_4 15 rfl rfl)
theorem dX0_changes_110 : decode cX0_changes 110 = .ok (.iconst 2, 1) := dk_5 (dk_at dksX0_changes_4 17 rfl rfl)
theorem dX0_changes_111 : decode cX0_changes 111 = .ok (.if_icmp .ne 14, 3) := dk_160 0 14 (dk_at dksX0_changes_4 18 rfl rfl)
theorem dX0_changes_114 : decode cX0_changes 114 = .ok (.iload 7, 2) := dk_21 7 (dk_at dksX0_changes_4 21 rfl rfl)
theorem dX0_changes_116 : decode cX0_changes 116 = .ok (.iload 8, 2) := dk_21 8 (dk_at dksX0_changes_5 0 rfl rfl)
theorem dX0_changes_118 : decode cX0_changes 118 = .ok (.if_icmp .eq 7, 3) := dk_159 0 7 (dk_at dksX0_changes_5 2 rfl rfl)
theorem dX0_changes_121 : decode cX0_changes 121 = .ok (.iconst 2, 1) := dk_5 (dk_at dksX0_changes_5 5 rfl rfl)
theorem dX0_changes_122 : decode cX0_changes 122 = .ok (.goto 4, 3) := dk_167 0 4 (dk_at dksX0_changes_5 6 rfl rfl)
theorem dX0_changes_125 : decode cX0_changes 125 = .ok (.iconst 1, 1) := dk_4 (dk_at dksX0_changes_5 9 rfl rfl)
theorem dX0_changes_126 : decode cX0_changes 126 = .ok (.iadd, 1) := dk_96 (dk_at dksX0_changes_5 10 rfl rfl)
theorem dX0_changes_127 : decode cX0_changes 127 = .ok (.istore 5, 2) := dk_54 5 (dk_at dksX0_changes_5 11 rfl rfl)
theorem dX0_changes_129 : decode cX0_changes 129 = .ok (.iinc 6 1, 3) := dk_132 6 1 (dk_at dksX0_changes_5 13 rfl rfl)
theorem dX0_changes_132 : decode cX0_changes 132 = .ok (.goto (-126), 3) := dk_167 255 130 (dk_at dksX0_changes_5 16 rfl rfl)
theorem dX0_changes_135 : decode cX0_changes 135 = .ok (.iload 5, 2) := dk_21 5 (dk_at dksX0_changes_5 19 rfl rfl)
theorem dX0_changes_137 : decode cX0_changes 137 = .ok (.ireturn, 1) := dk_172 (dk_at dksX0_changes_5 21 rfl rfl)
abbrev cX0_span : ByteArray := prog_1_method_43_code
def yX0_span : MethodName := ⟨RX0, "span", "()I"⟩
def dkwX0_span_7 : List UInt8 := [28, 21, 4, 96, 61, 167, 255, 100, 28, 172]
abbrev dktX0_span_7 : List UInt8 := dkwX0_span_7 ++ []
def dkwX0_span_6 : List UInt8 := [184, 1, 19, 100, 54, 4, 132, 6, 1, 167, 255, 150, 132, 5, 1, 167, 255, 134, 27, 4, 29, 120, 128, 60]
abbrev dktX0_span_6 : List UInt8 := dkwX0_span_6 ++ dktX0_span_7
def dkwX0_span_5 : List UInt8 := [16, 6, 42, 180, 0, 59, 180, 0, 186, 21, 5, 46, 42, 180, 0, 59, 180, 0, 186, 21, 6, 46]
abbrev dktX0_span_5 : List UInt8 := dkwX0_span_5 ++ dktX0_span_6
def dkwX0_span_4 : List UInt8 := [180, 0, 59, 180, 0, 186, 21, 6, 46, 184, 1, 19, 100, 21, 4, 161, 0, 6, 167, 0, 34, 21, 6, 62]
abbrev dktX0_span_4 : List UInt8 := dkwX0_span_4 ++ dktX0_span_5
def dkwX0_span_3 : List UInt8 := [27, 21, 6, 122, 4, 126, 4, 159, 0, 68, 16, 6, 42, 180, 0, 59, 180, 0, 186, 21, 5, 46, 42]
abbrev dktX0_span_3 : List UInt8 := dkwX0_span_3 ++ dktX0_span_4
def dkwX0_span_2 : List UInt8 := [162, 0, 105, 27, 21, 5, 122, 4, 126, 153, 0, 90, 42, 180, 0, 59, 21, 6, 182, 0, 158, 153, 0, 78]
abbrev dktX0_span_2 : List UInt8 := dkwX0_span_2 ++ dktX0_span_3
def dkwX0_span_1 : List UInt8 := [2, 62, 16, 7, 54, 4, 3, 54, 5, 21, 5, 16, 8, 162, 0, 121, 3, 54, 6, 21, 6, 16, 8]
abbrev dktX0_span_1 : List UInt8 := dkwX0_span_1 ++ dktX0_span_2
def dkwX0_span_0 : List UInt8 := [42, 180, 0, 59, 180, 0, 246, 184, 1, 33, 60, 3, 61, 27, 42, 180, 0, 59, 180, 0, 246, 159, 0, 151]
abbrev dktX0_span_0 : List UInt8 := dkwX0_span_0 ++ dktX0_span_1
theorem dksX0_span_0 : cX0_span.data.toList.drop 0 = dktX0_span_0 := by decide +kernel
theorem dksX0_span_1 : cX0_span.data.toList.drop 24 = dktX0_span_1 := dk_seg dksX0_span_0 24 rfl rfl
theorem dksX0_span_2 : cX0_span.data.toList.drop 47 = dktX0_span_2 := dk_seg dksX0_span_1 23 rfl rfl
theorem dksX0_span_3 : cX0_span.data.toList.drop 71 = dktX0_span_3 := dk_seg dksX0_span_2 24 rfl rfl
theorem dksX0_span_4 : cX0_span.data.toList.drop 94 = dktX0_span_4 := dk_seg dksX0_span_3 23 rfl rfl
theorem dksX0_span_5 : cX0_span.data.toList.drop 118 = dktX0_span_5 := dk_seg dksX0_span_4 24 rfl rfl
theorem dksX0_span_6 : cX0_span.data.toList.drop 140 = dktX0_span_6 := dk_seg dksX0_span_5 22 rfl rfl
theorem dksX0_span_7 : cX0_span.data.toList.drop 164 = dktX0_span_7 := dk_seg dksX0_span_6 24 rfl rfl
theorem dX0_span_0 : decode cX0_span 0 = .ok (.aload_n 0, 1) := dk_42 (dk_at dksX0_span_0 0 rfl rfl)
theorem dX0_span_1 : decode cX0_span 1 = .ok (.getfield 59, 3) := dk_180 0 59 (dk_at dksX0_span_0 1 rfl rfl)
theorem dX0_span_4 : decode cX0_span 4 = .ok (.getfield 246, 3) := dk_180 0 246 (dk_at dksX0_span_0 4 rfl rfl)
theorem dX0_span_7 : decode cX0_span 7 = .ok (.invokestatic 289, 3) := dk_184 1 33 (dk_at dksX0_span_0 7 rfl rfl)
theorem dX0_span_10 : decode cX0_span 10 = .ok (.istore_n 1, 1) := dk_60 (dk_at dksX0_span_0 10 rfl rfl)
theorem dX0_span_11 : decode cX0_span 11 = .ok (.iconst 0, 1) := dk_3 (dk_at dksX0_span_0 11 rfl rfl)
theorem dX0_span_12 : decode cX0_span 12 = .ok (.istore_n 2, 1) := dk_61 (dk_at dksX0_span_0 12 rfl rfl)
theorem dX0_span_13 : decode cX0_span 13 = .ok (.iload_n 1, 1) := dk_27 (dk_at dksX0_span_0 13 rfl rfl)
theorem dX0_span_14 : decode cX0_span 14 = .ok (.aload_n 0, 1) := dk_42 (dk_at dksX0_span_0 14 rfl rfl)
theorem dX0_span_15 : decode cX0_span 15 = .ok (.getfield 59, 3) := dk_180 0 59 (dk_at dksX0_span_0 15 rfl rfl)
theorem dX0_span_18 : decode cX0_span 18 = .ok (.getfield 246, 3) := dk_180 0 246 (dk_at dksX0_span_0 18 rfl rfl)
theorem dX0_span_21 : decode cX0_span 21 = .ok (.if_icmp .eq 151, 3) := dk_159 0 151 (dk_at dksX0_span_0 21 rfl rfl)
theorem dX0_span_24 : decode cX0_span 24 = .ok (.iconst (-1), 1) := dk_2 (dk_at dksX0_span_1 0 rfl rfl)
theorem dX0_span_25 : decode cX0_span 25 = .ok (.istore_n 3, 1) := dk_62 (dk_at dksX0_span_1 1 rfl rfl)
theorem dX0_span_26 : decode cX0_span 26 = .ok (.bipush 7, 2) := dk_16 7 (dk_at dksX0_span_1 2 rfl rfl)
theorem dX0_span_28 : decode cX0_span 28 = .ok (.istore 4, 2) := dk_54 4 (dk_at dksX0_span_1 4 rfl rfl)
theorem dX0_span_30 : decode cX0_span 30 = .ok (.iconst 0, 1) := dk_3 (dk_at dksX0_span_1 6 rfl rfl)
theorem dX0_span_31 : decode cX0_span 31 = .ok (.istore 5, 2) := dk_54 5 (dk_at dksX0_span_1 7 rfl rfl)
theorem dX0_span_33 : decode cX0_span 33 = .ok (.iload 5, 2) := dk_21 5 (dk_at dksX0_span_1 9 rfl rfl)
theorem dX0_span_35 : decode cX0_span 35 = .ok (.bipush 8, 2) := dk_16 8 (dk_at dksX0_span_1 11 rfl rfl)
theorem dX0_span_37 : decode cX0_span 37 = .ok (.if_icmp .ge 121, 3) := dk_162 0 121 (dk_at dksX0_span_1 13 rfl rfl)
theorem dX0_span_40 : decode cX0_span 40 = .ok (.iconst 0, 1) := dk_3 (dk_at dksX0_span_1 16 rfl rfl)
theorem dX0_span_41 : decode cX0_span 41 = .ok (.istore 6, 2) := dk_54 6 (dk_at dksX0_span_1 17 rfl rfl)
theorem dX0_span_43 : decode cX0_span 43 = .ok (.iload 6, 2) := dk_21 6 (dk_at dksX0_span_1 19 rfl rfl)
theorem dX0_span_45 : decode cX0_span 45 = .ok (.bipush 8, 2) := dk_16 8 (dk_at dksX0_span_1 21 rfl rfl)
theorem dX0_span_47 : decode cX0_span 47 = .ok (.if_icmp .ge 105, 3) := dk_162 0 105 (dk_at dksX0_span_2 0 rfl rfl)
theorem dX0_span_50 : decode cX0_span 50 = .ok (.iload_n 1, 1) := dk_27 (dk_at dksX0_span_2 3 rfl rfl)
theorem dX0_span_51 : decode cX0_span 51 = .ok (.iload 5, 2) := dk_21 5 (dk_at dksX0_span_2 4 rfl rfl)
theorem dX0_span_53 : decode cX0_span 53 = .ok (.ishr, 1) := dk_122 (dk_at dksX0_span_2 6 rfl rfl)
theorem dX0_span_54 : decode cX0_span 54 = .ok (.iconst 1, 1) := dk_4 (dk_at dksX0_span_2 7 rfl rfl)
theorem dX0_span_55 : decode cX0_span 55 = .ok (.iand, 1) := dk_126 (dk_at dksX0_span_2 8 rfl rfl)
theorem dX0_span_56 : decode cX0_span 56 = .ok (.ifCond .eq 90, 3) := dk_153 0 90 (dk_at dksX0_span_2 9 rfl rfl)
theorem dX0_span_59 : decode cX0_span 59 = .ok (.aload_n 0, 1) := dk_42 (dk_at dksX0_span_2 12 rfl rfl)
theorem dX0_span_60 : decode cX0_span 60 = .ok (.getfield 59, 3) := dk_180 0 59 (dk_at dksX0_span_2 13 rfl rfl)
theorem dX0_span_63 : decode cX0_span 63 = .ok (.iload 6, 2) := dk_21 6 (dk_at dksX0_span_2 16 rfl rfl)
theorem dX0_span_65 : decode cX0_span 65 = .ok (.invokevirtual 158, 3) := dk_182 0 158 (dk_at dksX0_span_2 18 rfl rfl)
theorem dX0_span_68 : decode cX0_span 68 = .ok (.ifCond .eq 78, 3) := dk_153 0 78 (dk_at dksX0_span_2 21 rfl rfl)
theorem dX0_span_71 : decode cX0_span 71 = .ok (.iload_n 1, 1) := dk_27 (dk_at dksX0_span_3 0 rfl rfl)
theorem dX0_span_72 : decode cX0_span 72 = .ok (.iload 6, 2) := dk_21 6 (dk_at dksX0_span_3 1 rfl rfl)
theorem dX0_span_74 : decode cX0_span 74 = .ok (.ishr, 1) := dk_122 (dk_at dksX0_span_3 3 rfl rfl)
theorem dX0_span_75 : decode cX0_span 75 = .ok (.iconst 1, 1) := dk_4 (dk_at dksX0_span_3 4 rfl rfl)
theorem dX0_span_76 : decode cX0_span 76 = .ok (.iand, 1) := dk_126 (dk_at dksX0_span_3 5 rfl rfl)
theorem dX0_span_77 : decode cX0_span 77 = .ok (.iconst 1, 1) := dk_4 (dk_at dksX0_span_3 6 rfl rfl)
theorem dX0_span_78 : decode cX0_span 78 = .ok (.if_icmp .eq 68, 3) := dk_159 0 68 (dk_at dksX0_span_3 7 rfl rfl)
theorem dX0_span_81 : decode cX0_span 81 = .ok (.bipush 6, 2) := dk_16 6 (dk_at dksX0_span_3 10 rfl rfl)
theorem dX0_span_83 : decode cX0_span 83 = .ok (.aload_n 0, 1) := dk_42 (dk_at dksX0_span_3 12 rfl rfl)
theorem dX0_span_84 : decode cX0_span 84 = .ok (.getfield 59, 3) := dk_180 0 59 (dk_at dksX0_span_3 13 rfl rfl)
theorem dX0_span_87 : decode cX0_span 87 = .ok (.getfield 186, 3) := dk_180 0 186 (dk_at dksX0_span_3 16 rfl rfl)
theorem dX0_span_90 : decode cX0_span 90 = .ok (.iload 5, 2) := dk_21 5 (dk_at dksX0_span_3 19 rfl rfl)
theorem dX0_span_92 : decode cX0_span 92 = .ok (.iaload, 1) := dk_46 (dk_at dksX0_span_3 21 rfl rfl)
theorem dX0_span_93 : decode cX0_span 93 = .ok (.aload_n 0, 1) := dk_42 (dk_at dksX0_span_3 22 rfl rfl)
theorem dX0_span_94 : decode cX0_span 94 = .ok (.getfield 59, 3) := dk_180 0 59 (dk_at dksX0_span_4 0 rfl rfl)
theorem dX0_span_97 : decode cX0_span 97 = .ok (.getfield 186, 3) := dk_180 0 186 (dk_at dksX0_span_4 3 rfl rfl)
theorem dX0_span_100 : decode cX0_span 100 = .ok (.iload 6, 2) := dk_21 6 (dk_at dksX0_span_4 6 rfl rfl)
theorem dX0_span_102 : decode cX0_span 102 = .ok (.iaload, 1) := dk_46 (dk_at dksX0_span_4 8 rfl rfl)
theorem dX0_span_103 : decode cX0_span 103 = .ok (.invokestatic 275, 3) := dk_184 1 19 (dk_at dksX0_span_4 9 rfl rfl)
theorem dX0_span_106 : decode cX0_span 106 = .ok (.isub, 1) := dk_100 (dk_at dksX0_span_4 12 rfl rfl)
theorem dX0_span_107 : decode cX0_span 107 = .ok (.iload 4, 2) := dk_21 4 (dk_at dksX0_span_4 13 rfl rfl)
theorem dX0_span_109 : decode cX0_span 109 = .ok (.if_icmp .lt 6, 3) := dk_161 0 6 (dk_at dksX0_span_4 15 rfl rfl)
theorem dX0_span_112 : decode cX0_span 112 = .ok (.goto 34, 3) := dk_167 0 34 (dk_at dksX0_span_4 18 rfl rfl)
theorem dX0_span_115 : decode cX0_span 115 = .ok (.iload 6, 2) := dk_21 6 (dk_at dksX0_span_4 21 rfl rfl)
theorem dX0_span_117 : decode cX0_span 117 = .ok (.istore_n 3, 1) := dk_62 (dk_at dksX0_span_4 23 rfl rfl)
theorem dX0_span_118 : decode cX0_span 118 = .ok (.bipush 6, 2) := dk_16 6 (dk_at dksX0_span_5 0 rfl rfl)
theorem dX0_span_120 : decode cX0_span 120 = .ok (.aload_n 0, 1) := dk_42 (dk_at dksX0_span_5 2 rfl rfl)
theorem dX0_span_121 : decode cX0_span 121 = .ok (.getfield 59, 3) := dk_180 0 59 (dk_at dksX0_span_5 3 rfl rfl)
theorem dX0_span_124 : decode cX0_span 124 = .ok (.getfield 186, 3) := dk_180 0 186 (dk_at dksX0_span_5 6 rfl rfl)
theorem dX0_span_127 : decode cX0_span 127 = .ok (.iload 5, 2) := dk_21 5 (dk_at dksX0_span_5 9 rfl rfl)
theorem dX0_span_129 : decode cX0_span 129 = .ok (.iaload, 1) := dk_46 (dk_at dksX0_span_5 11 rfl rfl)
theorem dX0_span_130 : decode cX0_span 130 = .ok (.aload_n 0, 1) := dk_42 (dk_at dksX0_span_5 12 rfl rfl)
theorem dX0_span_131 : decode cX0_span 131 = .ok (.getfield 59, 3) := dk_180 0 59 (dk_at dksX0_span_5 13 rfl rfl)
theorem dX0_span_134 : decode cX0_span 134 = .ok (.getfield 186, 3) := dk_180 0 186 (dk_at dksX0_span_5 16 rfl rfl)
theorem dX0_span_137 : decode cX0_span 137 = .ok (.iload 6, 2) := dk_21 6 (dk_at dksX0_span_5 19 rfl rfl)
theorem dX0_span_139 : decode cX0_span 139 = .ok (.iaload, 1) := dk_46 (dk_at dksX0_span_5 21 rfl rfl)
theorem dX0_span_140 : decode cX0_span 140 = .ok (.invokestatic 275, 3) := dk_184 1 19 (dk_at dksX0_span_6 0 rfl rfl)
theorem dX0_span_143 : decode cX0_span 143 = .ok (.isub, 1) := dk_100 (dk_at dksX0_span_6 3 rfl rfl)
theorem dX0_span_144 : decode cX0_span 144 = .ok (.istore 4, 2) := dk_54 4 (dk_at dksX0_span_6 4 rfl rfl)
theorem dX0_span_146 : decode cX0_span 146 = .ok (.iinc 6 1, 3) := dk_132 6 1 (dk_at dksX0_span_6 6 rfl rfl)
theorem dX0_span_149 : decode cX0_span 149 = .ok (.goto (-106), 3) := dk_167 255 150 (dk_at dksX0_span_6 9 rfl rfl)
theorem dX0_span_152 : decode cX0_span 152 = .ok (.iinc 5 1, 3) := dk_132 5 1 (dk_at dksX0_span_6 12 rfl rfl)
theorem dX0_span_155 : decode cX0_span 155 = .ok (.goto (-122), 3) := dk_167 255 134 (dk_at dksX0_span_6 15 rfl rfl)
theorem dX0_span_158 : decode cX0_span 158 = .ok (.iload_n 1, 1) := dk_27 (dk_at dksX0_span_6 18 rfl rfl)
theorem dX0_span_159 : decode cX0_span 159 = .ok (.iconst 1, 1) := dk_4 (dk_at dksX0_span_6 19 rfl rfl)
theorem dX0_span_160 : decode cX0_span 160 = .ok (.iload_n 3, 1) := dk_29 (dk_at dksX0_span_6 20 rfl rfl)
theorem dX0_span_161 : decode cX0_span 161 = .ok (.ishl, 1) := dk_120 (dk_at dksX0_span_6 21 rfl rfl)
theorem dX0_span_162 : decode cX0_span 162 = .ok (.ior, 1) := dk_128 (dk_at dksX0_span_6 22 rfl rfl)
theorem dX0_span_163 : decode cX0_span 163 = .ok (.istore_n 1, 1) := dk_60 (dk_at dksX0_span_6 23 rfl rfl)
theorem dX0_span_164 : decode cX0_span 164 = .ok (.iload_n 2, 1) := dk_28 (dk_at dksX0_span_7 0 rfl rfl)
theorem dX0_span_165 : decode cX0_span 165 = .ok (.iload 4, 2) := dk_21 4 (dk_at dksX0_span_7 1 rfl rfl)
theorem dX0_span_167 : decode cX0_span 167 = .ok (.iadd, 1) := dk_96 (dk_at dksX0_span_7 3 rfl rfl)
theorem dX0_span_168 : decode cX0_span 168 = .ok (.istore_n 2, 1) := dk_61 (dk_at dksX0_span_7 4 rfl rfl)
theorem dX0_span_169 : decode cX0_span 169 = .ok (.goto (-156), 3) := dk_167 255 100 (dk_at dksX0_span_7 5 rfl rfl)
theorem dX0_span_172 : decode cX0_span 172 = .ok (.iload_n 2, 1) := dk_28 (dk_at dksX0_span_7 8 rfl rfl)
theorem dX0_span_173 : decode cX0_span 173 = .ok (.ireturn, 1) := dk_172 (dk_at dksX0_span_7 9 rfl rfl)
abbrev cX0_odd : ByteArray := prog_1_method_45_code
def yX0_odd : MethodName := ⟨RX0, "odd", "()I"⟩
def dkwX0_odd_2 : List UInt8 := [27, 172]
abbrev dktX0_odd_2 : List UInt8 := dkwX0_odd_2 ++ []
def dkwX0_odd_1 : List UInt8 := [155, 0, 16, 42, 28, 182, 1, 36, 42, 27, 182, 1, 36, 162, 0, 5, 28, 60, 132, 2, 1, 167, 255, 217]
abbrev dktX0_odd_1 : List UInt8 := dkwX0_odd_1 ++ dktX0_odd_2
def dkwX0_odd_0 : List UInt8 := [2, 60, 3, 61, 28, 16, 8, 162, 0, 39, 42, 180, 0, 59, 28, 182, 0, 158, 153, 0, 22, 27]
abbrev dktX0_odd_0 : List UInt8 := dkwX0_odd_0 ++ dktX0_odd_1
theorem dksX0_odd_0 : cX0_odd.data.toList.drop 0 = dktX0_odd_0 := by decide +kernel
theorem dksX0_odd_1 : cX0_odd.data.toList.drop 22 = dktX0_odd_1 := dk_seg dksX0_odd_0 22 rfl rfl
theorem dksX0_odd_2 : cX0_odd.data.toList.drop 46 = dktX0_odd_2 := dk_seg dksX0_odd_1 24 rfl rfl
theorem dX0_odd_0 : decode cX0_odd 0 = .ok (.iconst (-1), 1) := dk_2 (dk_at dksX0_odd_0 0 rfl rfl)
theorem dX0_odd_1 : decode cX0_odd 1 = .ok (.istore_n 1, 1) := dk_60 (dk_at dksX0_odd_0 1 rfl rfl)
theorem dX0_odd_2 : decode cX0_odd 2 = .ok (.iconst 0, 1) := dk_3 (dk_at dksX0_odd_0 2 rfl rfl)
theorem dX0_odd_3 : decode cX0_odd 3 = .ok (.istore_n 2, 1) := dk_61 (dk_at dksX0_odd_0 3 rfl rfl)
theorem dX0_odd_4 : decode cX0_odd 4 = .ok (.iload_n 2, 1) := dk_28 (dk_at dksX0_odd_0 4 rfl rfl)
theorem dX0_odd_5 : decode cX0_odd 5 = .ok (.bipush 8, 2) := dk_16 8 (dk_at dksX0_odd_0 5 rfl rfl)
theorem dX0_odd_7 : decode cX0_odd 7 = .ok (.if_icmp .ge 39, 3) := dk_162 0 39 (dk_at dksX0_odd_0 7 rfl rfl)
theorem dX0_odd_10 : decode cX0_odd 10 = .ok (.aload_n 0, 1) := dk_42 (dk_at dksX0_odd_0 10 rfl rfl)
theorem dX0_odd_11 : decode cX0_odd 11 = .ok (.getfield 59, 3) := dk_180 0 59 (dk_at dksX0_odd_0 11 rfl rfl)
theorem dX0_odd_14 : decode cX0_odd 14 = .ok (.iload_n 2, 1) := dk_28 (dk_at dksX0_odd_0 14 rfl rfl)
theorem dX0_odd_15 : decode cX0_odd 15 = .ok (.invokevirtual 158, 3) := dk_182 0 158 (dk_at dksX0_odd_0 15 rfl rfl)
theorem dX0_odd_18 : decode cX0_odd 18 = .ok (.ifCond .eq 22, 3) := dk_153 0 22 (dk_at dksX0_odd_0 18 rfl rfl)
theorem dX0_odd_21 : decode cX0_odd 21 = .ok (.iload_n 1, 1) := dk_27 (dk_at dksX0_odd_0 21 rfl rfl)
theorem dX0_odd_22 : decode cX0_odd 22 = .ok (.ifCond .lt 16, 3) := dk_155 0 16 (dk_at dksX0_odd_1 0 rfl rfl)
theorem dX0_odd_25 : decode cX0_odd 25 = .ok (.aload_n 0, 1) := dk_42 (dk_at dksX0_odd_1 3 rfl rfl)
theorem dX0_odd_26 : decode cX0_odd 26 = .ok (.iload_n 2, 1) := dk_28 (dk_at dksX0_odd_1 4 rfl rfl)
theorem dX0_odd_27 : decode cX0_odd 27 = .ok (.invokevirtual 292, 3) := dk_182 1 36 (dk_at dksX0_odd_1 5 rfl rfl)
theorem dX0_odd_30 : decode cX0_odd 30 = .ok (.aload_n 0, 1) := dk_42 (dk_at dksX0_odd_1 8 rfl rfl)
theorem dX0_odd_31 : decode cX0_odd 31 = .ok (.iload_n 1, 1) := dk_27 (dk_at dksX0_odd_1 9 rfl rfl)
theorem dX0_odd_32 : decode cX0_odd 32 = .ok (.invokevirtual 292, 3) := dk_182 1 36 (dk_at dksX0_odd_1 10 rfl rfl)
theorem dX0_odd_35 : decode cX0_odd 35 = .ok (.if_icmp .ge 5, 3) := dk_162 0 5 (dk_at dksX0_odd_1 13 rfl rfl)
theorem dX0_odd_38 : decode cX0_odd 38 = .ok (.iload_n 2, 1) := dk_28 (dk_at dksX0_odd_1 16 rfl rfl)
theorem dX0_odd_39 : decode cX0_odd 39 = .ok (.istore_n 1, 1) := dk_60 (dk_at dksX0_odd_1 17 rfl rfl)
theorem dX0_odd_40 : decode cX0_odd 40 = .ok (.iinc 2 1, 3) := dk_132 2 1 (dk_at dksX0_odd_1 18 rfl rfl)
theorem dX0_odd_43 : decode cX0_odd 43 = .ok (.goto (-39), 3) := dk_167 255 217 (dk_at dksX0_odd_1 21 rfl rfl)
theorem dX0_odd_46 : decode cX0_odd 46 = .ok (.iload_n 1, 1) := dk_27 (dk_at dksX0_odd_2 0 rfl rfl)
theorem dX0_odd_47 : decode cX0_odd 47 = .ok (.ireturn, 1) := dk_172 (dk_at dksX0_odd_2 1 rfl rfl)
abbrev cX0_sharedWithAll : ByteArray := prog_1_method_44_code
def yX0_sharedWithAll : MethodName := ⟨RX0, "sharedWithAll", "(I)I"⟩
def dkwX0_sharedWithAll_2 : List UInt8 := [167, 0, 4, 3, 96, 61, 132, 3, 1, 167, 255, 203, 28, 172]
abbrev dktX0_sharedWithAll_2 : List UInt8 := dkwX0_sharedWithAll_2 ++ []
def dkwX0_sharedWithAll_1 : List UInt8 := [153, 0, 27, 42, 180, 0, 59, 180, 0, 186, 27, 46, 42, 180, 0, 59, 180, 0, 186, 29, 46, 184, 1, 19]
abbrev dktX0_sharedWithAll_1 : List UInt8 := dkwX0_sharedWithAll_1 ++ dktX0_sharedWithAll_2
def dkwX0_sharedWithAll_0 : List UInt8 := [3, 61, 3, 62, 29, 16, 8, 162, 0, 53, 28, 29, 27, 159, 0, 38, 42, 180, 0, 59, 29, 182, 0, 158]
abbrev dktX0_sharedWithAll_0 : List UInt8 := dkwX0_sharedWithAll_0 ++ dktX0_sharedWithAll_1
theorem dksX0_sharedWithAll_0 : cX0_sharedWithAll.data.toList.drop 0 = dktX0_sharedWithAll_0 := by decide +kernel
theorem dksX0_sharedWithAll_1 : cX0_sharedWithAll.data.toList.drop 24 = dktX0_sharedWithAll_1 := dk_seg dksX0_sharedWithAll_0 24 rfl rfl
theorem dksX0_sharedWithAll_2 : cX0_sharedWithAll.data.toList.drop 48 = dktX0_sharedWithAll_2 := dk_seg dksX0_sharedWithAll_1 24 rfl rfl
theorem dX0_sharedWithAll_0 : decode cX0_sharedWithAll 0 = .ok (.iconst 0, 1) := dk_3 (dk_at dksX0_sharedWithAll_0 0 rfl rfl)
theorem dX0_sharedWithAll_1 : decode cX0_sharedWithAll 1 = .ok (.istore_n 2, 1) := dk_61 (dk_at dksX0_sharedWithAll_0 1 rfl rfl)
theorem dX0_sharedWithAll_2 : decode cX0_sharedWithAll 2 = .ok (.iconst 0, 1) := dk_3 (dk_at dksX0_sharedWithAll_0 2 rfl rfl)
theorem dX0_sharedWithAll_3 : decode cX0_sharedWithAll 3 = .ok (.istore_n 3, 1) := dk_62 (dk_at dksX0_sharedWithAll_0 3 rfl rfl)
theorem dX0_sharedWithAll_4 : decode cX0_sharedWithAll 4 = .ok (.iload_n 3, 1) := dk_29 (dk_at dksX0_sharedWithAll_0 4 rfl rfl)
theorem dX0_sharedWithAll_5 : decode cX0_sharedWithAll 5 = .ok (.bipush 8, 2) := dk_16 8 (dk_at dksX0_sharedWithAll_0 5 rfl rfl)
theorem dX0_sharedWithAll_7 : decode cX0_sharedWithAll 7 = .ok (.if_icmp .ge 53, 3) := dk_162 0 53 (dk_at dksX0_sharedWithAll_0 7 rfl rfl)
theorem dX0_sharedWithAll_10 : decode cX0_sharedWithAll 10 = .ok (.iload_n 2, 1) := dk_28 (dk_at dksX0_sharedWithAll_0 10 rfl rfl)
theorem dX0_sharedWithAll_11 : decode cX0_sharedWithAll 11 = .ok (.iload_n 3, 1) := dk_29 (dk_at dksX0_sharedWithAll_0 11 rfl rfl)
theorem dX0_sharedWithAll_12 : decode cX0_sharedWithAll 12 = .ok (.iload_n 1, 1) := dk_27 (dk_at dksX0_sharedWithAll_0 12 rfl rfl)
theorem dX0_sharedWithAll_13 : decode cX0_sharedWithAll 13 = .ok (.if_icmp .eq 38, 3) := dk_159 0 38 (dk_at dksX0_sharedWithAll_0 13 rfl rfl)
theorem dX0_sharedWithAll_16 : decode cX0_sharedWithAll 16 = .ok (.aload_n 0, 1) := dk_42 (dk_at dksX0_sharedWithAll_0 16 rfl rfl)
theorem dX0_sharedWithAll_17 : decode cX0_sharedWithAll 17 = .ok (.getfield 59, 3) := dk_180 0 59 (dk_at dksX0_sharedWithAll_0 17 rfl rfl)
theorem dX0_sharedWithAll_20 : decode cX0_sharedWithAll 20 = .ok (.iload_n 3, 1) := dk_29 (dk_at dksX0_sharedWithAll_0 20 rfl rfl)
theorem dX0_sharedWithAll_21 : decode cX0_sharedWithAll 21 = .ok (.invokevirtual 158, 3) := dk_182 0 158 (dk_at dksX0_sharedWithAll_0 21 rfl rfl)
theorem dX0_sharedWithAll_24 : decode cX0_sharedWithAll 24 = .ok (.ifCond .eq 27, 3) := dk_153 0 27 (dk_at dksX0_sharedWithAll_1 0 rfl rfl)
theorem dX0_sharedWithAll_27 : decode cX0_sharedWithAll 27 = .ok (.aload_n 0, 1) := dk_42 (dk_at dksX0_sharedWithAll_1 3 rfl rfl)
theorem dX0_sharedWithAll_28 : decode cX0_sharedWithAll 28 = .ok (.getfield 59, 3) := dk_180 0 59 (dk_at dksX0_sharedWithAll_1 4 rfl rfl)
theorem dX0_sharedWithAll_31 : decode cX0_sharedWithAll 31 = .ok (.getfield 186, 3) := dk_180 0 186 (dk_at dksX0_sharedWithAll_1 7 rfl rfl)
theorem dX0_sharedWithAll_34 : decode cX0_sharedWithAll 34 = .ok (.iload_n 1, 1) := dk_27 (dk_at dksX0_sharedWithAll_1 10 rfl rfl)
theorem dX0_sharedWithAll_35 : decode cX0_sharedWithAll 35 = .ok (.iaload, 1) := dk_46 (dk_at dksX0_sharedWithAll_1 11 rfl rfl)
theorem dX0_sharedWithAll_36 : decode cX0_sharedWithAll 36 = .ok (.aload_n 0, 1) := dk_42 (dk_at dksX0_sharedWithAll_1 12 rfl rfl)
theorem dX0_sharedWithAll_37 : decode cX0_sharedWithAll 37 = .ok (.getfield 59, 3) := dk_180 0 59 (dk_at dksX0_sharedWithAll_1 13 rfl rfl)
theorem dX0_sharedWithAll_40 : decode cX0_sharedWithAll 40 = .ok (.getfield 186, 3) := dk_180 0 186 (dk_at dksX0_sharedWithAll_1 16 rfl rfl)
theorem dX0_sharedWithAll_43 : decode cX0_sharedWithAll 43 = .ok (.iload_n 3, 1) := dk_29 (dk_at dksX0_sharedWithAll_1 19 rfl rfl)
theorem dX0_sharedWithAll_44 : decode cX0_sharedWithAll 44 = .ok (.iaload, 1) := dk_46 (dk_at dksX0_sharedWithAll_1 20 rfl rfl)
theorem dX0_sharedWithAll_45 : decode cX0_sharedWithAll 45 = .ok (.invokestatic 275, 3) := dk_184 1 19 (dk_at dksX0_sharedWithAll_1 21 rfl rfl)
theorem dX0_sharedWithAll_48 : decode cX0_sharedWithAll 48 = .ok (.goto 4, 3) := dk_167 0 4 (dk_at dksX0_sharedWithAll_2 0 rfl rfl)
theorem dX0_sharedWithAll_51 : decode cX0_sharedWithAll 51 = .ok (.iconst 0, 1) := dk_3 (dk_at dksX0_sharedWithAll_2 3 rfl rfl)
theorem dX0_sharedWithAll_52 : decode cX0_sharedWithAll 52 = .ok (.iadd, 1) := dk_96 (dk_at dksX0_sharedWithAll_2 4 rfl rfl)
theorem dX0_sharedWithAll_53 : decode cX0_sharedWithAll 53 = .ok (.istore_n 2, 1) := dk_61 (dk_at dksX0_sharedWithAll_2 5 rfl rfl)
theorem dX0_sharedWithAll_54 : decode cX0_sharedWithAll 54 = .ok (.iinc 3 1, 3) := dk_132 3 1 (dk_at dksX0_sharedWithAll_2 6 rfl rfl)
theorem dX0_sharedWithAll_57 : decode cX0_sharedWithAll 57 = .ok (.goto (-53), 3) := dk_167 255 203 (dk_at dksX0_sharedWithAll_2 9 rfl rfl)
theorem dX0_sharedWithAll_60 : decode cX0_sharedWithAll 60 = .ok (.iload_n 2, 1) := dk_28 (dk_at dksX0_sharedWithAll_2 12 rfl rfl)
theorem dX0_sharedWithAll_61 : decode cX0_sharedWithAll 61 = .ok (.ireturn, 1) := dk_172 (dk_at dksX0_sharedWithAll_2 13 rfl rfl)
abbrev cX0_like : ByteArray := prog_1_method_46_code
def yX0_like : MethodName := ⟨RX0, "like", "(I)I"⟩
def dkwX0_like_2 : List UInt8 := [42, 27, 28, 182, 1, 39, 164, 0, 5, 29, 61, 132, 3, 1, 167, 255, 210, 28, 172]
abbrev dktX0_like_2 : List UInt8 := dkwX0_like_2 ++ []
def dkwX0_like_1 : List UInt8 := [159, 0, 35, 42, 180, 0, 59, 29, 182, 0, 158, 153, 0, 24, 28, 155, 0, 18, 42, 27, 29, 182, 1, 39]
abbrev dktX0_like_1 : List UInt8 := dkwX0_like_1 ++ dktX0_like_2
def dkwX0_like_0 : List UInt8 := [42, 27, 182, 0, 177, 154, 0, 5, 2, 172, 2, 61, 3, 62, 29, 16, 8, 162, 0, 46, 29, 27]
abbrev dktX0_like_0 : List UInt8 := dkwX0_like_0 ++ dktX0_like_1
theorem dksX0_like_0 : cX0_like.data.toList.drop 0 = dktX0_like_0 := by decide +kernel
theorem dksX0_like_1 : cX0_like.data.toList.drop 22 = dktX0_like_1 := dk_seg dksX0_like_0 22 rfl rfl
theorem dksX0_like_2 : cX0_like.data.toList.drop 46 = dktX0_like_2 := dk_seg dksX0_like_1 24 rfl rfl
theorem dX0_like_0 : decode cX0_like 0 = .ok (.aload_n 0, 1) := dk_42 (dk_at dksX0_like_0 0 rfl rfl)
theorem dX0_like_1 : decode cX0_like 1 = .ok (.iload_n 1, 1) := dk_27 (dk_at dksX0_like_0 1 rfl rfl)
theorem dX0_like_2 : decode cX0_like 2 = .ok (.invokevirtual 177, 3) := dk_182 0 177 (dk_at dksX0_like_0 2 rfl rfl)
theorem dX0_like_5 : decode cX0_like 5 = .ok (.ifCond .ne 5, 3) := dk_154 0 5 (dk_at dksX0_like_0 5 rfl rfl)
theorem dX0_like_8 : decode cX0_like 8 = .ok (.iconst (-1), 1) := dk_2 (dk_at dksX0_like_0 8 rfl rfl)
theorem dX0_like_9 : decode cX0_like 9 = .ok (.ireturn, 1) := dk_172 (dk_at dksX0_like_0 9 rfl rfl)
theorem dX0_like_10 : decode cX0_like 10 = .ok (.iconst (-1), 1) := dk_2 (dk_at dksX0_like_0 10 rfl rfl)
theorem dX0_like_11 : decode cX0_like 11 = .ok (.istore_n 2, 1) := dk_61 (dk_at dksX0_like_0 11 rfl rfl)
theorem dX0_like_12 : decode cX0_like 12 = .ok (.iconst 0, 1) := dk_3 (dk_at dksX0_like_0 12 rfl rfl)
theorem dX0_like_13 : decode cX0_like 13 = .ok (.istore_n 3, 1) := dk_62 (dk_at dksX0_like_0 13 rfl rfl)
theorem dX0_like_14 : decode cX0_like 14 = .ok (.iload_n 3, 1) := dk_29 (dk_at dksX0_like_0 14 rfl rfl)
theorem dX0_like_15 : decode cX0_like 15 = .ok (.bipush 8, 2) := dk_16 8 (dk_at dksX0_like_0 15 rfl rfl)
theorem dX0_like_17 : decode cX0_like 17 = .ok (.if_icmp .ge 46, 3) := dk_162 0 46 (dk_at dksX0_like_0 17 rfl rfl)
theorem dX0_like_20 : decode cX0_like 20 = .ok (.iload_n 3, 1) := dk_29 (dk_at dksX0_like_0 20 rfl rfl)
theorem dX0_like_21 : decode cX0_like 21 = .ok (.iload_n 1, 1) := dk_27 (dk_at dksX0_like_0 21 rfl rfl)
theorem dX0_like_22 : decode cX0_like 22 = .ok (.if_icmp .eq 35, 3) := dk_159 0 35 (dk_at dksX0_like_1 0 rfl rfl)
theorem dX0_like_25 : decode cX0_like 25 = .ok (.aload_n 0, 1) := dk_42 (dk_at dksX0_like_1 3 rfl rfl)
theorem dX0_like_26 : decode cX0_like 26 = .ok (.getfield 59, 3) := dk_180 0 59 (dk_at dksX0_like_1 4 rfl rfl)
theorem dX0_like_29 : decode cX0_like 29 = .ok (.iload_n 3, 1) := dk_29 (dk_at dksX0_like_1 7 rfl rfl)
theorem dX0_like_30 : decode cX0_like 30 = .ok (.invokevirtual 158, 3) := dk_182 0 158 (dk_at dksX0_like_1 8 rfl rfl)
theorem dX0_like_33 : decode cX0_like 33 = .ok (.ifCond .eq 24, 3) := dk_153 0 24 (dk_at dksX0_like_1 11 rfl rfl)
theorem dX0_like_36 : decode cX0_like 36 = .ok (.iload_n 2, 1) := dk_28 (dk_at dksX0_like_1 14 rfl rfl)
theorem dX0_like_37 : decode cX0_like 37 = .ok (.ifCond .lt 18, 3) := dk_155 0 18 (dk_at dksX0_like_1 15 rfl rfl)
theorem dX0_like_40 : decode cX0_like 40 = .ok (.aload_n 0, 1) := dk_42 (dk_at dksX0_like_1 18 rfl rfl)
theorem dX0_like_41 : decode cX0_like 41 = .ok (.iload_n 1, 1) := dk_27 (dk_at dksX0_like_1 19 rfl rfl)
theorem dX0_like_42 : decode cX0_like 42 = .ok (.iload_n 3, 1) := dk_29 (dk_at dksX0_like_1 20 rfl rfl)
theorem dX0_like_43 : decode cX0_like 43 = .ok (.invokevirtual 295, 3) := dk_182 1 39 (dk_at dksX0_like_1 21 rfl rfl)
theorem dX0_like_46 : decode cX0_like 46 = .ok (.aload_n 0, 1) := dk_42 (dk_at dksX0_like_2 0 rfl rfl)
theorem dX0_like_47 : decode cX0_like 47 = .ok (.iload_n 1, 1) := dk_27 (dk_at dksX0_like_2 1 rfl rfl)
theorem dX0_like_48 : decode cX0_like 48 = .ok (.iload_n 2, 1) := dk_28 (dk_at dksX0_like_2 2 rfl rfl)
theorem dX0_like_49 : decode cX0_like 49 = .ok (.invokevirtual 295, 3) := dk_182 1 39 (dk_at dksX0_like_2 3 rfl rfl)
theorem dX0_like_52 : decode cX0_like 52 = .ok (.if_icmp .le 5, 3) := dk_164 0 5 (dk_at dksX0_like_2 6 rfl rfl)
theorem dX0_like_55 : decode cX0_like 55 = .ok (.iload_n 3, 1) := dk_29 (dk_at dksX0_like_2 9 rfl rfl)
theorem dX0_like_56 : decode cX0_like 56 = .ok (.istore_n 2, 1) := dk_61 (dk_at dksX0_like_2 10 rfl rfl)
theorem dX0_like_57 : decode cX0_like 57 = .ok (.iinc 3 1, 3) := dk_132 3 1 (dk_at dksX0_like_2 11 rfl rfl)
theorem dX0_like_60 : decode cX0_like 60 = .ok (.goto (-46), 3) := dk_167 255 210 (dk_at dksX0_like_2 14 rfl rfl)
theorem dX0_like_63 : decode cX0_like 63 = .ok (.iload_n 2, 1) := dk_28 (dk_at dksX0_like_2 17 rfl rfl)
theorem dX0_like_64 : decode cX0_like 64 = .ok (.ireturn, 1) := dk_172 (dk_at dksX0_like_2 18 rfl rfl)
abbrev cX0_bearers : ByteArray := prog_1_method_47_code
def yX0_bearers : MethodName := ⟨RX0, "bearers", "(I)I"⟩
def dkwX0_bearers_2 : List UInt8 := [167, 0, 4, 3, 96, 61, 132, 3, 1, 167, 255, 216, 28, 172]
abbrev dktX0_bearers_2 : List UInt8 := dkwX0_bearers_2 ++ []
def dkwX0_bearers_1 : List UInt8 := [180, 0, 59, 29, 182, 0, 158, 153, 0, 19, 42, 180, 0, 59, 180, 0, 186, 29, 46, 27, 122, 4, 126]
abbrev dktX0_bearers_1 : List UInt8 := dkwX0_bearers_1 ++ dktX0_bearers_2
def dkwX0_bearers_0 : List UInt8 := [27, 3, 8, 184, 0, 154, 154, 0, 5, 2, 172, 3, 61, 3, 62, 29, 16, 8, 162, 0, 40, 28, 42]
abbrev dktX0_bearers_0 : List UInt8 := dkwX0_bearers_0 ++ dktX0_bearers_1
theorem dksX0_bearers_0 : cX0_bearers.data.toList.drop 0 = dktX0_bearers_0 := by decide +kernel
theorem dksX0_bearers_1 : cX0_bearers.data.toList.drop 23 = dktX0_bearers_1 := dk_seg dksX0_bearers_0 23 rfl rfl
theorem dksX0_bearers_2 : cX0_bearers.data.toList.drop 46 = dktX0_bearers_2 := dk_seg dksX0_bearers_1 23 rfl rfl
theorem dX0_bearers_0 : decode cX0_bearers 0 = .ok (.iload_n 1, 1) := dk_27 (dk_at dksX0_bearers_0 0 rfl rfl)
theorem dX0_bearers_1 : decode cX0_bearers 1 = .ok (.iconst 0, 1) := dk_3 (dk_at dksX0_bearers_0 1 rfl rfl)
theorem dX0_bearers_2 : decode cX0_bearers 2 = .ok (.iconst 5, 1) := dk_8 (dk_at dksX0_bearers_0 2 rfl rfl)
theorem dX0_bearers_3 : decode cX0_bearers 3 = .ok (.invokestatic 154, 3) := dk_184 0 154 (dk_at dksX0_bearers_0 3 rfl rfl)
theorem dX0_bearers_6 : decode cX0_bearers 6 = .ok (.ifCond .ne 5, 3) := dk_154 0 5 (dk_at dksX0_bearers_0 6 rfl rfl)
theorem dX0_bearers_9 : decode cX0_bearers 9 = .ok (.iconst (-1), 1) := dk_2 (dk_at dksX0_bearers_0 9 rfl rfl)
theorem dX0_bearers_10 : decode cX0_bearers 10 = .ok (.ireturn, 1) := dk_172 (dk_at dksX0_bearers_0 10 rfl rfl)
theorem dX0_bearers_11 : decode cX0_bearers 11 = .ok (.iconst 0, 1) := dk_3 (dk_at dksX0_bearers_0 11 rfl rfl)
theorem dX0_bearers_12 : decode cX0_bearers 12 = .ok (.istore_n 2, 1) := dk_61 (dk_at dksX0_bearers_0 12 rfl rfl)
theorem dX0_bearers_13 : decode cX0_bearers 13 = .ok (.iconst 0, 1) := dk_3 (dk_at dksX0_bearers_0 13 rfl rfl)
theorem dX0_bearers_14 : decode cX0_bearers 14 = .ok (.istore_n 3, 1) := dk_62 (dk_at dksX0_bearers_0 14 rfl rfl)
theorem dX0_bearers_15 : decode cX0_bearers 15 = .ok (.iload_n 3, 1) := dk_29 (dk_at dksX0_bearers_0 15 rfl rfl)
theorem dX0_bearers_16 : decode cX0_bearers 16 = .ok (.bipush 8, 2) := dk_16 8 (dk_at dksX0_bearers_0 16 rfl rfl)
theorem dX0_bearers_18 : decode cX0_bearers 18 = .ok (.if_icmp .ge 40, 3) := dk_162 0 40 (dk_at dksX0_bearers_0 18 rfl rfl)
theorem dX0_bearers_21 : decode cX0_bearers 21 = .ok (.iload_n 2, 1) := dk_28 (dk_at dksX0_bearers_0 21 rfl rfl)
theorem dX0_bearers_22 : decode cX0_bearers 22 = .ok (.aload_n 0, 1) := dk_42 (dk_at dksX0_bearers_0 22 rfl rfl)
theorem dX0_bearers_23 : decode cX0_bearers 23 = .ok (.getfield 59, 3) := dk_180 0 59 (dk_at dksX0_bearers_1 0 rfl rfl)
theorem dX0_bearers_26 : decode cX0_bearers 26 = .ok (.iload_n 3, 1) := dk_29 (dk_at dksX0_bearers_1 3 rfl rfl)
theorem dX0_bearers_27 : decode cX0_bearers 27 = .ok (.invokevirtual 158, 3) := dk_182 0 158 (dk_at dksX0_bearers_1 4 rfl rfl)
theorem dX0_bearers_30 : decode cX0_bearers 30 = .ok (.ifCond .eq 19, 3) := dk_153 0 19 (dk_at dksX0_bearers_1 7 rfl rfl)
theorem dX0_bearers_33 : decode cX0_bearers 33 = .ok (.aload_n 0, 1) := dk_42 (dk_at dksX0_bearers_1 10 rfl rfl)
theorem dX0_bearers_34 : decode cX0_bearers 34 = .ok (.getfield 59, 3) := dk_180 0 59 (dk_at dksX0_bearers_1 11 rfl rfl)
theorem dX0_bearers_37 : decode cX0_bearers 37 = .ok (.getfield 186, 3) := dk_180 0 186 (dk_at dksX0_bearers_1 14 rfl rfl)
theorem dX0_bearers_40 : decode cX0_bearers 40 = .ok (.iload_n 3, 1) := dk_29 (dk_at dksX0_bearers_1 17 rfl rfl)
theorem dX0_bearers_41 : decode cX0_bearers 41 = .ok (.iaload, 1) := dk_46 (dk_at dksX0_bearers_1 18 rfl rfl)
theorem dX0_bearers_42 : decode cX0_bearers 42 = .ok (.iload_n 1, 1) := dk_27 (dk_at dksX0_bearers_1 19 rfl rfl)
theorem dX0_bearers_43 : decode cX0_bearers 43 = .ok (.ishr, 1) := dk_122 (dk_at dksX0_bearers_1 20 rfl rfl)
theorem dX0_bearers_44 : decode cX0_bearers 44 = .ok (.iconst 1, 1) := dk_4 (dk_at dksX0_bearers_1 21 rfl rfl)
theorem dX0_bearers_45 : decode cX0_bearers 45 = .ok (.iand, 1) := dk_126 (dk_at dksX0_bearers_1 22 rfl rfl)
theorem dX0_bearers_46 : decode cX0_bearers 46 = .ok (.goto 4, 3) := dk_167 0 4 (dk_at dksX0_bearers_2 0 rfl rfl)
theorem dX0_bearers_49 : decode cX0_bearers 49 = .ok (.iconst 0, 1) := dk_3 (dk_at dksX0_bearers_2 3 rfl rfl)
theorem dX0_bearers_50 : decode cX0_bearers 50 = .ok (.iadd, 1) := dk_96 (dk_at dksX0_bearers_2 4 rfl rfl)
theorem dX0_bearers_51 : decode cX0_bearers 51 = .ok (.istore_n 2, 1) := dk_61 (dk_at dksX0_bearers_2 5 rfl rfl)
theorem dX0_bearers_52 : decode cX0_bearers 52 = .ok (.iinc 3 1, 3) := dk_132 3 1 (dk_at dksX0_bearers_2 6 rfl rfl)
theorem dX0_bearers_55 : decode cX0_bearers 55 = .ok (.goto (-40), 3) := dk_167 255 216 (dk_at dksX0_bearers_2 9 rfl rfl)
theorem dX0_bearers_58 : decode cX0_bearers 58 = .ok (.iload_n 2, 1) := dk_28 (dk_at dksX0_bearers_2 12 rfl rfl)
theorem dX0_bearers_59 : decode cX0_bearers 59 = .ok (.ireturn, 1) := dk_172 (dk_at dksX0_bearers_2 13 rfl rfl)
abbrev cX0_roomiest : ByteArray := prog_1_method_48_code
def yX0_roomiest : MethodName := ⟨RX0, "roomiest", "()I"⟩
def dkwX0_roomiest_2 : List UInt8 := [60, 132, 2, 1, 167, 255, 208, 27, 172]
abbrev dktX0_roomiest_2 : List UInt8 := dkwX0_roomiest_2 ++ []
def dkwX0_roomiest_1 : List UInt8 := [28, 182, 0, 170, 42, 180, 0, 59, 42, 180, 0, 48, 27, 182, 0, 170, 164, 0, 7, 28, 167, 0, 4, 27]
abbrev dktX0_roomiest_1 : List UInt8 := dkwX0_roomiest_1 ++ dktX0_roomiest_2
def dkwX0_roomiest_0 : List UInt8 := [2, 60, 3, 61, 28, 42, 182, 0, 152, 162, 0, 46, 27, 155, 0, 30, 42, 180, 0, 59, 42, 180, 0, 48]
abbrev dktX0_roomiest_0 : List UInt8 := dkwX0_roomiest_0 ++ dktX0_roomiest_1
theorem dksX0_roomiest_0 : cX0_roomiest.data.toList.drop 0 = dktX0_roomiest_0 := by decide +kernel
theorem dksX0_roomiest_1 : cX0_roomiest.data.toList.drop 24 = dktX0_roomiest_1 := dk_seg dksX0_roomiest_0 24 rfl rfl
theorem dksX0_roomiest_2 : cX0_roomiest.data.toList.drop 48 = dktX0_roomiest_2 := dk_seg dksX0_roomiest_1 24 rfl rfl
theorem dX0_roomiest_0 : decode cX0_roomiest 0 = .ok (.iconst (-1), 1) := dk_2 (dk_at dksX0_roomiest_0 0 rfl rfl)
theorem dX0_roomiest_1 : decode cX0_roomiest 1 = .ok (.istore_n 1, 1) := dk_60 (dk_at dksX0_roomiest_0 1 rfl rfl)
theorem dX0_roomiest_2 : decode cX0_roomiest 2 = .ok (.iconst 0, 1) := dk_3 (dk_at dksX0_roomiest_0 2 rfl rfl)
theorem dX0_roomiest_3 : decode cX0_roomiest 3 = .ok (.istore_n 2, 1) := dk_61 (dk_at dksX0_roomiest_0 3 rfl rfl)
theorem dX0_roomiest_4 : decode cX0_roomiest 4 = .ok (.iload_n 2, 1) := dk_28 (dk_at dksX0_roomiest_0 4 rfl rfl)
theorem dX0_roomiest_5 : decode cX0_roomiest 5 = .ok (.aload_n 0, 1) := dk_42 (dk_at dksX0_roomiest_0 5 rfl rfl)
theorem dX0_roomiest_6 : decode cX0_roomiest 6 = .ok (.invokevirtual 152, 3) := dk_182 0 152 (dk_at dksX0_roomiest_0 6 rfl rfl)
theorem dX0_roomiest_9 : decode cX0_roomiest 9 = .ok (.if_icmp .ge 46, 3) := dk_162 0 46 (dk_at dksX0_roomiest_0 9 rfl rfl)
theorem dX0_roomiest_12 : decode cX0_roomiest 12 = .ok (.iload_n 1, 1) := dk_27 (dk_at dksX0_roomiest_0 12 rfl rfl)
theorem dX0_roomiest_13 : decode cX0_roomiest 13 = .ok (.ifCond .lt 30, 3) := dk_155 0 30 (dk_at dksX0_roomiest_0 13 rfl rfl)
theorem dX0_roomiest_16 : decode cX0_roomiest 16 = .ok (.aload_n 0, 1) := dk_42 (dk_at dksX0_roomiest_0 16 rfl rfl)
theorem dX0_roomiest_17 : decode cX0_roomiest 17 = .ok (.getfield 59, 3) := dk_180 0 59 (dk_at dksX0_roomiest_0 17 rfl rfl)
theorem dX0_roomiest_20 : decode cX0_roomiest 20 = .ok (.aload_n 0, 1) := dk_42 (dk_at dksX0_roomiest_0 20 rfl rfl)
theorem dX0_roomiest_21 : decode cX0_roomiest 21 = .ok (.getfield 48, 3) := dk_180 0 48 (dk_at dksX0_roomiest_0 21 rfl rfl)
theorem dX0_roomiest_24 : decode cX0_roomiest 24 = .ok (.iload_n 2, 1) := dk_28 (dk_at dksX0_roomiest_1 0 rfl rfl)
theorem dX0_roomiest_25 : decode cX0_roomiest 25 = .ok (.invokevirtual 170, 3) := dk_182 0 170 (dk_at dksX0_roomiest_1 1 rfl rfl)
theorem dX0_roomiest_28 : decode cX0_roomiest 28 = .ok (.aload_n 0, 1) := dk_42 (dk_at dksX0_roomiest_1 4 rfl rfl)
theorem dX0_roomiest_29 : decode cX0_roomiest 29 = .ok (.getfield 59, 3) := dk_180 0 59 (dk_at dksX0_roomiest_1 5 rfl rfl)
theorem dX0_roomiest_32 : decode cX0_roomiest 32 = .ok (.aload_n 0, 1) := dk_42 (dk_at dksX0_roomiest_1 8 rfl rfl)
theorem dX0_roomiest_33 : decode cX0_roomiest 33 = .ok (.getfield 48, 3) := dk_180 0 48 (dk_at dksX0_roomiest_1 9 rfl rfl)
theorem dX0_roomiest_36 : decode cX0_roomiest 36 = .ok (.iload_n 1, 1) := dk_27 (dk_at dksX0_roomiest_1 12 rfl rfl)
theorem dX0_roomiest_37 : decode cX0_roomiest 37 = .ok (.invokevirtual 170, 3) := dk_182 0 170 (dk_at dksX0_roomiest_1 13 rfl rfl)
theorem dX0_roomiest_40 : decode cX0_roomiest 40 = .ok (.if_icmp .le 7, 3) := dk_164 0 7 (dk_at dksX0_roomiest_1 16 rfl rfl)
theorem dX0_roomiest_43 : decode cX0_roomiest 43 = .ok (.iload_n 2, 1) := dk_28 (dk_at dksX0_roomiest_1 19 rfl rfl)
theorem dX0_roomiest_44 : decode cX0_roomiest 44 = .ok (.goto 4, 3) := dk_167 0 4 (dk_at dksX0_roomiest_1 20 rfl rfl)
theorem dX0_roomiest_47 : decode cX0_roomiest 47 = .ok (.iload_n 1, 1) := dk_27 (dk_at dksX0_roomiest_1 23 rfl rfl)
theorem dX0_roomiest_48 : decode cX0_roomiest 48 = .ok (.istore_n 1, 1) := dk_60 (dk_at dksX0_roomiest_2 0 rfl rfl)
theorem dX0_roomiest_49 : decode cX0_roomiest 49 = .ok (.iinc 2 1, 3) := dk_132 2 1 (dk_at dksX0_roomiest_2 1 rfl rfl)
theorem dX0_roomiest_52 : decode cX0_roomiest 52 = .ok (.goto (-48), 3) := dk_167 255 208 (dk_at dksX0_roomiest_2 4 rfl rfl)
theorem dX0_roomiest_55 : decode cX0_roomiest 55 = .ok (.iload_n 1, 1) := dk_27 (dk_at dksX0_roomiest_2 7 rfl rfl)
theorem dX0_roomiest_56 : decode cX0_roomiest 56 = .ok (.ireturn, 1) := dk_172 (dk_at dksX0_roomiest_2 8 rfl rfl)
abbrev cX0_line : ByteArray := prog_1_method_50_code
def yX0_line : MethodName := ⟨RX0, "line", "(I)I"⟩
def dkwX0_line_1 : List UInt8 := [162, 0, 17, 28, 42, 28, 182, 1, 42, 128, 61, 132, 3, 1, 167, 255, 239, 28, 172]
abbrev dktX0_line_1 : List UInt8 := dkwX0_line_1 ++ []
def dkwX0_line_0 : List UInt8 := [42, 27, 182, 0, 177, 154, 0, 5, 2, 172, 42, 4, 27, 120, 182, 1, 42, 61, 3, 62, 29, 16, 8]
abbrev dktX0_line_0 : List UInt8 := dkwX0_line_0 ++ dktX0_line_1
theorem dksX0_line_0 : cX0_line.data.toList.drop 0 = dktX0_line_0 := by decide +kernel
theorem dksX0_line_1 : cX0_line.data.toList.drop 23 = dktX0_line_1 := dk_seg dksX0_line_0 23 rfl rfl
theorem dX0_line_0 : decode cX0_line 0 = .ok (.aload_n 0, 1) := dk_42 (dk_at dksX0_line_0 0 rfl rfl)
theorem dX0_line_1 : decode cX0_line 1 = .ok (.iload_n 1, 1) := dk_27 (dk_at dksX0_line_0 1 rfl rfl)
theorem dX0_line_2 : decode cX0_line 2 = .ok (.invokevirtual 177, 3) := dk_182 0 177 (dk_at dksX0_line_0 2 rfl rfl)
theorem dX0_line_5 : decode cX0_line 5 = .ok (.ifCond .ne 5, 3) := dk_154 0 5 (dk_at dksX0_line_0 5 rfl rfl)
theorem dX0_line_8 : decode cX0_line 8 = .ok (.iconst (-1), 1) := dk_2 (dk_at dksX0_line_0 8 rfl rfl)
theorem dX0_line_9 : decode cX0_line 9 = .ok (.ireturn, 1) := dk_172 (dk_at dksX0_line_0 9 rfl rfl)
theorem dX0_line_10 : decode cX0_line 10 = .ok (.aload_n 0, 1) := dk_42 (dk_at dksX0_line_0 10 rfl rfl)
theorem dX0_line_11 : decode cX0_line 11 = .ok (.iconst 1, 1) := dk_4 (dk_at dksX0_line_0 11 rfl rfl)
theorem dX0_line_12 : decode cX0_line 12 = .ok (.iload_n 1, 1) := dk_27 (dk_at dksX0_line_0 12 rfl rfl)
theorem dX0_line_13 : decode cX0_line 13 = .ok (.ishl, 1) := dk_120 (dk_at dksX0_line_0 13 rfl rfl)
theorem dX0_line_14 : decode cX0_line 14 = .ok (.invokevirtual 298, 3) := dk_182 1 42 (dk_at dksX0_line_0 14 rfl rfl)
theorem dX0_line_17 : decode cX0_line 17 = .ok (.istore_n 2, 1) := dk_61 (dk_at dksX0_line_0 17 rfl rfl)
theorem dX0_line_18 : decode cX0_line 18 = .ok (.iconst 0, 1) := dk_3 (dk_at dksX0_line_0 18 rfl rfl)
theorem dX0_line_19 : decode cX0_line 19 = .ok (.istore_n 3, 1) := dk_62 (dk_at dksX0_line_0 19 rfl rfl)
theorem dX0_line_20 : decode cX0_line 20 = .ok (.iload_n 3, 1) := dk_29 (dk_at dksX0_line_0 20 rfl rfl)
theorem dX0_line_21 : decode cX0_line 21 = .ok (.bipush 8, 2) := dk_16 8 (dk_at dksX0_line_0 21 rfl rfl)
theorem dX0_line_23 : decode cX0_line 23 = .ok (.if_icmp .ge 17, 3) := dk_162 0 17 (dk_at dksX0_line_1 0 rfl rfl)
theorem dX0_line_26 : decode cX0_line 26 = .ok (.iload_n 2, 1) := dk_28 (dk_at dksX0_line_1 3 rfl rfl)
theorem dX0_line_27 : decode cX0_line 27 = .ok (.aload_n 0, 1) := dk_42 (dk_at dksX0_line_1 4 rfl rfl)
theorem dX0_line_28 : decode cX0_line 28 = .ok (.iload_n 2, 1) := dk_28 (dk_at dksX0_line_1 5 rfl rfl)
theorem dX0_line_29 : decode cX0_line 29 = .ok (.invokevirtual 298, 3) := dk_182 1 42 (dk_at dksX0_line_1 6 rfl rfl)
theorem dX0_line_32 : decode cX0_line 32 = .ok (.ior, 1) := dk_128 (dk_at dksX0_line_1 9 rfl rfl)
theorem dX0_line_33 : decode cX0_line 33 = .ok (.istore_n 2, 1) := dk_61 (dk_at dksX0_line_1 10 rfl rfl)
theorem dX0_line_34 : decode cX0_line 34 = .ok (.iinc 3 1, 3) := dk_132 3 1 (dk_at dksX0_line_1 11 rfl rfl)
theorem dX0_line_37 : decode cX0_line 37 = .ok (.goto (-17), 3) := dk_167 255 239 (dk_at dksX0_line_1 14 rfl rfl)
theorem dX0_line_40 : decode cX0_line 40 = .ok (.iload_n 2, 1) := dk_28 (dk_at dksX0_line_1 17 rfl rfl)
theorem dX0_line_41 : decode cX0_line 41 = .ok (.ireturn, 1) := dk_172 (dk_at dksX0_line_1 18 rfl rfl)
abbrev cX0_parentsOf : ByteArray := prog_1_method_49_code
def yX0_parentsOf : MethodName := ⟨RX0, "parentsOf", "(I)I"⟩
def dkwX0_parentsOf_3 : List UInt8 := [180, 0, 59, 180, 0, 198, 29, 46, 120, 128, 61, 132, 3, 1, 167, 255, 176, 28, 172]
abbrev dktX0_parentsOf_3 : List UInt8 := dkwX0_parentsOf_3 ++ []
def dkwX0_parentsOf_2 : List UInt8 := [46, 120, 128, 61, 28, 42, 180, 0, 59, 180, 0, 198, 29, 46, 156, 0, 7, 3, 167, 0, 14, 4, 42]
abbrev dktX0_parentsOf_2 : List UInt8 := dkwX0_parentsOf_2 ++ dktX0_parentsOf_3
def dkwX0_parentsOf_1 : List UInt8 := [180, 0, 59, 180, 0, 195, 29, 46, 156, 0, 7, 3, 167, 0, 14, 4, 42, 180, 0, 59, 180, 0, 195, 29]
abbrev dktX0_parentsOf_1 : List UInt8 := dkwX0_parentsOf_1 ++ dktX0_parentsOf_2
def dkwX0_parentsOf_0 : List UInt8 := [3, 61, 3, 62, 29, 16, 8, 162, 0, 80, 27, 29, 122, 4, 126, 154, 0, 6, 167, 0, 63, 28, 42]
abbrev dktX0_parentsOf_0 : List UInt8 := dkwX0_parentsOf_0 ++ dktX0_parentsOf_1
theorem dksX0_parentsOf_0 : cX0_parentsOf.data.toList.drop 0 = dktX0_parentsOf_0 := by decide +kernel
theorem dksX0_parentsOf_1 : cX0_parentsOf.data.toList.drop 23 = dktX0_parentsOf_1 := dk_seg dksX0_parentsOf_0 23 rfl rfl
theorem dksX0_parentsOf_2 : cX0_parentsOf.data.toList.drop 47 = dktX0_parentsOf_2 := dk_seg dksX0_parentsOf_1 24 rfl rfl
theorem dksX0_parentsOf_3 : cX0_parentsOf.data.toList.drop 70 = dktX0_parentsOf_3 := dk_seg dksX0_parentsOf_2 23 rfl rfl
theorem dX0_parentsOf_0 : decode cX0_parentsOf 0 = .ok (.iconst 0, 1) := dk_3 (dk_at dksX0_parentsOf_0 0 rfl rfl)
theorem dX0_parentsOf_1 : decode cX0_parentsOf 1 = .ok (.istore_n 2, 1) := dk_61 (dk_at dksX0_parentsOf_0 1 rfl rfl)
theorem dX0_parentsOf_2 : decode cX0_parentsOf 2 = .ok (.iconst 0, 1) := dk_3 (dk_at dksX0_parentsOf_0 2 rfl rfl)
theorem dX0_parentsOf_3 : decode cX0_parentsOf 3 = .ok (.istore_n 3, 1) := dk_62 (dk_at dksX0_parentsOf_0 3 rfl rfl)
theorem dX0_parentsOf_4 : decode cX0_parentsOf 4 = .ok (.iload_n 3, 1) := dk_29 (dk_at dksX0_parentsOf_0 4 rfl rfl)
theorem dX0_parentsOf_5 : decode cX0_parentsOf 5 = .ok (.bipush 8, 2) := dk_16 8 (dk_at dksX0_parentsOf_0 5 rfl rfl)
theorem dX0_parentsOf_7 : decode cX0_parentsOf 7 = .ok (.if_icmp .ge 80, 3) := dk_162 0 80 (dk_at dksX0_parentsOf_0 7 rfl rfl)
theorem dX0_parentsOf_10 : decode cX0_parentsOf 10 = .ok (.iload_n 1, 1) := dk_27 (dk_at dksX0_parentsOf_0 10 rfl rfl)
theorem dX0_parentsOf_11 : decode cX0_parentsOf 11 = .ok (.iload_n 3, 1) := dk_29 (dk_at dksX0_parentsOf_0 11 rfl rfl)
theorem dX0_parentsOf_12 : decode cX0_parentsOf 12 = .ok (.ishr, 1) := dk_122 (dk_at dksX0_parentsOf_0 12 rfl rfl)
theorem dX0_parentsOf_13 : decode cX0_parentsOf 13 = .ok (.iconst 1, 1) := dk_4 (dk_at dksX0_parentsOf_0 13 rfl rfl)
theorem dX0_parentsOf_14 : decode cX0_parentsOf 14 = .ok (.iand, 1) := dk_126 (dk_at dksX0_parentsOf_0 14 rfl rfl)
theorem dX0_parentsOf_15 : decode cX0_parentsOf 15 = .ok (.ifCond .ne 6, 3) := dk_154 0 6 (dk_at dksX0_parentsOf_0 15 rfl rfl)
theorem dX0_parentsOf_18 : decode cX0_parentsOf 18 = .ok (.goto 63, 3) := dk_167 0 63 (dk_at dksX0_parentsOf_0 18 rfl rfl)
theorem dX0_parentsOf_21 : decode cX0_parentsOf 21 = .ok (.iload_n 2, 1) := dk_28 (dk_at dksX0_parentsOf_0 21 rfl rfl)
theorem dX0_parentsOf_22 : decode cX0_parentsOf 22 = .ok (.aload_n 0, 1) := dk_42 (dk_at dksX0_parentsOf_0 22 rfl rfl)
theorem dX0_parentsOf_23 : decode cX0_parentsOf 23 = .ok (.getfield 59, 3) := dk_180 0 59 (dk_at dksX0_parentsOf_1 0 rfl rfl)
theorem dX0_parentsOf_26 : decode cX0_parentsOf 26 = .ok (.getfield 195, 3) := dk_180 0 195 (dk_at dksX0_parentsOf_1 3 rfl rfl)
theorem dX0_parentsOf_29 : decode cX0_parentsOf 29 = .ok (.iload_n 3, 1) := dk_29 (dk_at dksX0_parentsOf_1 6 rfl rfl)
theorem dX0_parentsOf_30 : decode cX0_parentsOf 30 = .ok (.iaload, 1) := dk_46 (dk_at dksX0_parentsOf_1 7 rfl rfl)
theorem dX0_parentsOf_31 : decode cX0_parentsOf 31 = .ok (.ifCond .ge 7, 3) := dk_156 0 7 (dk_at dksX0_parentsOf_1 8 rfl rfl)
theorem dX0_parentsOf_34 : decode cX0_parentsOf 34 = .ok (.iconst 0, 1) := dk_3 (dk_at dksX0_parentsOf_1 11 rfl rfl)
theorem dX0_parentsOf_35 : decode cX0_parentsOf 35 = .ok (.goto 14, 3) := dk_167 0 14 (dk_at dksX0_parentsOf_1 12 rfl rfl)
theorem dX0_parentsOf_38 : decode cX0_parentsOf 38 = .ok (.iconst 1, 1) := dk_4 (dk_at dksX0_parentsOf_1 15 rfl rfl)
theorem dX0_parentsOf_39 : decode cX0_parentsOf 39 = .ok (.aload_n 0, 1) := dk_42 (dk_at dksX0_parentsOf_1 16 rfl rfl)
theorem dX0_parentsOf_40 : decode cX0_parentsOf 40 = .ok (.getfield 59, 3) := dk_180 0 59 (dk_at dksX0_parentsOf_1 17 rfl rfl)
theorem dX0_parentsOf_43 : decode cX0_parentsOf 43 = .ok (.getfield 195, 3) := dk_180 0 195 (dk_at dksX0_parentsOf_1 20 rfl rfl)
theorem dX0_parentsOf_46 : decode cX0_parentsOf 46 = .ok (.iload_n 3, 1) := dk_29 (dk_at dksX0_parentsOf_1 23 rfl rfl)
theorem dX0_parentsOf_47 : decode cX0_parentsOf 47 = .ok (.iaload, 1) := dk_46 (dk_at dksX0_parentsOf_2 0 rfl rfl)
theorem dX0_parentsOf_48 : decode cX0_parentsOf 48 = .ok (.ishl, 1) := dk_120 (dk_at dksX0_parentsOf_2 1 rfl rfl)
theorem dX0_parentsOf_49 : decode cX0_parentsOf 49 = .ok (.ior, 1) := dk_128 (dk_at dksX0_parentsOf_2 2 rfl rfl)
theorem dX0_parentsOf_50 : decode cX0_parentsOf 50 = .ok (.istore_n 2, 1) := dk_61 (dk_at dksX0_parentsOf_2 3 rfl rfl)
theorem dX0_parentsOf_51 : decode cX0_parentsOf 51 = .ok (.iload_n 2, 1) := dk_28 (dk_at dksX0_parentsOf_2 4 rfl rfl)
theorem dX0_parentsOf_52 : decode cX0_parentsOf 52 = .ok (.aload_n 0, 1) := dk_42 (dk_at dksX0_parentsOf_2 5 rfl rfl)
theorem dX0_parentsOf_53 : decode cX0_parentsOf 53 = .ok (.getfield 59, 3) := dk_180 0 59 (dk_at dksX0_parentsOf_2 6 rfl rfl)
theorem dX0_parentsOf_56 : decode cX0_parentsOf 56 = .ok (.getfield 198, 3) := dk_180 0 198 (dk_at dksX0_parentsOf_2 9 rfl rfl)
theorem dX0_parentsOf_59 : decode cX0_parentsOf 59 = .ok (.iload_n 3, 1) := dk_29 (dk_at dksX0_parentsOf_2 12 rfl rfl)
theorem dX0_parentsOf_60 : decode cX0_parentsOf 60 = .ok (.iaload, 1) := dk_46 (dk_at dksX0_parentsOf_2 13 rfl rfl)
theorem dX0_parentsOf_61 : decode cX0_parentsOf 61 = .ok (.ifCond .ge 7, 3) := dk_156 0 7 (dk_at dksX0_parentsOf_2 14 rfl rfl)
theorem dX0_parentsOf_64 : decode cX0_parentsOf 64 = .ok (.iconst 0, 1) := dk_3 (dk_at dksX0_parentsOf_2 17 rfl rfl)
theorem dX0_parentsOf_65 : decode cX0_parentsOf 65 = .ok (.goto 14, 3) := dk_167 0 14 (dk_at dksX0_parentsOf_2 18 rfl rfl)
theorem dX0_parentsOf_68 : decode cX0_parentsOf 68 = .ok (.iconst 1, 1) := dk_4 (dk_at dksX0_parentsOf_2 21 rfl rfl)
theorem dX0_parentsOf_69 : decode cX0_parentsOf 69 = .ok (.aload_n 0, 1) := dk_42 (dk_at dksX0_parentsOf_2 22 rfl rfl)
theorem dX0_parentsOf_70 : decode cX0_parentsOf 70 = .ok (.getfield 59, 3) := dk_180 0 59 (dk_at dksX0_parentsOf_3 0 rfl rfl)
theorem dX0_parentsOf_73 : decode cX0_parentsOf 73 = .ok (.getfield 198, 3) := dk_180 0 198 (dk_at dksX0_parentsOf_3 3 rfl rfl)
theorem dX0_parentsOf_76 : decode cX0_parentsOf 76 = .ok (.iload_n 3, 1) := dk_29 (dk_at dksX0_parentsOf_3 6 rfl rfl)
theorem dX0_parentsOf_77 : decode cX0_parentsOf 77 = .ok (.iaload, 1) := dk_46 (dk_at dksX0_parentsOf_3 7 rfl rfl)
theorem dX0_parentsOf_78 : decode cX0_parentsOf 78 = .ok (.ishl, 1) := dk_120 (dk_at dksX0_parentsOf_3 8 rfl rfl)
theorem dX0_parentsOf_79 : decode cX0_parentsOf 79 = .ok (.ior, 1) := dk_128 (dk_at dksX0_parentsOf_3 9 rfl rfl)
theorem dX0_parentsOf_80 : decode cX0_parentsOf 80 = .ok (.istore_n 2, 1) := dk_61 (dk_at dksX0_parentsOf_3 10 rfl rfl)
theorem dX0_parentsOf_81 : decode cX0_parentsOf 81 = .ok (.iinc 3 1, 3) := dk_132 3 1 (dk_at dksX0_parentsOf_3 11 rfl rfl)
theorem dX0_parentsOf_84 : decode cX0_parentsOf 84 = .ok (.goto (-80), 3) := dk_167 255 176 (dk_at dksX0_parentsOf_3 14 rfl rfl)
theorem dX0_parentsOf_87 : decode cX0_parentsOf 87 = .ok (.iload_n 2, 1) := dk_28 (dk_at dksX0_parentsOf_3 17 rfl rfl)
theorem dX0_parentsOf_88 : decode cX0_parentsOf 88 = .ok (.ireturn, 1) := dk_172 (dk_at dksX0_parentsOf_3 18 rfl rfl)
abbrev cX0_litter : ByteArray := prog_1_method_51_code
def yX0_litter : MethodName := ⟨RX0, "litter", "(I)I"⟩
def dkwX0_litter_3 : List UInt8 := [167, 255, 200, 28, 172]
abbrev dktX0_litter_3 : List UInt8 := dkwX0_litter_3 ++ []
def dkwX0_litter_2 : List UInt8 := [180, 0, 59, 180, 0, 198, 29, 46, 27, 160, 0, 9, 4, 29, 120, 167, 0, 4, 3, 128, 61, 132, 3, 1]
abbrev dktX0_litter_2 : List UInt8 := dkwX0_litter_2 ++ dktX0_litter_3
def dkwX0_litter_1 : List UInt8 := [180, 0, 59, 29, 182, 0, 158, 153, 0, 35, 42, 180, 0, 59, 180, 0, 195, 29, 46, 27, 159, 0, 16, 42]
abbrev dktX0_litter_1 : List UInt8 := dkwX0_litter_1 ++ dktX0_litter_2
def dkwX0_litter_0 : List UInt8 := [42, 27, 182, 0, 177, 154, 0, 5, 2, 172, 3, 61, 3, 62, 29, 16, 8, 162, 0, 56, 28, 42]
abbrev dktX0_litter_0 : List UInt8 := dkwX0_litter_0 ++ dktX0_litter_1
theorem dksX0_litter_0 : cX0_litter.data.toList.drop 0 = dktX0_litter_0 := by decide +kernel
theorem dksX0_litter_1 : cX0_litter.data.toList.drop 22 = dktX0_litter_1 := dk_seg dksX0_litter_0 22 rfl rfl
theorem dksX0_litter_2 : cX0_litter.data.toList.drop 46 = dktX0_litter_2 := dk_seg dksX0_litter_1 24 rfl rfl
theorem dksX0_litter_3 : cX0_litter.data.toList.drop 70 = dktX0_litter_3 := dk_seg dksX0_litter_2 24 rfl rfl
theorem dX0_litter_0 : decode cX0_litter 0 = .ok (.aload_n 0, 1) := dk_42 (dk_at dksX0_litter_0 0 rfl rfl)
theorem dX0_litter_1 : decode cX0_litter 1 = .ok (.iload_n 1, 1) := dk_27 (dk_at dksX0_litter_0 1 rfl rfl)
theorem dX0_litter_2 : decode cX0_litter 2 = .ok (.invokevirtual 177, 3) := dk_182 0 177 (dk_at dksX0_litter_0 2 rfl rfl)
theorem dX0_litter_5 : decode cX0_litter 5 = .ok (.ifCond .ne 5, 3) := dk_154 0 5 (dk_at dksX0_litter_0 5 rfl rfl)
theorem dX0_litter_8 : decode cX0_litter 8 = .ok (.iconst (-1), 1) := dk_2 (dk_at dksX0_litter_0 8 rfl rfl)
theorem dX0_litter_9 : decode cX0_litter 9 = .ok (.ireturn, 1) := dk_172 (dk_at dksX0_litter_0 9 rfl rfl)
theorem dX0_litter_10 : decode cX0_litter 10 = .ok (.iconst 0, 1) := dk_3 (dk_at dksX0_litter_0 10 rfl rfl)
theorem dX0_litter_11 : decode cX0_litter 11 = .ok (.istore_n 2, 1) := dk_61 (dk_at dksX0_litter_0 11 rfl rfl)
theorem dX0_litter_12 : decode cX0_litter 12 = .ok (.iconst 0, 1) := dk_3 (dk_at dksX0_litter_0 12 rfl rfl)
theorem dX0_litter_13 : decode cX0_litter 13 = .ok (.istore_n 3, 1) := dk_62 (dk_at dksX0_litter_0 13 rfl rfl)
theorem dX0_litter_14 : decode cX0_litter 14 = .ok (.iload_n 3, 1) := dk_29 (dk_at dksX0_litter_0 14 rfl rfl)
theorem dX0_litter_15 : decode cX0_litter 15 = .ok (.bipush 8, 2) := dk_16 8 (dk_at dksX0_litter_0 15 rfl rfl)
theorem dX0_litter_17 : decode cX0_litter 17 = .ok (.if_icmp .ge 56, 3) := dk_162 0 56 (dk_at dksX0_litter_0 17 rfl rfl)
theorem dX0_litter_20 : decode cX0_litter 20 = .ok (.iload_n 2, 1) := dk_28 (dk_at dksX0_litter_0 20 rfl rfl)
theorem dX0_litter_21 : decode cX0_litter 21 = .ok (.aload_n 0, 1) := dk_42 (dk_at dksX0_litter_0 21 rfl rfl)
theorem dX0_litter_22 : decode cX0_litter 22 = .ok (.getfield 59, 3) := dk_180 0 59 (dk_at dksX0_litter_1 0 rfl rfl)
theorem dX0_litter_25 : decode cX0_litter 25 = .ok (.iload_n 3, 1) := dk_29 (dk_at dksX0_litter_1 3 rfl rfl)
theorem dX0_litter_26 : decode cX0_litter 26 = .ok (.invokevirtual 158, 3) := dk_182 0 158 (dk_at dksX0_litter_1 4 rfl rfl)
theorem dX0_litter_29 : decode cX0_litter 29 = .ok (.ifCond .eq 35, 3) := dk_153 0 35 (dk_at dksX0_litter_1 7 rfl rfl)
theorem dX0_litter_32 : decode cX0_litter 32 = .ok (.aload_n 0, 1) := dk_42 (dk_at dksX0_litter_1 10 rfl rfl)
theorem dX0_litter_33 : decode cX0_litter 33 = .ok (.getfield 59, 3) := dk_180 0 59 (dk_at dksX0_litter_1 11 rfl rfl)
theorem dX0_litter_36 : decode cX0_litter 36 = .ok (.getfield 195, 3) := dk_180 0 195 (dk_at dksX0_litter_1 14 rfl rfl)
theorem dX0_litter_39 : decode cX0_litter 39 = .ok (.iload_n 3, 1) := dk_29 (dk_at dksX0_litter_1 17 rfl rfl)
theorem dX0_litter_40 : decode cX0_litter 40 = .ok (.iaload, 1) := dk_46 (dk_at dksX0_litter_1 18 rfl rfl)
theorem dX0_litter_41 : decode cX0_litter 41 = .ok (.iload_n 1, 1) := dk_27 (dk_at dksX0_litter_1 19 rfl rfl)
theorem dX0_litter_42 : decode cX0_litter 42 = .ok (.if_icmp .eq 16, 3) := dk_159 0 16 (dk_at dksX0_litter_1 20 rfl rfl)
theorem dX0_litter_45 : decode cX0_litter 45 = .ok (.aload_n 0, 1) := dk_42 (dk_at dksX0_litter_1 23 rfl rfl)
theorem dX0_litter_46 : decode cX0_litter 46 = .ok (.getfield 59, 3) := dk_180 0 59 (dk_at dksX0_litter_2 0 rfl rfl)
theorem dX0_litter_49 : decode cX0_litter 49 = .ok (.getfield 198, 3) := dk_180 0 198 (dk_at dksX0_litter_2 3 rfl rfl)
theorem dX0_litter_52 : decode cX0_litter 52 = .ok (.iload_n 3, 1) := dk_29 (dk_at dksX0_litter_2 6 rfl rfl)
theorem dX0_litter_53 : decode cX0_litter 53 = .ok (.iaload, 1) := dk_46 (dk_at dksX0_litter_2 7 rfl rfl)
theorem dX0_litter_54 : decode cX0_litter 54 = .ok (.iload_n 1, 1) := dk_27 (dk_at dksX0_litter_2 8 rfl rfl)
theorem dX0_litter_55 : decode cX0_litter 55 = .ok (.if_icmp .ne 9, 3) := dk_160 0 9 (dk_at dksX0_litter_2 9 rfl rfl)
theorem dX0_litter_58 : decode cX0_litter 58 = .ok (.iconst 1, 1) := dk_4 (dk_at dksX0_litter_2 12 rfl rfl)
theorem dX0_litter_59 : decode cX0_litter 59 = .ok (.iload_n 3, 1) := dk_29 (dk_at dksX0_litter_2 13 rfl rfl)
theorem dX0_litter_60 : decode cX0_litter 60 = .ok (.ishl, 1) := dk_120 (dk_at dksX0_litter_2 14 rfl rfl)
theorem dX0_litter_61 : decode cX0_litter 61 = .ok (.goto 4, 3) := dk_167 0 4 (dk_at dksX0_litter_2 15 rfl rfl)
theorem dX0_litter_64 : decode cX0_litter 64 = .ok (.iconst 0, 1) := dk_3 (dk_at dksX0_litter_2 18 rfl rfl)
theorem dX0_litter_65 : decode cX0_litter 65 = .ok (.ior, 1) := dk_128 (dk_at dksX0_litter_2 19 rfl rfl)
theorem dX0_litter_66 : decode cX0_litter 66 = .ok (.istore_n 2, 1) := dk_61 (dk_at dksX0_litter_2 20 rfl rfl)
theorem dX0_litter_67 : decode cX0_litter 67 = .ok (.iinc 3 1, 3) := dk_132 3 1 (dk_at dksX0_litter_2 21 rfl rfl)
theorem dX0_litter_70 : decode cX0_litter 70 = .ok (.goto (-56), 3) := dk_167 255 200 (dk_at dksX0_litter_3 0 rfl rfl)
theorem dX0_litter_73 : decode cX0_litter 73 = .ok (.iload_n 2, 1) := dk_28 (dk_at dksX0_litter_3 3 rfl rfl)
theorem dX0_litter_74 : decode cX0_litter 74 = .ok (.ireturn, 1) := dk_172 (dk_at dksX0_litter_3 4 rfl rfl)
abbrev cX0_kin : ByteArray := prog_1_method_53_code
def yX0_kin : MethodName := ⟨RX0, "kin", "(II)I"⟩
def dkwX0_kin_3 : List UInt8 := [162, 0, 9, 21, 5, 21, 6, 96, 62, 132, 4, 1, 167, 255, 199, 29, 172]
abbrev dktX0_kin_3 : List UInt8 := dkwX0_kin_3 ++ []
def dkwX0_kin_2 : List UInt8 := [54, 6, 21, 5, 155, 0, 27, 21, 6, 155, 0, 22, 29, 155, 0, 12, 21, 5, 21, 6, 96, 29]
abbrev dktX0_kin_2 : List UInt8 := dkwX0_kin_2 ++ dktX0_kin_3
def dkwX0_kin_1 : List UInt8 := [21, 4, 16, 8, 162, 0, 56, 42, 27, 21, 4, 182, 1, 45, 54, 5, 42, 28, 21, 4, 182, 1, 45]
abbrev dktX0_kin_1 : List UInt8 := dkwX0_kin_1 ++ dktX0_kin_2
def dkwX0_kin_0 : List UInt8 := [42, 27, 182, 0, 177, 153, 0, 11, 42, 28, 182, 0, 177, 154, 0, 5, 2, 172, 2, 62, 3, 54, 4]
abbrev dktX0_kin_0 : List UInt8 := dkwX0_kin_0 ++ dktX0_kin_1
theorem dksX0_kin_0 : cX0_kin.data.toList.drop 0 = dktX0_kin_0 := by decide +kernel
theorem dksX0_kin_1 : cX0_kin.data.toList.drop 23 = dktX0_kin_1 := dk_seg dksX0_kin_0 23 rfl rfl
theorem dksX0_kin_2 : cX0_kin.data.toList.drop 46 = dktX0_kin_2 := dk_seg dksX0_kin_1 23 rfl rfl
theorem dksX0_kin_3 : cX0_kin.data.toList.drop 68 = dktX0_kin_3 := dk_seg dksX0_kin_2 22 rfl rfl
theorem dX0_kin_0 : decode cX0_kin 0 = .ok (.aload_n 0, 1) := dk_42 (dk_at dksX0_kin_0 0 rfl rfl)
theorem dX0_kin_1 : decode cX0_kin 1 = .ok (.iload_n 1, 1) := dk_27 (dk_at dksX0_kin_0 1 rfl rfl)
theorem dX0_kin_2 : decode cX0_kin 2 = .ok (.invokevirtual 177, 3) := dk_182 0 177 (dk_at dksX0_kin_0 2 rfl rfl)
theorem dX0_kin_5 : decode cX0_kin 5 = .ok (.ifCond .eq 11, 3) := dk_153 0 11 (dk_at dksX0_kin_0 5 rfl rfl)
theorem dX0_kin_8 : decode cX0_kin 8 = .ok (.aload_n 0, 1) := dk_42 (dk_at dksX0_kin_0 8 rfl rfl)
theorem dX0_kin_9 : decode cX0_kin 9 = .ok (.iload_n 2, 1) := dk_28 (dk_at dksX0_kin_0 9 rfl rfl)
theorem dX0_kin_10 : decode cX0_kin 10 = .ok (.invokevirtual 177, 3) := dk_182 0 177 (dk_at dksX0_kin_0 10 rfl rfl)
theorem dX0_kin_13 : decode cX0_kin 13 = .ok (.ifCond .ne 5, 3) := dk_154 0 5 (dk_at dksX0_kin_0 13 rfl rfl)
theorem dX0_kin_16 : decode cX0_kin 16 = .ok (.iconst (-1), 1) := dk_2 (dk_at dksX0_kin_0 16 rfl rfl)
theorem dX0_kin_17 : decode cX0_kin 17 = .ok (.ireturn, 1) := dk_172 (dk_at dksX0_kin_0 17 rfl rfl)
theorem dX0_kin_18 : decode cX0_kin 18 = .ok (.iconst (-1), 1) := dk_2 (dk_at dksX0_kin_0 18 rfl rfl)
theorem dX0_kin_19 : decode cX0_kin 19 = .ok (.istore_n 3, 1) := dk_62 (dk_at dksX0_kin_0 19 rfl rfl)
theorem dX0_kin_20 : decode cX0_kin 20 = .ok (.iconst 0, 1) := dk_3 (dk_at dksX0_kin_0 20 rfl rfl)
theorem dX0_kin_21 : decode cX0_kin 21 = .ok (.istore 4, 2) := dk_54 4 (dk_at dksX0_kin_0 21 rfl rfl)
theorem dX0_kin_23 : decode cX0_kin 23 = .ok (.iload 4, 2) := dk_21 4 (dk_at dksX0_kin_1 0 rfl rfl)
theorem dX0_kin_25 : decode cX0_kin 25 = .ok (.bipush 8, 2) := dk_16 8 (dk_at dksX0_kin_1 2 rfl rfl)
theorem dX0_kin_27 : decode cX0_kin 27 = .ok (.if_icmp .ge 56, 3) := dk_162 0 56 (dk_at dksX0_kin_1 4 rfl rfl)
theorem dX0_kin_30 : decode cX0_kin 30 = .ok (.aload_n 0, 1) := dk_42 (dk_at dksX0_kin_1 7 rfl rfl)
theorem dX0_kin_31 : decode cX0_kin 31 = .ok (.iload_n 1, 1) := dk_27 (dk_at dksX0_kin_1 8 rfl rfl)
theorem dX0_kin_32 : decode cX0_kin 32 = .ok (.iload 4, 2) := dk_21 4 (dk_at dksX0_kin_1 9 rfl rfl)
theorem dX0_kin_34 : decode cX0_kin 34 = .ok (.invokevirtual 301, 3) := dk_182 1 45 (dk_at dksX0_kin_1 11 rfl rfl)
theorem dX0_kin_37 : decode cX0_kin 37 = .ok (.istore 5, 2) := dk_54 5 (dk_at dksX0_kin_1 14 rfl rfl)
theorem dX0_kin_39 : decode cX0_kin 39 = .ok (.aload_n 0, 1) := dk_42 (dk_at dksX0_kin_1 16 rfl rfl)
theorem dX0_kin_40 : decode cX0_kin 40 = .ok (.iload_n 2, 1) := dk_28 (dk_at dksX0_kin_1 17 rfl rfl)
theorem dX0_kin_41 : decode cX0_kin 41 = .ok (.iload 4, 2) := dk_21 4 (dk_at dksX0_kin_1 18 rfl rfl)
theorem dX0_kin_43 : decode cX0_kin 43 = .ok (.invokevirtual 301, 3) := dk_182 1 45 (dk_at dksX0_kin_1 20 rfl rfl)
theorem dX0_kin_46 : decode cX0_kin 46 = .ok (.istore 6, 2) := dk_54 6 (dk_at dksX0_kin_2 0 rfl rfl)
theorem dX0_kin_48 : decode cX0_kin 48 = .ok (.iload 5, 2) := dk_21 5 (dk_at dksX0_kin_2 2 rfl rfl)
theorem dX0_kin_50 : decode cX0_kin 50 = .ok (.ifCond .lt 27, 3) := dk_155 0 27 (dk_at dksX0_kin_2 4 rfl rfl)
theorem dX0_kin_53 : decode cX0_kin 53 = .ok (.iload 6, 2) := dk_21 6 (dk_at dksX0_kin_2 7 rfl rfl)
theorem dX0_kin_55 : decode cX0_kin 55 = .ok (.ifCond .lt 22, 3) := dk_155 0 22 (dk_at dksX0_kin_2 9 rfl rfl)
theorem dX0_kin_58 : decode cX0_kin 58 = .ok (.iload_n 3, 1) := dk_29 (dk_at dksX0_kin_2 12 rfl rfl)
theorem dX0_kin_59 : decode cX0_kin 59 = .ok (.ifCond .lt 12, 3) := dk_155 0 12 (dk_at dksX0_kin_2 13 rfl rfl)
theorem dX0_kin_62 : decode cX0_kin 62 = .ok (.iload 5, 2) := dk_21 5 (dk_at dksX0_kin_2 16 rfl rfl)
theorem dX0_kin_64 : decode cX0_kin 64 = .ok (.iload 6, 2) := dk_21 6 (dk_at dksX0_kin_2 18 rfl rfl)
theorem dX0_kin_66 : decode cX0_kin 66 = .ok (.iadd, 1) := dk_96 (dk_at dksX0_kin_2 20 rfl rfl)
theorem dX0_kin_67 : decode cX0_kin 67 = .ok (.iload_n 3, 1) := dk_29 (dk_at dksX0_kin_2 21 rfl rfl)
theorem dX0_kin_68 : decode cX0_kin 68 = .ok (.if_icmp .ge 9, 3) := dk_162 0 9 (dk_at dksX0_kin_3 0 rfl rfl)
theorem dX0_kin_71 : decode cX0_kin 71 = .ok (.iload 5, 2) := dk_21 5 (dk_at dksX0_kin_3 3 rfl rfl)
theorem dX0_kin_73 : decode cX0_kin 73 = .ok (.iload 6, 2) := dk_21 6 (dk_at dksX0_kin_3 5 rfl rfl)
theorem dX0_kin_75 : decode cX0_kin 75 = .ok (.iadd, 1) := dk_96 (dk_at dksX0_kin_3 7 rfl rfl)
theorem dX0_kin_76 : decode cX0_kin 76 = .ok (.istore_n 3, 1) := dk_62 (dk_at dksX0_kin_3 8 rfl rfl)
theorem dX0_kin_77 : decode cX0_kin 77 = .ok (.iinc 4 1, 3) := dk_132 4 1 (dk_at dksX0_kin_3 9 rfl rfl)
theorem dX0_kin_80 : decode cX0_kin 80 = .ok (.goto (-57), 3) := dk_167 255 199 (dk_at dksX0_kin_3 12 rfl rfl)
theorem dX0_kin_83 : decode cX0_kin 83 = .ok (.iload_n 3, 1) := dk_29 (dk_at dksX0_kin_3 15 rfl rfl)
theorem dX0_kin_84 : decode cX0_kin 84 = .ok (.ireturn, 1) := dk_172 (dk_at dksX0_kin_3 16 rfl rfl)
abbrev cX0_steps : ByteArray := prog_1_method_52_code
def yX0_steps : MethodName := ⟨RX0, "steps", "(II)I"⟩
def dkwX0_steps_1 : List UInt8 := [21, 4, 172, 42, 29, 182, 1, 42, 62, 132, 4, 1, 167, 255, 228, 2, 172]
abbrev dktX0_steps_1 : List UInt8 := dkwX0_steps_1 ++ []
def dkwX0_steps_0 : List UInt8 := [4, 27, 120, 62, 3, 54, 4, 21, 4, 16, 8, 163, 0, 27, 29, 28, 122, 4, 126, 4, 160, 0, 6]
abbrev dktX0_steps_0 : List UInt8 := dkwX0_steps_0 ++ dktX0_steps_1
theorem dksX0_steps_0 : cX0_steps.data.toList.drop 0 = dktX0_steps_0 := by decide +kernel
theorem dksX0_steps_1 : cX0_steps.data.toList.drop 23 = dktX0_steps_1 := dk_seg dksX0_steps_0 23 rfl rfl
theorem dX0_steps_0 : decode cX0_steps 0 = .ok (.iconst 1, 1) := dk_4 (dk_at dksX0_steps_0 0 rfl rfl)
theorem dX0_steps_1 : decode cX0_steps 1 = .ok (.iload_n 1, 1) := dk_27 (dk_at dksX0_steps_0 1 rfl rfl)
theorem dX0_steps_2 : decode cX0_steps 2 = .ok (.ishl, 1) := dk_120 (dk_at dksX0_steps_0 2 rfl rfl)
theorem dX0_steps_3 : decode cX0_steps 3 = .ok (.istore_n 3, 1) := dk_62 (dk_at dksX0_steps_0 3 rfl rfl)
theorem dX0_steps_4 : decode cX0_steps 4 = .ok (.iconst 0, 1) := dk_3 (dk_at dksX0_steps_0 4 rfl rfl)
theorem dX0_steps_5 : decode cX0_steps 5 = .ok (.istore 4, 2) := dk_54 4 (dk_at dksX0_steps_0 5 rfl rfl)
theorem dX0_steps_7 : decode cX0_steps 7 = .ok (.iload 4, 2) := dk_21 4 (dk_at dksX0_steps_0 7 rfl rfl)
theorem dX0_steps_9 : decode cX0_steps 9 = .ok (.bipush 8, 2) := dk_16 8 (dk_at dksX0_steps_0 9 rfl rfl)
theorem dX0_steps_11 : decode cX0_steps 11 = .ok (.if_icmp .gt 27, 3) := dk_163 0 27 (dk_at dksX0_steps_0 11 rfl rfl)
theorem dX0_steps_14 : decode cX0_steps 14 = .ok (.iload_n 3, 1) := dk_29 (dk_at dksX0_steps_0 14 rfl rfl)
theorem dX0_steps_15 : decode cX0_steps 15 = .ok (.iload_n 2, 1) := dk_28 (dk_at dksX0_steps_0 15 rfl rfl)
theorem dX0_steps_16 : decode cX0_steps 16 = .ok (.ishr, 1) := dk_122 (dk_at dksX0_steps_0 16 rfl rfl)
theorem dX0_steps_17 : decode cX0_steps 17 = .ok (.iconst 1, 1) := dk_4 (dk_at dksX0_steps_0 17 rfl rfl)
theorem dX0_steps_18 : decode cX0_steps 18 = .ok (.iand, 1) := dk_126 (dk_at dksX0_steps_0 18 rfl rfl)
theorem dX0_steps_19 : decode cX0_steps 19 = .ok (.iconst 1, 1) := dk_4 (dk_at dksX0_steps_0 19 rfl rfl)
theorem dX0_steps_20 : decode cX0_steps 20 = .ok (.if_icmp .ne 6, 3) := dk_160 0 6 (dk_at dksX0_steps_0 20 rfl rfl)
theorem dX0_steps_23 : decode cX0_steps 23 = .ok (.iload 4, 2) := dk_21 4 (dk_at dksX0_steps_1 0 rfl rfl)
theorem dX0_steps_25 : decode cX0_steps 25 = .ok (.ireturn, 1) := dk_172 (dk_at dksX0_steps_1 2 rfl rfl)
theorem dX0_steps_26 : decode cX0_steps 26 = .ok (.aload_n 0, 1) := dk_42 (dk_at dksX0_steps_1 3 rfl rfl)
theorem dX0_steps_27 : decode cX0_steps 27 = .ok (.iload_n 3, 1) := dk_29 (dk_at dksX0_steps_1 4 rfl rfl)
theorem dX0_steps_28 : decode cX0_steps 28 = .ok (.invokevirtual 298, 3) := dk_182 1 42 (dk_at dksX0_steps_1 5 rfl rfl)
theorem dX0_steps_31 : decode cX0_steps 31 = .ok (.istore_n 3, 1) := dk_62 (dk_at dksX0_steps_1 8 rfl rfl)
theorem dX0_steps_32 : decode cX0_steps 32 = .ok (.iinc 4 1, 3) := dk_132 4 1 (dk_at dksX0_steps_1 9 rfl rfl)
theorem dX0_steps_35 : decode cX0_steps 35 = .ok (.goto (-28), 3) := dk_167 255 228 (dk_at dksX0_steps_1 12 rfl rfl)
theorem dX0_steps_38 : decode cX0_steps 38 = .ok (.iconst (-1), 1) := dk_2 (dk_at dksX0_steps_1 15 rfl rfl)
theorem dX0_steps_39 : decode cX0_steps 39 = .ok (.ireturn, 1) := dk_172 (dk_at dksX0_steps_1 16 rfl rfl)
abbrev cX0_rivals : ByteArray := prog_1_method_55_code
def yX0_rivals : MethodName := ⟨RX0, "rivals", "(II)I"⟩
def dkwX0_rivals_20 : List UInt8 := [42, 21, 4, 154, 0, 7, 3, 167, 0, 4, 5, 181, 0, 129, 21, 4, 172]
abbrev dktX0_rivals_20 : List UInt8 := dkwX0_rivals_20 ++ []
def dkwX0_rivals_19 : List UInt8 := [3, 21, 5, 79, 42, 180, 0, 73, 4, 21, 6, 79, 132, 6, 255, 167, 255, 191, 132, 5, 255, 167, 255, 172]
abbrev dktX0_rivals_19 : List UInt8 := dkwX0_rivals_19 ++ dktX0_rivals_20
def dkwX0_rivals_18 : List UInt8 := [153, 0, 36, 42, 21, 5, 21, 6, 182, 1, 54, 154, 0, 6, 167, 0, 22, 132, 4, 1, 42, 180, 0, 73]
abbrev dktX0_rivals_18 : List UInt8 := dkwX0_rivals_18 ++ dktX0_rivals_19
def dkwX0_rivals_17 : List UInt8 := [155, 0, 66, 42, 180, 1, 48, 21, 5, 122, 4, 126, 153, 0, 48, 42, 180, 1, 51, 21, 6, 122, 4, 126]
abbrev dktX0_rivals_17 : List UInt8 := dkwX0_rivals_17 ++ dktX0_rivals_18
def dkwX0_rivals_16 : List UInt8 := [182, 0, 152, 4, 100, 54, 5, 21, 5, 155, 0, 85, 42, 182, 0, 152, 4, 100, 54, 6, 21, 6]
abbrev dktX0_rivals_16 : List UInt8 := dkwX0_rivals_16 ++ dktX0_rivals_17
def dkwX0_rivals_15 : List UInt8 := [180, 0, 59, 180, 0, 180, 28, 46, 100, 79, 132, 6, 1, 167, 255, 140, 132, 5, 1, 167, 255, 122, 42]
abbrev dktX0_rivals_15 : List UInt8 := dkwX0_rivals_15 ++ dktX0_rivals_16
def dkwX0_rivals_14 : List UInt8 := [21, 6, 21, 5, 21, 6, 160, 0, 8, 21, 7, 167, 0, 20, 42, 180, 0, 80, 21, 6, 46, 42]
abbrev dktX0_rivals_14 : List UInt8 := dkwX0_rivals_14 ++ dktX0_rivals_15
def dkwX0_rivals_13 : List UInt8 := [180, 0, 80, 21, 5, 46, 42, 180, 0, 59, 180, 0, 180, 27, 46, 100, 79, 42, 180, 0, 88, 21, 5, 50]
abbrev dktX0_rivals_13 : List UInt8 := dkwX0_rivals_13 ++ dktX0_rivals_14
def dkwX0_rivals_12 : List UInt8 := [54, 7, 42, 180, 0, 85, 21, 5, 50, 21, 6, 21, 5, 21, 6, 160, 0, 8, 21, 7, 167, 0, 20, 42]
abbrev dktX0_rivals_12 : List UInt8 := dkwX0_rivals_12 ++ dktX0_rivals_13
def dkwX0_rivals_11 : List UInt8 := [180, 0, 80, 21, 5, 46, 29, 162, 0, 7, 2, 167, 0, 12, 42, 180, 0, 80, 21, 5, 46, 29, 100]
abbrev dktX0_rivals_11 : List UInt8 := dkwX0_rivals_11 ++ dktX0_rivals_12
def dkwX0_rivals_10 : List UInt8 := [54, 5, 21, 5, 42, 182, 0, 152, 162, 0, 131, 3, 54, 6, 21, 6, 42, 182, 0, 152, 162, 0, 113, 42]
abbrev dktX0_rivals_10 : List UInt8 := dkwX0_rivals_10 ++ dktX0_rivals_11
def dkwX0_rivals_9 : List UInt8 := [180, 0, 59, 180, 0, 180, 27, 46, 42, 180, 0, 59, 180, 0, 180, 28, 46, 96, 62, 3, 54, 4, 3]
abbrev dktX0_rivals_9 : List UInt8 := dkwX0_rivals_9 ++ dktX0_rivals_10
def dkwX0_rivals_8 : List UInt8 := [132, 3, 1, 167, 255, 105, 42, 180, 1, 48, 153, 0, 10, 42, 180, 1, 51, 154, 0, 5, 2, 172, 42]
abbrev dktX0_rivals_8 : List UInt8 := dkwX0_rivals_8 ++ dktX0_rivals_9
def dkwX0_rivals_7 : List UInt8 := [46, 42, 180, 0, 59, 180, 0, 180, 28, 46, 161, 0, 9, 4, 29, 120, 167, 0, 4, 3, 128, 181, 1, 51]
abbrev dktX0_rivals_7 : List UInt8 := dkwX0_rivals_7 ++ dktX0_rivals_8
def dkwX0_rivals_6 : List UInt8 := [161, 0, 9, 4, 29, 120, 167, 0, 4, 3, 128, 181, 1, 48, 42, 89, 180, 1, 51, 42, 180, 0, 80, 29]
abbrev dktX0_rivals_6 : List UInt8 := dkwX0_rivals_6 ++ dktX0_rivals_7
def dkwX0_rivals_5 : List UInt8 := [3, 96, 79, 42, 89, 180, 1, 48, 42, 180, 0, 80, 29, 46, 42, 180, 0, 59, 180, 0, 180, 27, 46]
abbrev dktX0_rivals_5 : List UInt8 := dkwX0_rivals_5 ++ dktX0_rivals_6
def dkwX0_rivals_4 : List UInt8 := [180, 0, 59, 180, 0, 183, 28, 46, 29, 160, 0, 15, 42, 180, 0, 59, 180, 0, 180, 28, 46, 167, 0, 4]
abbrev dktX0_rivals_4 : List UInt8 := dkwX0_rivals_4 ++ dktX0_rivals_5
def dkwX0_rivals_3 : List UInt8 := [180, 0, 183, 27, 46, 29, 160, 0, 15, 42, 180, 0, 59, 180, 0, 180, 27, 46, 167, 0, 4, 3, 96, 42]
abbrev dktX0_rivals_3 : List UInt8 := dkwX0_rivals_3 ++ dktX0_rivals_4
def dkwX0_rivals_2 : List UInt8 := [162, 0, 149, 42, 180, 0, 80, 29, 42, 180, 0, 59, 42, 180, 0, 48, 29, 182, 0, 170, 42, 180, 0, 59]
abbrev dktX0_rivals_2 : List UInt8 := dkwX0_rivals_2 ++ dktX0_rivals_3
def dkwX0_rivals_1 : List UInt8 := [160, 0, 5, 2, 172, 42, 3, 181, 1, 48, 42, 3, 181, 1, 51, 3, 62, 29, 42, 182, 0, 152]
abbrev dktX0_rivals_1 : List UInt8 := dkwX0_rivals_1 ++ dktX0_rivals_2
def dkwX0_rivals_0 : List UInt8 := [42, 3, 181, 0, 129, 42, 27, 182, 0, 177, 153, 0, 16, 42, 28, 182, 0, 177, 153, 0, 8, 27, 28]
abbrev dktX0_rivals_0 : List UInt8 := dkwX0_rivals_0 ++ dktX0_rivals_1
theorem dksX0_rivals_0 : cX0_rivals.data.toList.drop 0 = dktX0_rivals_0 := by decide +kernel
theorem dksX0_rivals_1 : cX0_rivals.data.toList.drop 23 = dktX0_rivals_1 := dk_seg dksX0_rivals_0 23 rfl rfl
theorem dksX0_rivals_2 : cX0_rivals.data.toList.drop 45 = dktX0_rivals_2 := dk_seg dksX0_rivals_1 22 rfl rfl
theorem dksX0_rivals_3 : cX0_rivals.data.toList.drop 69 = dktX0_rivals_3 := dk_seg dksX0_rivals_2 24 rfl rfl
theorem dksX0_rivals_4 : cX0_rivals.data.toList.drop 93 = dktX0_rivals_4 := dk_seg dksX0_rivals_3 24 rfl rfl
theorem dksX0_rivals_5 : cX0_rivals.data.toList.drop 117 = dktX0_rivals_5 := dk_seg dksX0_rivals_4 24 rfl rfl
theorem dksX0_rivals_6 : cX0_rivals.data.toList.drop 140 = dktX0_rivals_6 := dk_seg dksX0_rivals_5 23 rfl rfl
theorem dksX0_rivals_7 : cX0_rivals.data.toList.drop 164 = dktX0_rivals_7 := dk_seg dksX0_rivals_6 24 rfl rfl
theorem dksX0_rivals_8 : cX0_rivals.data.toList.drop 188 = dktX0_rivals_8 := dk_seg dksX0_rivals_7 24 rfl rfl
theorem dksX0_rivals_9 : cX0_rivals.data.toList.drop 211 = dktX0_rivals_9 := dk_seg dksX0_rivals_8 23 rfl rfl
theorem dksX0_rivals_10 : cX0_rivals.data.toList.drop 234 = dktX0_rivals_10 := dk_seg dksX0_rivals_9 23 rfl rfl
theorem dksX0_rivals_11 : cX0_rivals.data.toList.drop 258 = dktX0_rivals_11 := dk_seg dksX0_rivals_10 24 rfl rfl
theorem dksX0_rivals_12 : cX0_rivals.data.toList.drop 281 = dktX0_rivals_12 := dk_seg dksX0_rivals_11 23 rfl rfl
theorem dksX0_rivals_13 : cX0_rivals.data.toList.drop 305 = dktX0_rivals_13 := dk_seg dksX0_rivals_12 24 rfl rfl
theorem dksX0_rivals_14 : cX0_rivals.data.toList.drop 329 = dktX0_rivals_14 := dk_seg dksX0_rivals_13 24 rfl rfl
theorem dksX0_rivals_15 : cX0_rivals.data.toList.drop 351 = dktX0_rivals_15 := dk_seg dksX0_rivals_14 22 rfl rfl
theorem dksX0_rivals_16 : cX0_rivals.data.toList.drop 374 = dktX0_rivals_16 := dk_seg dksX0_rivals_15 23 rfl rfl
theorem dksX0_rivals_17 : cX0_rivals.data.toList.drop 396 = dktX0_rivals_17 := dk_seg dksX0_rivals_16 22 rfl rfl
theorem dksX0_rivals_18 : cX0_rivals.data.toList.drop 420 = dktX0_rivals_18 := dk_seg dksX0_rivals_17 24 rfl rfl
theorem dksX0_rivals_19 : cX0_rivals.data.toList.drop 444 = dktX0_rivals_19 := dk_seg dksX0_rivals_18 24 rfl rfl
theorem dksX0_rivals_20 : cX0_rivals.data.toList.drop 468 = dktX0_rivals_20 := dk_seg dksX0_rivals_19 24 rfl rfl
theorem dX0_rivals_0 : decode cX0_rivals 0 = .ok (.aload_n 0, 1) := dk_42 (dk_at dksX0_rivals_0 0 rfl rfl)
theorem dX0_rivals_1 : decode cX0_rivals 1 = .ok (.iconst 0, 1) := dk_3 (dk_at dksX0_rivals_0 1 rfl rfl)
theorem dX0_rivals_2 : decode cX0_rivals 2 = .ok (.putfield 129, 3) := dk_181 0 129 (dk_at dksX0_rivals_0 2 rfl rfl)
theorem dX0_rivals_5 : decode cX0_rivals 5 = .ok (.aload_n 0, 1) := dk_42 (dk_at dksX0_rivals_0 5 rfl rfl)
theorem dX0_rivals_6 : decode cX0_rivals 6 = .ok (.iload_n 1, 1) := dk_27 (dk_at dksX0_rivals_0 6 rfl rfl)
theorem dX0_rivals_7 : decode cX0_rivals 7 = .ok (.invokevirtual 177, 3) := dk_182 0 177 (dk_at dksX0_rivals_0 7 rfl rfl)
theorem dX0_rivals_10 : decode cX0_rivals 10 = .ok (.ifCond .eq 16, 3) := dk_153 0 16 (dk_at dksX0_rivals_0 10 rfl rfl)
theorem dX0_rivals_13 : decode cX0_rivals 13 = .ok (.aload_n 0, 1) := dk_42 (dk_at dksX0_rivals_0 13 rfl rfl)
theorem dX0_rivals_14 : decode cX0_rivals 14 = .ok (.iload_n 2, 1) := dk_28 (dk_at dksX0_rivals_0 14 rfl rfl)
theorem dX0_rivals_15 : decode cX0_rivals 15 = .ok (.invokevirtual 177, 3) := dk_182 0 177 (dk_at dksX0_rivals_0 15 rfl rfl)
theorem dX0_rivals_18 : decode cX0_rivals 18 = .ok (.ifCond .eq 8, 3) := dk_153 0 8 (dk_at dksX0_rivals_0 18 rfl rfl)
theorem dX0_rivals_21 : decode cX0_rivals 21 = .ok (.iload_n 1, 1) := dk_27 (dk_at dksX0_rivals_0 21 rfl rfl)
theorem dX0_rivals_22 : decode cX0_rivals 22 = .ok (.iload_n 2, 1) := dk_28 (dk_at dksX0_rivals_0 22 rfl rfl)
theorem dX0_rivals_23 : decode cX0_rivals 23 = .ok (.if_icmp .ne 5, 3) := dk_160 0 5 (dk_at dksX0_rivals_1 0 rfl rfl)
theorem dX0_rivals_26 : decode cX0_rivals 26 = .ok (.iconst (-1), 1) := dk_2 (dk_at dksX0_rivals_1 3 rfl rfl)
theorem dX0_rivals_27 : decode cX0_rivals 27 = .ok (.ireturn, 1) := dk_172 (dk_at dksX0_rivals_1 4 rfl rfl)
theorem dX0_rivals_28 : decode cX0_rivals 28 = .ok (.aload_n 0, 1) := dk_42 (dk_at dksX0_rivals_1 5 rfl rfl)
theorem dX0_rivals_29 : decode cX0_rivals 29 = .ok (.iconst 0, 1) := dk_3 (dk_at dksX0_rivals_1 6 rfl rfl)
theorem dX0_rivals_30 : decode cX0_rivals 30 = .ok (.putfield 304, 3) := dk_181 1 48 (dk_at dksX0_rivals_1 7 rfl rfl)
theorem dX0_rivals_33 : decode cX0_rivals 33 = .ok (.aload_n 0, 1) := dk_42 (dk_at dksX0_rivals_1 10 rfl rfl)
theorem dX0_rivals_34 : decode cX0_rivals 34 = .ok (.iconst 0, 1) := dk_3 (dk_at dksX0_rivals_1 11 rfl rfl)
theorem dX0_rivals_35 : decode cX0_rivals 35 = .ok (.putfield 307, 3) := dk_181 1 51 (dk_at dksX0_rivals_1 12 rfl rfl)
theorem dX0_rivals_38 : decode cX0_rivals 38 = .ok (.iconst 0, 1) := dk_3 (dk_at dksX0_rivals_1 15 rfl rfl)
theorem dX0_rivals_39 : decode cX0_rivals 39 = .ok (.istore_n 3, 1) := dk_62 (dk_at dksX0_rivals_1 16 rfl rfl)
theorem dX0_rivals_40 : decode cX0_rivals 40 = .ok (.iload_n 3, 1) := dk_29 (dk_at dksX0_rivals_1 17 rfl rfl)
theorem dX0_rivals_41 : decode cX0_rivals 41 = .ok (.aload_n 0, 1) := dk_42 (dk_at dksX0_rivals_1 18 rfl rfl)
theorem dX0_rivals_42 : decode cX0_rivals 42 = .ok (.invokevirtual 152, 3) := dk_182 0 152 (dk_at dksX0_rivals_1 19 rfl rfl)
theorem dX0_rivals_45 : decode cX0_rivals 45 = .ok (.if_icmp .ge 149, 3) := dk_162 0 149 (dk_at dksX0_rivals_2 0 rfl rfl)
theorem dX0_rivals_48 : decode cX0_rivals 48 = .ok (.aload_n 0, 1) := dk_42 (dk_at dksX0_rivals_2 3 rfl rfl)
theorem dX0_rivals_49 : decode cX0_rivals 49 = .ok (.getfield 80, 3) := dk_180 0 80 (dk_at dksX0_rivals_2 4 rfl rfl)
theorem dX0_rivals_52 : decode cX0_rivals 52 = .ok (.iload_n 3, 1) := dk_29 (dk_at dksX0_rivals_2 7 rfl rfl)
theorem dX0_rivals_53 : decode cX0_rivals 53 = .ok (.aload_n 0, 1) := dk_42 (dk_at dksX0_rivals_2 8 rfl rfl)
theorem dX0_rivals_54 : decode cX0_rivals 54 = .ok (.getfield 59, 3) := dk_180 0 59 (dk_at dksX0_rivals_2 9 rfl rfl)
theorem dX0_rivals_57 : decode cX0_rivals 57 = .ok (.aload_n 0, 1) := dk_42 (dk_at dksX0_rivals_2 12 rfl rfl)
theorem dX0_rivals_58 : decode cX0_rivals 58 = .ok (.getfield 48, 3) := dk_180 0 48 (dk_at dksX0_rivals_2 13 rfl rfl)
theorem dX0_rivals_61 : decode cX0_rivals 61 = .ok (.iload_n 3, 1) := dk_29 (dk_at dksX0_rivals_2 16 rfl rfl)
theorem dX0_rivals_62 : decode cX0_rivals 62 = .ok (.invokevirtual 170, 3) := dk_182 0 170 (dk_at dksX0_rivals_2 17 rfl rfl)
theorem dX0_rivals_65 : decode cX0_rivals 65 = .ok (.aload_n 0, 1) := dk_42 (dk_at dksX0_rivals_2 20 rfl rfl)
theorem dX0_rivals_66 : decode cX0_rivals 66 = .ok (.getfield 59, 3) := dk_180 0 59 (dk_at dksX0_rivals_2 21 rfl rfl)
theorem dX0_rivals_69 : decode cX0_rivals 69 = .ok (.getfield 183, 3) := dk_180 0 183 (dk_at dksX0_rivals_3 0 rfl rfl)
theorem dX0_rivals_72 : decode cX0_rivals 72 = .ok (.iload_n 1, 1) := dk_27 (dk_at dksX0_rivals_3 3 rfl rfl)
theorem dX0_rivals_73 : decode cX0_rivals 73 = .ok (.iaload, 1) := dk_46 (dk_at dksX0_rivals_3 4 rfl rfl)
theorem dX0_rivals_74 : decode cX0_rivals 74 = .ok (.iload_n 3, 1) := dk_29 (dk_at dksX0_rivals_3 5 rfl rfl)
theorem dX0_rivals_75 : decode cX0_rivals 75 = .ok (.if_icmp .ne 15, 3) := dk_160 0 15 (dk_at dksX0_rivals_3 6 rfl rfl)
theorem dX0_rivals_78 : decode cX0_rivals 78 = .ok (.aload_n 0, 1) := dk_42 (dk_at dksX0_rivals_3 9 rfl rfl)
theorem dX0_rivals_79 : decode cX0_rivals 79 = .ok (.getfield 59, 3) := dk_180 0 59 (dk_at dksX0_rivals_3 10 rfl rfl)
theorem dX0_rivals_82 : decode cX0_rivals 82 = .ok (.getfield 180, 3) := dk_180 0 180 (dk_at dksX0_rivals_3 13 rfl rfl)
theorem dX0_rivals_85 : decode cX0_rivals 85 = .ok (.iload_n 1, 1) := dk_27 (dk_at dksX0_rivals_3 16 rfl rfl)
theorem dX0_rivals_86 : decode cX0_rivals 86 = .ok (.iaload, 1) := dk_46 (dk_at dksX0_rivals_3 17 rfl rfl)
theorem dX0_rivals_87 : decode cX0_rivals 87 = .ok (.goto 4, 3) := dk_167 0 4 (dk_at dksX0_rivals_3 18 rfl rfl)
theorem dX0_rivals_90 : decode cX0_rivals 90 = .ok (.iconst 0, 1) := dk_3 (dk_at dksX0_rivals_3 21 rfl rfl)
theorem dX0_rivals_91 : decode cX0_rivals 91 = .ok (.iadd, 1) := dk_96 (dk_at dksX0_rivals_3 22 rfl rfl)
theorem dX0_rivals_92 : decode cX0_rivals 92 = .ok (.aload_n 0, 1) := dk_42 (dk_at dksX0_rivals_3 23 rfl rfl)
theorem dX0_rivals_93 : decode cX0_rivals 93 = .ok (.getfield 59, 3) := dk_180 0 59 (dk_at dksX0_rivals_4 0 rfl rfl)
theorem dX0_rivals_96 : decode cX0_rivals 96 = .ok (.getfield 183, 3) := dk_180 0 183 (dk_at dksX0_rivals_4 3 rfl rfl)
theorem dX0_rivals_99 : decode cX0_rivals 99 = .ok (.iload_n 2, 1) := dk_28 (dk_at dksX0_rivals_4 6 rfl rfl)
theorem dX0_rivals_100 : decode cX0_rivals 100 = .ok (.iaload, 1) := dk_46 (dk_at dksX0_rivals_4 7 rfl rfl)
theorem dX0_rivals_101 : decode cX0_rivals 101 = .ok (.iload_n 3, 1) := dk_29 (dk_at dksX0_rivals_4 8 rfl rfl)
theorem dX0_rivals_102 : decode cX0_rivals 102 = .ok (.if_icmp .ne 15, 3) := dk_160 0 15 (dk_at dksX0_rivals_4 9 rfl rfl)
theorem dX0_rivals_105 : decode cX0_rivals 105 = .ok (.aload_n 0, 1) := dk_42 (dk_at dksX0_rivals_4 12 rfl rfl)
theorem dX0_rivals_106 : decode cX0_rivals 106 = .ok (.getfield 59, 3) := dk_180 0 59 (dk_at dksX0_rivals_4 13 rfl rfl)
theorem dX0_rivals_109 : decode cX0_rivals 109 = .ok (.getfield 180, 3) := dk_180 0 180 (dk_at dksX0_rivals_4 16 rfl rfl)
theorem dX0_rivals_112 : decode cX0_rivals 112 = .ok (.iload_n 2, 1) := dk_28 (dk_at dksX0_rivals_4 19 rfl rfl)
theorem dX0_rivals_113 : decode cX0_rivals 113 = .ok (.iaload, 1) := dk_46 (dk_at dksX0_rivals_4 20 rfl rfl)
theorem dX0_rivals_114 : decode cX0_rivals 114 = .ok (.goto 4, 3) := dk_167 0 4 (dk_at dksX0_rivals_4 21 rfl rfl)
theorem dX0_rivals_117 : decode cX0_rivals 117 = .ok (.iconst 0, 1) := dk_3 (dk_at dksX0_rivals_5 0 rfl rfl)
theorem dX0_rivals_118 : decode cX0_rivals 118 = .ok (.iadd, 1) := dk_96 (dk_at dksX0_rivals_5 1 rfl rfl)
theorem dX0_rivals_119 : decode cX0_rivals 119 = .ok (.iastore, 1) := dk_79 (dk_at dksX0_rivals_5 2 rfl rfl)
theorem dX0_rivals_120 : decode cX0_rivals 120 = .ok (.aload_n 0, 1) := dk_42 (dk_at dksX0_rivals_5 3 rfl rfl)
theorem dX0_rivals_121 : decode cX0_rivals 121 = .ok (.dup, 1) := dk_89 (dk_at dksX0_rivals_5 4 rfl rfl)
theorem dX0_rivals_122 : decode cX0_rivals 122 = .ok (.getfield 304, 3) := dk_180 1 48 (dk_at dksX0_rivals_5 5 rfl rfl)
theorem dX0_rivals_125 : decode cX0_rivals 125 = .ok (.aload_n 0, 1) := dk_42 (dk_at dksX0_rivals_5 8 rfl rfl)
theorem dX0_rivals_126 : decode cX0_rivals 126 = .ok (.getfield 80, 3) := dk_180 0 80 (dk_at dksX0_rivals_5 9 rfl rfl)
theorem dX0_rivals_129 : decode cX0_rivals 129 = .ok (.iload_n 3, 1) := dk_29 (dk_at dksX0_rivals_5 12 rfl rfl)
theorem dX0_rivals_130 : decode cX0_rivals 130 = .ok (.iaload, 1) := dk_46 (dk_at dksX0_rivals_5 13 rfl rfl)
theorem dX0_rivals_131 : decode cX0_rivals 131 = .ok (.aload_n 0, 1) := dk_42 (dk_at dksX0_rivals_5 14 rfl rfl)
theorem dX0_rivals_132 : decode cX0_rivals 132 = .ok (.getfield 59, 3) := dk_180 0 59 (dk_at dksX0_rivals_5 15 rfl rfl)
theorem dX0_rivals_135 : decode cX0_rivals 135 = .ok (.getfield 180, 3) := dk_180 0 180 (dk_at dksX0_rivals_5 18 rfl rfl)
theorem dX0_rivals_138 : decode cX0_rivals 138 = .ok (.iload_n 1, 1) := dk_27 (dk_at dksX0_rivals_5 21 rfl rfl)
theorem dX0_rivals_139 : decode cX0_rivals 139 = .ok (.iaload, 1) := dk_46 (dk_at dksX0_rivals_5 22 rfl rfl)
theorem dX0_rivals_140 : decode cX0_rivals 140 = .ok (.if_icmp .lt 9, 3) := dk_161 0 9 (dk_at dksX0_rivals_6 0 rfl rfl)
theorem dX0_rivals_143 : decode cX0_rivals 143 = .ok (.iconst 1, 1) := dk_4 (dk_at dksX0_rivals_6 3 rfl rfl)
theorem dX0_rivals_144 : decode cX0_rivals 144 = .ok (.iload_n 3, 1) := dk_29 (dk_at dksX0_rivals_6 4 rfl rfl)
theorem dX0_rivals_145 : decode cX0_rivals 145 = .ok (.ishl, 1) := dk_120 (dk_at dksX0_rivals_6 5 rfl rfl)
theorem dX0_rivals_146 : decode cX0_rivals 146 = .ok (.goto 4, 3) := dk_167 0 4 (dk_at dksX0_rivals_6 6 rfl rfl)
theorem dX0_rivals_149 : decode cX0_rivals 149 = .ok (.iconst 0, 1) := dk_3 (dk_at dksX0_rivals_6 9 rfl rfl)
theorem dX0_rivals_150 : decode cX0_rivals 150 = .ok (.ior, 1) := dk_128 (dk_at dksX0_rivals_6 10 rfl rfl)
theorem dX0_rivals_151 : decode cX0_rivals 151 = .ok (.putfield 304, 3) := dk_181 1 48 (dk_at dksX0_rivals_6 11 rfl rfl)
theorem dX0_rivals_154 : decode cX0_rivals 154 = .ok (.aload_n 0, 1) := dk_42 (dk_at dksX0_rivals_6 14 rfl rfl)
theorem dX0_rivals_155 : decode cX0_rivals 155 = .ok (.dup, 1) := dk_89 (dk_at dksX0_rivals_6 15 rfl rfl)
theorem dX0_rivals_156 : decode cX0_rivals 156 = .ok (.getfield 307, 3) := dk_180 1 51 (dk_at dksX0_rivals_6 16 rfl rfl)
theorem dX0_rivals_159 : decode cX0_rivals 159 = .ok (.aload_n 0, 1) := dk_42 (dk_at dksX0_rivals_6 19 rfl rfl)
theorem dX0_rivals_160 : decode cX0_rivals 160 = .ok (.getfield 80, 3) := dk_180 0 80 (dk_at dksX0_rivals_6 20 rfl rfl)
theorem dX0_rivals_163 : decode cX0_rivals 163 = .ok (.iload_n 3, 1) := dk_29 (dk_at dksX0_rivals_6 23 rfl rfl)
theorem dX0_rivals_164 : decode cX0_rivals 164 = .ok (.iaload, 1) := dk_46 (dk_at dksX0_rivals_7 0 rfl rfl)
theorem dX0_rivals_165 : decode cX0_rivals 165 = .ok (.aload_n 0, 1) := dk_42 (dk_at dksX0_rivals_7 1 rfl rfl)
theorem dX0_rivals_166 : decode cX0_rivals 166 = .ok (.getfield 59, 3) := dk_180 0 59 (dk_at dksX0_rivals_7 2 rfl rfl)
theorem dX0_rivals_169 : decode cX0_rivals 169 = .ok (.getfield 180, 3) := dk_180 0 180 (dk_at dksX0_rivals_7 5 rfl rfl)
theorem dX0_rivals_172 : decode cX0_rivals 172 = .ok (.iload_n 2, 1) := dk_28 (dk_at dksX0_rivals_7 8 rfl rfl)
theorem dX0_rivals_173 : decode cX0_rivals 173 = .ok (.iaload, 1) := dk_46 (dk_at dksX0_rivals_7 9 rfl rfl)
theorem dX0_rivals_174 : decode cX0_rivals 174 = .ok (.if_icmp .lt 9, 3) := dk_161 0 9 (dk_at dksX0_rivals_7 10 rfl rfl)
theorem dX0_rivals_177 : decode cX0_rivals 177 = .ok (.iconst 1, 1) := dk_4 (dk_at dksX0_rivals_7 13 rfl rfl)
theorem dX0_rivals_178 : decode cX0_rivals 178 = .ok (.iload_n 3, 1) := dk_29 (dk_at dksX0_rivals_7 14 rfl rfl)
theorem dX0_rivals_179 : decode cX0_rivals 179 = .ok (.ishl, 1) := dk_120 (dk_at dksX0_rivals_7 15 rfl rfl)
theorem dX0_rivals_180 : decode cX0_rivals 180 = .ok (.goto 4, 3) := dk_167 0 4 (dk_at dksX0_rivals_7 16 rfl rfl)
theorem dX0_rivals_183 : decode cX0_rivals 183 = .ok (.iconst 0, 1) := dk_3 (dk_at dksX0_rivals_7 19 rfl rfl)
theorem dX0_rivals_184 : decode cX0_rivals 184 = .ok (.ior, 1) := dk_128 (dk_at dksX0_rivals_7 20 rfl rfl)
theorem dX0_rivals_185 : decode cX0_rivals 185 = .ok (.putfield 307, 3) := dk_181 1 51 (dk_at dksX0_rivals_7 21 rfl rfl)
theorem dX0_rivals_188 : decode cX0_rivals 188 = .ok (.iinc 3 1, 3) := dk_132 3 1 (dk_at dksX0_rivals_8 0 rfl rfl)
theorem dX0_rivals_191 : decode cX0_rivals 191 = .ok (.goto (-151), 3) := dk_167 255 105 (dk_at dksX0_rivals_8 3 rfl rfl)
theorem dX0_rivals_194 : decode cX0_rivals 194 = .ok (.aload_n 0, 1) := dk_42 (dk_at dksX0_rivals_8 6 rfl rfl)
theorem dX0_rivals_195 : decode cX0_rivals 195 = .ok (.getfield 304, 3) := dk_180 1 48 (dk_at dksX0_rivals_8 7 rfl rfl)
theorem dX0_rivals_198 : decode cX0_rivals 198 = .ok (.ifCond .eq 10, 3) := dk_153 0 10 (dk_at dksX0_rivals_8 10 rfl rfl)
theorem dX0_rivals_201 : decode cX0_rivals 201 = .ok (.aload_n 0, 1) := dk_42 (dk_at dksX0_rivals_8 13 rfl rfl)
theorem dX0_rivals_202 : decode cX0_rivals 202 = .ok (.getfield 307, 3) := dk_180 1 51 (dk_at dksX0_rivals_8 14 rfl rfl)
theorem dX0_rivals_205 : decode cX0_rivals 205 = .ok (.ifCond .ne 5, 3) := dk_154 0 5 (dk_at dksX0_rivals_8 17 rfl rfl)
theorem dX0_rivals_208 : decode cX0_rivals 208 = .ok (.iconst (-1), 1) := dk_2 (dk_at dksX0_rivals_8 20 rfl rfl)
theorem dX0_rivals_209 : decode cX0_rivals 209 = .ok (.ireturn, 1) := dk_172 (dk_at dksX0_rivals_8 21 rfl rfl)
theorem dX0_rivals_210 : decode cX0_rivals 210 = .ok (.aload_n 0, 1) := dk_42 (dk_at dksX0_rivals_8 22 rfl rfl)
theorem dX0_rivals_211 : decode cX0_rivals 211 = .ok (.getfield 59, 3) := dk_180 0 59 (dk_at dksX0_rivals_9 0 rfl rfl)
theorem dX0_rivals_214 : decode cX0_rivals 214 = .ok (.getfield 180, 3) := dk_180 0 180 (dk_at dksX0_rivals_9 3 rfl rfl)
theorem dX0_rivals_217 : decode cX0_rivals 217 = .ok (.iload_n 1, 1) := dk_27 (dk_at dksX0_rivals_9 6 rfl rfl)
theorem dX0_rivals_218 : decode cX0_rivals 218 = .ok (.iaload, 1) := dk_46 (dk_at dksX0_rivals_9 7 rfl rfl)
theorem dX0_rivals_219 : decode cX0_rivals 219 = .ok (.aload_n 0, 1) := dk_42 (dk_at dksX0_rivals_9 8 rfl rfl)
theorem dX0_rivals_220 : decode cX0_rivals 220 = .ok (.getfield 59, 3) := dk_180 0 59 (dk_at dksX0_rivals_9 9 rfl rfl)
theorem dX0_rivals_223 : decode cX0_rivals 223 = .ok (.getfield 180, 3) := dk_180 0 180 (dk_at dksX0_rivals_9 12 rfl rfl)
theorem dX0_rivals_226 : decode cX0_rivals 226 = .ok (.iload_n 2, 1) := dk_28 (dk_at dksX0_rivals_9 15 rfl rfl)
theorem dX0_rivals_227 : decode cX0_rivals 227 = .ok (.iaload, 1) := dk_46 (dk_at dksX0_rivals_9 16 rfl rfl)
theorem dX0_rivals_228 : decode cX0_rivals 228 = .ok (.iadd, 1) := dk_96 (dk_at dksX0_rivals_9 17 rfl rfl)
theorem dX0_rivals_229 : decode cX0_rivals 229 = .ok (.istore_n 3, 1) := dk_62 (dk_at dksX0_rivals_9 18 rfl rfl)
theorem dX0_rivals_230 : decode cX0_rivals 230 = .ok (.iconst 0, 1) := dk_3 (dk_at dksX0_rivals_9 19 rfl rfl)
theorem dX0_rivals_231 : decode cX0_rivals 231 = .ok (.istore 4, 2) := dk_54 4 (dk_at dksX0_rivals_9 20 rfl rfl)
theorem dX0_rivals_233 : decode cX0_rivals 233 = .ok (.iconst 0, 1) := dk_3 (dk_at dksX0_rivals_9 22 rfl rfl)
theorem dX0_rivals_234 : decode cX0_rivals 234 = .ok (.istore 5, 2) := dk_54 5 (dk_at dksX0_rivals_10 0 rfl rfl)
theorem dX0_rivals_236 : decode cX0_rivals 236 = .ok (.iload 5, 2) := dk_21 5 (dk_at dksX0_rivals_10 2 rfl rfl)
theorem dX0_rivals_238 : decode cX0_rivals 238 = .ok (.aload_n 0, 1) := dk_42 (dk_at dksX0_rivals_10 4 rfl rfl)
theorem dX0_rivals_239 : decode cX0_rivals 239 = .ok (.invokevirtual 152, 3) := dk_182 0 152 (dk_at dksX0_rivals_10 5 rfl rfl)
theorem dX0_rivals_242 : decode cX0_rivals 242 = .ok (.if_icmp .ge 131, 3) := dk_162 0 131 (dk_at dksX0_rivals_10 8 rfl rfl)
theorem dX0_rivals_245 : decode cX0_rivals 245 = .ok (.iconst 0, 1) := dk_3 (dk_at dksX0_rivals_10 11 rfl rfl)
theorem dX0_rivals_246 : decode cX0_rivals 246 = .ok (.istore 6, 2) := dk_54 6 (dk_at dksX0_rivals_10 12 rfl rfl)
theorem dX0_rivals_248 : decode cX0_rivals 248 = .ok (.iload 6, 2) := dk_21 6 (dk_at dksX0_rivals_10 14 rfl rfl)
theorem dX0_rivals_250 : decode cX0_rivals 250 = .ok (.aload_n 0, 1) := dk_42 (dk_at dksX0_rivals_10 16 rfl rfl)
theorem dX0_rivals_251 : decode cX0_rivals 251 = .ok (.invokevirtual 152, 3) := dk_182 0 152 (dk_at dksX0_rivals_10 17 rfl rfl)
theorem dX0_rivals_254 : decode cX0_rivals 254 = .ok (.if_icmp .ge 113, 3) := dk_162 0 113 (dk_at dksX0_rivals_10 20 rfl rfl)
theorem dX0_rivals_257 : decode cX0_rivals 257 = .ok (.aload_n 0, 1) := dk_42 (dk_at dksX0_rivals_10 23 rfl rfl)
theorem dX0_rivals_258 : decode cX0_rivals 258 = .ok (.getfield 80, 3) := dk_180 0 80 (dk_at dksX0_rivals_11 0 rfl rfl)
theorem dX0_rivals_261 : decode cX0_rivals 261 = .ok (.iload 5, 2) := dk_21 5 (dk_at dksX0_rivals_11 3 rfl rfl)
theorem dX0_rivals_263 : decode cX0_rivals 263 = .ok (.iaload, 1) := dk_46 (dk_at dksX0_rivals_11 5 rfl rfl)
theorem dX0_rivals_264 : decode cX0_rivals 264 = .ok (.iload_n 3, 1) := dk_29 (dk_at dksX0_rivals_11 6 rfl rfl)
theorem dX0_rivals_265 : decode cX0_rivals 265 = .ok (.if_icmp .ge 7, 3) := dk_162 0 7 (dk_at dksX0_rivals_11 7 rfl rfl)
theorem dX0_rivals_268 : decode cX0_rivals 268 = .ok (.iconst (-1), 1) := dk_2 (dk_at dksX0_rivals_11 10 rfl rfl)
theorem dX0_rivals_269 : decode cX0_rivals 269 = .ok (.goto 12, 3) := dk_167 0 12 (dk_at dksX0_rivals_11 11 rfl rfl)
theorem dX0_rivals_272 : decode cX0_rivals 272 = .ok (.aload_n 0, 1) := dk_42 (dk_at dksX0_rivals_11 14 rfl rfl)
theorem dX0_rivals_273 : decode cX0_rivals 273 = .ok (.getfield 80, 3) := dk_180 0 80 (dk_at dksX0_rivals_11 15 rfl rfl)
theorem dX0_rivals_276 : decode cX0_rivals 276 = .ok (.iload 5, 2) := dk_21 5 (dk_at dksX0_rivals_11 18 rfl rfl)
theorem dX0_rivals_278 : decode cX0_rivals 278 = .ok (.iaload, 1) := dk_46 (dk_at dksX0_rivals_11 20 rfl rfl)
theorem dX0_rivals_279 : decode cX0_rivals 279 = .ok (.iload_n 3, 1) := dk_29 (dk_at dksX0_rivals_11 21 rfl rfl)
theorem dX0_rivals_280 : decode cX0_rivals 280 = .ok (.isub, 1) := dk_100 (dk_at dksX0_rivals_11 22 rfl rfl)
theorem dX0_rivals_281 : decode cX0_rivals 281 = .ok (.istore 7, 2) := dk_54 7 (dk_at dksX0_rivals_12 0 rfl rfl)
theorem dX0_rivals_283 : decode cX0_rivals 283 = .ok (.aload_n 0, 1) := dk_42 (dk_at dksX0_rivals_12 2 rfl rfl)
theorem dX0_rivals_284 : decode cX0_rivals 284 = .ok (.getfield 85, 3) := dk_180 0 85 (dk_at dksX0_rivals_12 3 rfl rfl)
theorem dX0_rivals_287 : decode cX0_rivals 287 = .ok (.iload 5, 2) := dk_21 5 (dk_at dksX0_rivals_12 6 rfl rfl)
theorem dX0_rivals_289 : decode cX0_rivals 289 = .ok (.aaload, 1) := dk_50 (dk_at dksX0_rivals_12 8 rfl rfl)
theorem dX0_rivals_290 : decode cX0_rivals 290 = .ok (.iload 6, 2) := dk_21 6 (dk_at dksX0_rivals_12 9 rfl rfl)
theorem dX0_rivals_292 : decode cX0_rivals 292 = .ok (.iload 5, 2) := dk_21 5 (dk_at dksX0_rivals_12 11 rfl rfl)
theorem dX0_rivals_294 : decode cX0_rivals 294 = .ok (.iload 6, 2) := dk_21 6 (dk_at dksX0_rivals_12 13 rfl rfl)
theorem dX0_rivals_296 : decode cX0_rivals 296 = .ok (.if_icmp .ne 8, 3) := dk_160 0 8 (dk_at dksX0_rivals_12 15 rfl rfl)
theorem dX0_rivals_299 : decode cX0_rivals 299 = .ok (.iload 7, 2) := dk_21 7 (dk_at dksX0_rivals_12 18 rfl rfl)
theorem dX0_rivals_301 : decode cX0_rivals 301 = .ok (.goto 20, 3) := dk_167 0 20 (dk_at dksX0_rivals_12 20 rfl rfl)
theorem dX0_rivals_304 : decode cX0_rivals 304 = .ok (.aload_n 0, 1) := dk_42 (dk_at dksX0_rivals_12 23 rfl rfl)
theorem dX0_rivals_305 : decode cX0_rivals 305 = .ok (.getfield 80, 3) := dk_180 0 80 (dk_at dksX0_rivals_13 0 rfl rfl)
theorem dX0_rivals_308 : decode cX0_rivals 308 = .ok (.iload 5, 2) := dk_21 5 (dk_at dksX0_rivals_13 3 rfl rfl)
theorem dX0_rivals_310 : decode cX0_rivals 310 = .ok (.iaload, 1) := dk_46 (dk_at dksX0_rivals_13 5 rfl rfl)
theorem dX0_rivals_311 : decode cX0_rivals 311 = .ok (.aload_n 0, 1) := dk_42 (dk_at dksX0_rivals_13 6 rfl rfl)
theorem dX0_rivals_312 : decode cX0_rivals 312 = .ok (.getfield 59, 3) := dk_180 0 59 (dk_at dksX0_rivals_13 7 rfl rfl)
theorem dX0_rivals_315 : decode cX0_rivals 315 = .ok (.getfield 180, 3) := dk_180 0 180 (dk_at dksX0_rivals_13 10 rfl rfl)
theorem dX0_rivals_318 : decode cX0_rivals 318 = .ok (.iload_n 1, 1) := dk_27 (dk_at dksX0_rivals_13 13 rfl rfl)
theorem dX0_rivals_319 : decode cX0_rivals 319 = .ok (.iaload, 1) := dk_46 (dk_at dksX0_rivals_13 14 rfl rfl)
theorem dX0_rivals_320 : decode cX0_rivals 320 = .ok (.isub, 1) := dk_100 (dk_at dksX0_rivals_13 15 rfl rfl)
theorem dX0_rivals_321 : decode cX0_rivals 321 = .ok (.iastore, 1) := dk_79 (dk_at dksX0_rivals_13 16 rfl rfl)
theorem dX0_rivals_322 : decode cX0_rivals 322 = .ok (.aload_n 0, 1) := dk_42 (dk_at dksX0_rivals_13 17 rfl rfl)
theorem dX0_rivals_323 : decode cX0_rivals 323 = .ok (.getfield 88, 3) := dk_180 0 88 (dk_at dksX0_rivals_13 18 rfl rfl)
theorem dX0_rivals_326 : decode cX0_rivals 326 = .ok (.iload 5, 2) := dk_21 5 (dk_at dksX0_rivals_13 21 rfl rfl)
theorem dX0_rivals_328 : decode cX0_rivals 328 = .ok (.aaload, 1) := dk_50 (dk_at dksX0_rivals_13 23 rfl rfl)
theorem dX0_rivals_329 : decode cX0_rivals 329 = .ok (.iload 6, 2) := dk_21 6 (dk_at dksX0_rivals_14 0 rfl rfl)
theorem dX0_rivals_331 : decode cX0_rivals 331 = .ok (.iload 5, 2) := dk_21 5 (dk_at dksX0_rivals_14 2 rfl rfl)
theorem dX0_rivals_333 : decode cX0_rivals 333 = .ok (.iload 6, 2) := dk_21 6 (dk_at dksX0_rivals_14 4 rfl rfl)
theorem dX0_rivals_335 : decode cX0_rivals 335 = .ok (.if_icmp .ne 8, 3) := dk_160 0 8 (dk_at dksX0_rivals_14 6 rfl rfl)
theorem dX0_rivals_338 : decode cX0_rivals 338 = .ok (.iload 7, 2) := dk_21 7 (dk_at dksX0_rivals_14 9 rfl rfl)
theorem dX0_rivals_340 : decode cX0_rivals 340 = .ok (.goto 20, 3) := dk_167 0 20 (dk_at dksX0_rivals_14 11 rfl rfl)
theorem dX0_rivals_343 : decode cX0_rivals 343 = .ok (.aload_n 0, 1) := dk_42 (dk_at dksX0_rivals_14 14 rfl rfl)
theorem dX0_rivals_344 : decode cX0_rivals 344 = .ok (.getfield 80, 3) := dk_180 0 80 (dk_at dksX0_rivals_14 15 rfl rfl)
theorem dX0_rivals_347 : decode cX0_rivals 347 = .ok (.iload 6, 2) := dk_21 6 (dk_at dksX0_rivals_14 18 rfl rfl)
theorem dX0_rivals_349 : decode cX0_rivals 349 = .ok (.iaload, 1) := dk_46 (dk_at dksX0_rivals_14 20 rfl rfl)
theorem dX0_rivals_350 : decode cX0_rivals 350 = .ok (.aload_n 0, 1) := dk_42 (dk_at dksX0_rivals_14 21 rfl rfl)
theorem dX0_rivals_351 : decode cX0_rivals 351 = .ok (.getfield 59, 3) := dk_180 0 59 (dk_at dksX0_rivals_15 0 rfl rfl)
theorem dX0_rivals_354 : decode cX0_rivals 354 = .ok (.getfield 180, 3) := dk_180 0 180 (dk_at dksX0_rivals_15 3 rfl rfl)
theorem dX0_rivals_357 : decode cX0_rivals 357 = .ok (.iload_n 2, 1) := dk_28 (dk_at dksX0_rivals_15 6 rfl rfl)
theorem dX0_rivals_358 : decode cX0_rivals 358 = .ok (.iaload, 1) := dk_46 (dk_at dksX0_rivals_15 7 rfl rfl)
theorem dX0_rivals_359 : decode cX0_rivals 359 = .ok (.isub, 1) := dk_100 (dk_at dksX0_rivals_15 8 rfl rfl)
theorem dX0_rivals_360 : decode cX0_rivals 360 = .ok (.iastore, 1) := dk_79 (dk_at dksX0_rivals_15 9 rfl rfl)
theorem dX0_rivals_361 : decode cX0_rivals 361 = .ok (.iinc 6 1, 3) := dk_132 6 1 (dk_at dksX0_rivals_15 10 rfl rfl)
theorem dX0_rivals_364 : decode cX0_rivals 364 = .ok (.goto (-116), 3) := dk_167 255 140 (dk_at dksX0_rivals_15 13 rfl rfl)
theorem dX0_rivals_367 : decode cX0_rivals 367 = .ok (.iinc 5 1, 3) := dk_132 5 1 (dk_at dksX0_rivals_15 16 rfl rfl)
theorem dX0_rivals_370 : decode cX0_rivals 370 = .ok (.goto (-134), 3) := dk_167 255 122 (dk_at dksX0_rivals_15 19 rfl rfl)
theorem dX0_rivals_373 : decode cX0_rivals 373 = .ok (.aload_n 0, 1) := dk_42 (dk_at dksX0_rivals_15 22 rfl rfl)
theorem dX0_rivals_374 : decode cX0_rivals 374 = .ok (.invokevirtual 152, 3) := dk_182 0 152 (dk_at dksX0_rivals_16 0 rfl rfl)
theorem dX0_rivals_377 : decode cX0_rivals 377 = .ok (.iconst 1, 1) := dk_4 (dk_at dksX0_rivals_16 3 rfl rfl)
theorem dX0_rivals_378 : decode cX0_rivals 378 = .ok (.isub, 1) := dk_100 (dk_at dksX0_rivals_16 4 rfl rfl)
theorem dX0_rivals_379 : decode cX0_rivals 379 = .ok (.istore 5, 2) := dk_54 5 (dk_at dksX0_rivals_16 5 rfl rfl)
theorem dX0_rivals_381 : decode cX0_rivals 381 = .ok (.iload 5, 2) := dk_21 5 (dk_at dksX0_rivals_16 7 rfl rfl)
theorem dX0_rivals_383 : decode cX0_rivals 383 = .ok (.ifCond .lt 85, 3) := dk_155 0 85 (dk_at dksX0_rivals_16 9 rfl rfl)
theorem dX0_rivals_386 : decode cX0_rivals 386 = .ok (.aload_n 0, 1) := dk_42 (dk_at dksX0_rivals_16 12 rfl rfl)
theorem dX0_rivals_387 : decode cX0_rivals 387 = .ok (.invokevirtual 152, 3) := dk_182 0 152 (dk_at dksX0_rivals_16 13 rfl rfl)
theorem dX0_rivals_390 : decode cX0_rivals 390 = .ok (.iconst 1, 1) := dk_4 (dk_at dksX0_rivals_16 16 rfl rfl)
theorem dX0_rivals_391 : decode cX0_rivals 391 = .ok (.isub, 1) := dk_100 (dk_at dksX0_rivals_16 17 rfl rfl)
theorem dX0_rivals_392 : decode cX0_rivals 392 = .ok (.istore 6, 2) := dk_54 6 (dk_at dksX0_rivals_16 18 rfl rfl)
theorem dX0_rivals_394 : decode cX0_rivals 394 = .ok (.iload 6, 2) := dk_21 6 (dk_at dksX0_rivals_16 20 rfl rfl)
theorem dX0_rivals_396 : decode cX0_rivals 396 = .ok (.ifCond .lt 66, 3) := dk_155 0 66 (dk_at dksX0_rivals_17 0 rfl rfl)
theorem dX0_rivals_399 : decode cX0_rivals 399 = .ok (.aload_n 0, 1) := dk_42 (dk_at dksX0_rivals_17 3 rfl rfl)
theorem dX0_rivals_400 : decode cX0_rivals 400 = .ok (.getfield 304, 3) := dk_180 1 48 (dk_at dksX0_rivals_17 4 rfl rfl)
theorem dX0_rivals_403 : decode cX0_rivals 403 = .ok (.iload 5, 2) := dk_21 5 (dk_at dksX0_rivals_17 7 rfl rfl)
theorem dX0_rivals_405 : decode cX0_rivals 405 = .ok (.ishr, 1) := dk_122 (dk_at dksX0_rivals_17 9 rfl rfl)
theorem dX0_rivals_406 : decode cX0_rivals 406 = .ok (.iconst 1, 1) := dk_4 (dk_at dksX0_rivals_17 10 rfl rfl)
theorem dX0_rivals_407 : decode cX0_rivals 407 = .ok (.iand, 1) := dk_126 (dk_at dksX0_rivals_17 11 rfl rfl)
theorem dX0_rivals_408 : decode cX0_rivals 408 = .ok (.ifCond .eq 48, 3) := dk_153 0 48 (dk_at dksX0_rivals_17 12 rfl rfl)
theorem dX0_rivals_411 : decode cX0_rivals 411 = .ok (.aload_n 0, 1) := dk_42 (dk_at dksX0_rivals_17 15 rfl rfl)
theorem dX0_rivals_412 : decode cX0_rivals 412 = .ok (.getfield 307, 3) := dk_180 1 51 (dk_at dksX0_rivals_17 16 rfl rfl)
theorem dX0_rivals_415 : decode cX0_rivals 415 = .ok (.iload 6, 2) := dk_21 6 (dk_at dksX0_rivals_17 19 rfl rfl)
theorem dX0_rivals_417 : decode cX0_rivals 417 = .ok (.ishr, 1) := dk_122 (dk_at dksX0_rivals_17 21 rfl rfl)
theorem dX0_rivals_418 : decode cX0_rivals 418 = .ok (.iconst 1, 1) := dk_4 (dk_at dksX0_rivals_17 22 rfl rfl)
theorem dX0_rivals_419 : decode cX0_rivals 419 = .ok (.iand, 1) := dk_126 (dk_at dksX0_rivals_17 23 rfl rfl)
theorem dX0_rivals_420 : decode cX0_rivals 420 = .ok (.ifCond .eq 36, 3) := dk_153 0 36 (dk_at dksX0_rivals_18 0 rfl rfl)
theorem dX0_rivals_423 : decode cX0_rivals 423 = .ok (.aload_n 0, 1) := dk_42 (dk_at dksX0_rivals_18 3 rfl rfl)
theorem dX0_rivals_424 : decode cX0_rivals 424 = .ok (.iload 5, 2) := dk_21 5 (dk_at dksX0_rivals_18 4 rfl rfl)
theorem dX0_rivals_426 : decode cX0_rivals 426 = .ok (.iload 6, 2) := dk_21 6 (dk_at dksX0_rivals_18 6 rfl rfl)
theorem dX0_rivals_428 : decode cX0_rivals 428 = .ok (.invokevirtual 310, 3) := dk_182 1 54 (dk_at dksX0_rivals_18 8 rfl rfl)
theorem dX0_rivals_431 : decode cX0_rivals 431 = .ok (.ifCond .ne 6, 3) := dk_154 0 6 (dk_at dksX0_rivals_18 11 rfl rfl)
theorem dX0_rivals_434 : decode cX0_rivals 434 = .ok (.goto 22, 3) := dk_167 0 22 (dk_at dksX0_rivals_18 14 rfl rfl)
theorem dX0_rivals_437 : decode cX0_rivals 437 = .ok (.iinc 4 1, 3) := dk_132 4 1 (dk_at dksX0_rivals_18 17 rfl rfl)
theorem dX0_rivals_440 : decode cX0_rivals 440 = .ok (.aload_n 0, 1) := dk_42 (dk_at dksX0_rivals_18 20 rfl rfl)
theorem dX0_rivals_441 : decode cX0_rivals 441 = .ok (.getfield 73, 3) := dk_180 0 73 (dk_at dksX0_rivals_18 21 rfl rfl)
theorem dX0_rivals_444 : decode cX0_rivals 444 = .ok (.iconst 0, 1) := dk_3 (dk_at dksX0_rivals_19 0 rfl rfl)
theorem dX0_rivals_445 : decode cX0_rivals 445 = .ok (.iload 5, 2) := dk_21 5 (dk_at dksX0_rivals_19 1 rfl rfl)
theorem dX0_rivals_447 : decode cX0_rivals 447 = .ok (.iastore, 1) := dk_79 (dk_at dksX0_rivals_19 3 rfl rfl)
theorem dX0_rivals_448 : decode cX0_rivals 448 = .ok (.aload_n 0, 1) := dk_42 (dk_at dksX0_rivals_19 4 rfl rfl)
theorem dX0_rivals_449 : decode cX0_rivals 449 = .ok (.getfield 73, 3) := dk_180 0 73 (dk_at dksX0_rivals_19 5 rfl rfl)
theorem dX0_rivals_452 : decode cX0_rivals 452 = .ok (.iconst 1, 1) := dk_4 (dk_at dksX0_rivals_19 8 rfl rfl)
theorem dX0_rivals_453 : decode cX0_rivals 453 = .ok (.iload 6, 2) := dk_21 6 (dk_at dksX0_rivals_19 9 rfl rfl)
theorem dX0_rivals_455 : decode cX0_rivals 455 = .ok (.iastore, 1) := dk_79 (dk_at dksX0_rivals_19 11 rfl rfl)
theorem dX0_rivals_456 : decode cX0_rivals 456 = .ok (.iinc 6 (-1), 3) := dk_132 6 255 (dk_at dksX0_rivals_19 12 rfl rfl)
theorem dX0_rivals_459 : decode cX0_rivals 459 = .ok (.goto (-65), 3) := dk_167 255 191 (dk_at dksX0_rivals_19 15 rfl rfl)
theorem dX0_rivals_462 : decode cX0_rivals 462 = .ok (.iinc 5 (-1), 3) := dk_132 5 255 (dk_at dksX0_rivals_19 18 rfl rfl)
theorem dX0_rivals_465 : decode cX0_rivals 465 = .ok (.goto (-84), 3) := dk_167 255 172 (dk_at dksX0_rivals_19 21 rfl rfl)
theorem dX0_rivals_468 : decode cX0_rivals 468 = .ok (.aload_n 0, 1) := dk_42 (dk_at dksX0_rivals_20 0 rfl rfl)
theorem dX0_rivals_469 : decode cX0_rivals 469 = .ok (.iload 4, 2) := dk_21 4 (dk_at dksX0_rivals_20 1 rfl rfl)
theorem dX0_rivals_471 : decode cX0_rivals 471 = .ok (.ifCond .ne 7, 3) := dk_154 0 7 (dk_at dksX0_rivals_20 3 rfl rfl)
theorem dX0_rivals_474 : decode cX0_rivals 474 = .ok (.iconst 0, 1) := dk_3 (dk_at dksX0_rivals_20 6 rfl rfl)
theorem dX0_rivals_475 : decode cX0_rivals 475 = .ok (.goto 4, 3) := dk_167 0 4 (dk_at dksX0_rivals_20 7 rfl rfl)
theorem dX0_rivals_478 : decode cX0_rivals 478 = .ok (.iconst 2, 1) := dk_5 (dk_at dksX0_rivals_20 10 rfl rfl)
theorem dX0_rivals_479 : decode cX0_rivals 479 = .ok (.putfield 129, 3) := dk_181 0 129 (dk_at dksX0_rivals_20 11 rfl rfl)
theorem dX0_rivals_482 : decode cX0_rivals 482 = .ok (.iload 4, 2) := dk_21 4 (dk_at dksX0_rivals_20 14 rfl rfl)
theorem dX0_rivals_484 : decode cX0_rivals 484 = .ok (.ireturn, 1) := dk_172 (dk_at dksX0_rivals_20 16 rfl rfl)
abbrev cX0_rests : ByteArray := prog_1_method_54_code
def yX0_rests : MethodName := ⟨RX0, "rests", "(II)Z"⟩
def dkwX0_rests_4 : List UInt8 := [172]
abbrev dktX0_rests_4 : List UInt8 := dkwX0_rests_4 ++ []
def dkwX0_rests_3 : List UInt8 := [42, 180, 0, 88, 27, 50, 28, 46, 163, 0, 7, 4, 167, 0, 4, 3, 62, 132, 4, 1, 167, 255, 170, 29]
abbrev dktX0_rests_3 : List UInt8 := dkwX0_rests_3 ++ dktX0_rests_4
def dkwX0_rests_2 : List UInt8 := [163, 0, 39, 42, 180, 1, 51, 21, 4, 122, 4, 126, 153, 0, 23, 42, 180, 0, 88, 27, 50, 21, 4, 46]
abbrev dktX0_rests_2 : List UInt8 := dkwX0_rests_2 ++ dktX0_rests_3
def dkwX0_rests_1 : List UInt8 := [122, 4, 126, 153, 0, 23, 42, 180, 0, 85, 21, 4, 50, 28, 46, 42, 180, 0, 85, 27, 50, 28, 46]
abbrev dktX0_rests_1 : List UInt8 := dkwX0_rests_1 ++ dktX0_rests_2
def dkwX0_rests_0 : List UInt8 := [4, 62, 3, 54, 4, 21, 4, 42, 182, 0, 152, 162, 0, 83, 29, 153, 0, 71, 42, 180, 1, 48, 21, 4]
abbrev dktX0_rests_0 : List UInt8 := dkwX0_rests_0 ++ dktX0_rests_1
theorem dksX0_rests_0 : cX0_rests.data.toList.drop 0 = dktX0_rests_0 := by decide +kernel
theorem dksX0_rests_1 : cX0_rests.data.toList.drop 24 = dktX0_rests_1 := dk_seg dksX0_rests_0 24 rfl rfl
theorem dksX0_rests_2 : cX0_rests.data.toList.drop 47 = dktX0_rests_2 := dk_seg dksX0_rests_1 23 rfl rfl
theorem dksX0_rests_3 : cX0_rests.data.toList.drop 71 = dktX0_rests_3 := dk_seg dksX0_rests_2 24 rfl rfl
theorem dksX0_rests_4 : cX0_rests.data.toList.drop 95 = dktX0_rests_4 := dk_seg dksX0_rests_3 24 rfl rfl
theorem dX0_rests_0 : decode cX0_rests 0 = .ok (.iconst 1, 1) := dk_4 (dk_at dksX0_rests_0 0 rfl rfl)
theorem dX0_rests_1 : decode cX0_rests 1 = .ok (.istore_n 3, 1) := dk_62 (dk_at dksX0_rests_0 1 rfl rfl)
theorem dX0_rests_2 : decode cX0_rests 2 = .ok (.iconst 0, 1) := dk_3 (dk_at dksX0_rests_0 2 rfl rfl)
theorem dX0_rests_3 : decode cX0_rests 3 = .ok (.istore 4, 2) := dk_54 4 (dk_at dksX0_rests_0 3 rfl rfl)
theorem dX0_rests_5 : decode cX0_rests 5 = .ok (.iload 4, 2) := dk_21 4 (dk_at dksX0_rests_0 5 rfl rfl)
theorem dX0_rests_7 : decode cX0_rests 7 = .ok (.aload_n 0, 1) := dk_42 (dk_at dksX0_rests_0 7 rfl rfl)
theorem dX0_rests_8 : decode cX0_rests 8 = .ok (.invokevirtual 152, 3) := dk_182 0 152 (dk_at dksX0_rests_0 8 rfl rfl)
theorem dX0_rests_11 : decode cX0_rests 11 = .ok (.if_icmp .ge 83, 3) := dk_162 0 83 (dk_at dksX0_rests_0 11 rfl rfl)
theorem dX0_rests_14 : decode cX0_rests 14 = .ok (.iload_n 3, 1) := dk_29 (dk_at dksX0_rests_0 14 rfl rfl)
theorem dX0_rests_15 : decode cX0_rests 15 = .ok (.ifCond .eq 71, 3) := dk_153 0 71 (dk_at dksX0_rests_0 15 rfl rfl)
theorem dX0_rests_18 : decode cX0_rests 18 = .ok (.aload_n 0, 1) := dk_42 (dk_at dksX0_rests_0 18 rfl rfl)
theorem dX0_rests_19 : decode cX0_rests 19 = .ok (.getfield 304, 3) := dk_180 1 48 (dk_at dksX0_rests_0 19 rfl rfl)
theorem dX0_rests_22 : decode cX0_rests 22 = .ok (.iload 4, 2) := dk_21 4 (dk_at dksX0_rests_0 22 rfl rfl)
theorem dX0_rests_24 : decode cX0_rests 24 = .ok (.ishr, 1) := dk_122 (dk_at dksX0_rests_1 0 rfl rfl)
theorem dX0_rests_25 : decode cX0_rests 25 = .ok (.iconst 1, 1) := dk_4 (dk_at dksX0_rests_1 1 rfl rfl)
theorem dX0_rests_26 : decode cX0_rests 26 = .ok (.iand, 1) := dk_126 (dk_at dksX0_rests_1 2 rfl rfl)
theorem dX0_rests_27 : decode cX0_rests 27 = .ok (.ifCond .eq 23, 3) := dk_153 0 23 (dk_at dksX0_rests_1 3 rfl rfl)
theorem dX0_rests_30 : decode cX0_rests 30 = .ok (.aload_n 0, 1) := dk_42 (dk_at dksX0_rests_1 6 rfl rfl)
theorem dX0_rests_31 : decode cX0_rests 31 = .ok (.getfield 85, 3) := dk_180 0 85 (dk_at dksX0_rests_1 7 rfl rfl)
theorem dX0_rests_34 : decode cX0_rests 34 = .ok (.iload 4, 2) := dk_21 4 (dk_at dksX0_rests_1 10 rfl rfl)
theorem dX0_rests_36 : decode cX0_rests 36 = .ok (.aaload, 1) := dk_50 (dk_at dksX0_rests_1 12 rfl rfl)
theorem dX0_rests_37 : decode cX0_rests 37 = .ok (.iload_n 2, 1) := dk_28 (dk_at dksX0_rests_1 13 rfl rfl)
theorem dX0_rests_38 : decode cX0_rests 38 = .ok (.iaload, 1) := dk_46 (dk_at dksX0_rests_1 14 rfl rfl)
theorem dX0_rests_39 : decode cX0_rests 39 = .ok (.aload_n 0, 1) := dk_42 (dk_at dksX0_rests_1 15 rfl rfl)
theorem dX0_rests_40 : decode cX0_rests 40 = .ok (.getfield 85, 3) := dk_180 0 85 (dk_at dksX0_rests_1 16 rfl rfl)
theorem dX0_rests_43 : decode cX0_rests 43 = .ok (.iload_n 1, 1) := dk_27 (dk_at dksX0_rests_1 19 rfl rfl)
theorem dX0_rests_44 : decode cX0_rests 44 = .ok (.aaload, 1) := dk_50 (dk_at dksX0_rests_1 20 rfl rfl)
theorem dX0_rests_45 : decode cX0_rests 45 = .ok (.iload_n 2, 1) := dk_28 (dk_at dksX0_rests_1 21 rfl rfl)
theorem dX0_rests_46 : decode cX0_rests 46 = .ok (.iaload, 1) := dk_46 (dk_at dksX0_rests_1 22 rfl rfl)
theorem dX0_rests_47 : decode cX0_rests 47 = .ok (.if_icmp .gt 39, 3) := dk_163 0 39 (dk_at dksX0_rests_2 0 rfl rfl)
theorem dX0_rests_50 : decode cX0_rests 50 = .ok (.aload_n 0, 1) := dk_42 (dk_at dksX0_rests_2 3 rfl rfl)
theorem dX0_rests_51 : decode cX0_rests 51 = .ok (.getfield 307, 3) := dk_180 1 51 (dk_at dksX0_rests_2 4 rfl rfl)
theorem dX0_rests_54 : decode cX0_rests 54 = .ok (.iload 4, 2) := dk_21 4 (dk_at dksX0_rests_2 7 rfl rfl)
theorem dX0_rests_56 : decode cX0_rests 56 = .ok (.ishr, 1) := dk_122 (dk_at dksX0_rests_2 9 rfl rfl)
theorem dX0_rests_57 : decode cX0_rests 57 = .ok (.iconst 1, 1) := dk_4 (dk_at dksX0_rests_2 10 rfl rfl)
theorem dX0_rests_58 : decode cX0_rests 58 = .ok (.iand, 1) := dk_126 (dk_at dksX0_rests_2 11 rfl rfl)
theorem dX0_rests_59 : decode cX0_rests 59 = .ok (.ifCond .eq 23, 3) := dk_153 0 23 (dk_at dksX0_rests_2 12 rfl rfl)
theorem dX0_rests_62 : decode cX0_rests 62 = .ok (.aload_n 0, 1) := dk_42 (dk_at dksX0_rests_2 15 rfl rfl)
theorem dX0_rests_63 : decode cX0_rests 63 = .ok (.getfield 88, 3) := dk_180 0 88 (dk_at dksX0_rests_2 16 rfl rfl)
theorem dX0_rests_66 : decode cX0_rests 66 = .ok (.iload_n 1, 1) := dk_27 (dk_at dksX0_rests_2 19 rfl rfl)
theorem dX0_rests_67 : decode cX0_rests 67 = .ok (.aaload, 1) := dk_50 (dk_at dksX0_rests_2 20 rfl rfl)
theorem dX0_rests_68 : decode cX0_rests 68 = .ok (.iload 4, 2) := dk_21 4 (dk_at dksX0_rests_2 21 rfl rfl)
theorem dX0_rests_70 : decode cX0_rests 70 = .ok (.iaload, 1) := dk_46 (dk_at dksX0_rests_2 23 rfl rfl)
theorem dX0_rests_71 : decode cX0_rests 71 = .ok (.aload_n 0, 1) := dk_42 (dk_at dksX0_rests_3 0 rfl rfl)
theorem dX0_rests_72 : decode cX0_rests 72 = .ok (.getfield 88, 3) := dk_180 0 88 (dk_at dksX0_rests_3 1 rfl rfl)
theorem dX0_rests_75 : decode cX0_rests 75 = .ok (.iload_n 1, 1) := dk_27 (dk_at dksX0_rests_3 4 rfl rfl)
theorem dX0_rests_76 : decode cX0_rests 76 = .ok (.aaload, 1) := dk_50 (dk_at dksX0_rests_3 5 rfl rfl)
theorem dX0_rests_77 : decode cX0_rests 77 = .ok (.iload_n 2, 1) := dk_28 (dk_at dksX0_rests_3 6 rfl rfl)
theorem dX0_rests_78 : decode cX0_rests 78 = .ok (.iaload, 1) := dk_46 (dk_at dksX0_rests_3 7 rfl rfl)
theorem dX0_rests_79 : decode cX0_rests 79 = .ok (.if_icmp .gt 7, 3) := dk_163 0 7 (dk_at dksX0_rests_3 8 rfl rfl)
theorem dX0_rests_82 : decode cX0_rests 82 = .ok (.iconst 1, 1) := dk_4 (dk_at dksX0_rests_3 11 rfl rfl)
theorem dX0_rests_83 : decode cX0_rests 83 = .ok (.goto 4, 3) := dk_167 0 4 (dk_at dksX0_rests_3 12 rfl rfl)
theorem dX0_rests_86 : decode cX0_rests 86 = .ok (.iconst 0, 1) := dk_3 (dk_at dksX0_rests_3 15 rfl rfl)
theorem dX0_rests_87 : decode cX0_rests 87 = .ok (.istore_n 3, 1) := dk_62 (dk_at dksX0_rests_3 16 rfl rfl)
theorem dX0_rests_88 : decode cX0_rests 88 = .ok (.iinc 4 1, 3) := dk_132 4 1 (dk_at dksX0_rests_3 17 rfl rfl)
theorem dX0_rests_91 : decode cX0_rests 91 = .ok (.goto (-86), 3) := dk_167 255 170 (dk_at dksX0_rests_3 20 rfl rfl)
theorem dX0_rests_94 : decode cX0_rests 94 = .ok (.iload_n 3, 1) := dk_29 (dk_at dksX0_rests_3 23 rfl rfl)
theorem dX0_rests_95 : decode cX0_rests 95 = .ok (.ireturn, 1) := dk_172 (dk_at dksX0_rests_4 0 rfl rfl)
abbrev cX0_lies : ByteArray := prog_1_method_56_code
def yX0_lies : MethodName := ⟨RX0, "lies", "(I)I"⟩
def dkwX0_lies_1 : List UInt8 := [16, 254, 172]
abbrev dktX0_lies_1 : List UInt8 := dkwX0_lies_1 ++ []
def dkwX0_lies_0 : List UInt8 := [27, 3, 42, 180, 0, 129, 4, 100, 184, 0, 154, 153, 0, 12, 42, 180, 0, 73, 27, 46, 167, 0, 5]
abbrev dktX0_lies_0 : List UInt8 := dkwX0_lies_0 ++ dktX0_lies_1
theorem dksX0_lies_0 : cX0_lies.data.toList.drop 0 = dktX0_lies_0 := by decide +kernel
theorem dksX0_lies_1 : cX0_lies.data.toList.drop 23 = dktX0_lies_1 := dk_seg dksX0_lies_0 23 rfl rfl
theorem dX0_lies_0 : decode cX0_lies 0 = .ok (.iload_n 1, 1) := dk_27 (dk_at dksX0_lies_0 0 rfl rfl)
theorem dX0_lies_1 : decode cX0_lies 1 = .ok (.iconst 0, 1) := dk_3 (dk_at dksX0_lies_0 1 rfl rfl)
theorem dX0_lies_2 : decode cX0_lies 2 = .ok (.aload_n 0, 1) := dk_42 (dk_at dksX0_lies_0 2 rfl rfl)
theorem dX0_lies_3 : decode cX0_lies 3 = .ok (.getfield 129, 3) := dk_180 0 129 (dk_at dksX0_lies_0 3 rfl rfl)
theorem dX0_lies_6 : decode cX0_lies 6 = .ok (.iconst 1, 1) := dk_4 (dk_at dksX0_lies_0 6 rfl rfl)
theorem dX0_lies_7 : decode cX0_lies 7 = .ok (.isub, 1) := dk_100 (dk_at dksX0_lies_0 7 rfl rfl)
theorem dX0_lies_8 : decode cX0_lies 8 = .ok (.invokestatic 154, 3) := dk_184 0 154 (dk_at dksX0_lies_0 8 rfl rfl)
theorem dX0_lies_11 : decode cX0_lies 11 = .ok (.ifCond .eq 12, 3) := dk_153 0 12 (dk_at dksX0_lies_0 11 rfl rfl)
theorem dX0_lies_14 : decode cX0_lies 14 = .ok (.aload_n 0, 1) := dk_42 (dk_at dksX0_lies_0 14 rfl rfl)
theorem dX0_lies_15 : decode cX0_lies 15 = .ok (.getfield 73, 3) := dk_180 0 73 (dk_at dksX0_lies_0 15 rfl rfl)
theorem dX0_lies_18 : decode cX0_lies 18 = .ok (.iload_n 1, 1) := dk_27 (dk_at dksX0_lies_0 18 rfl rfl)
theorem dX0_lies_19 : decode cX0_lies 19 = .ok (.iaload, 1) := dk_46 (dk_at dksX0_lies_0 19 rfl rfl)
theorem dX0_lies_20 : decode cX0_lies 20 = .ok (.goto 5, 3) := dk_167 0 5 (dk_at dksX0_lies_0 20 rfl rfl)
theorem dX0_lies_23 : decode cX0_lies 23 = .ok (.bipush (-2), 2) := dk_16 254 (dk_at dksX0_lies_1 0 rfl rfl)
theorem dX0_lies_25 : decode cX0_lies 25 = .ok (.ireturn, 1) := dk_172 (dk_at dksX0_lies_1 2 rfl rfl)
abbrev cX0_held : ByteArray := prog_1_method_59_code
def yX0_held : MethodName := ⟨RX0, "held", "(IIZ)I"⟩
def dkwX0_held_2 : List UInt8 := [183, 1, 67, 182, 1, 70, 87, 42, 180, 0, 94, 182, 0, 3, 4, 100, 172]
abbrev dktX0_held_2 : List UInt8 := dkwX0_held_2 ++ []
def dkwX0_held_1 : List UInt8 := [182, 0, 3, 16, 30, 160, 0, 5, 2, 172, 42, 180, 0, 94, 187, 1, 65, 89, 42, 27, 28, 29]
abbrev dktX0_held_1 : List UInt8 := dkwX0_held_1 ++ dktX0_held_2
def dkwX0_held_0 : List UInt8 := [42, 27, 182, 1, 62, 153, 0, 25, 28, 3, 16, 6, 184, 0, 154, 153, 0, 15, 42, 180, 0, 94]
abbrev dktX0_held_0 : List UInt8 := dkwX0_held_0 ++ dktX0_held_1
theorem dksX0_held_0 : cX0_held.data.toList.drop 0 = dktX0_held_0 := by decide +kernel
theorem dksX0_held_1 : cX0_held.data.toList.drop 22 = dktX0_held_1 := dk_seg dksX0_held_0 22 rfl rfl
theorem dksX0_held_2 : cX0_held.data.toList.drop 44 = dktX0_held_2 := dk_seg dksX0_held_1 22 rfl rfl
theorem dX0_held_0 : decode cX0_held 0 = .ok (.aload_n 0, 1) := dk_42 (dk_at dksX0_held_0 0 rfl rfl)
theorem dX0_held_1 : decode cX0_held 1 = .ok (.iload_n 1, 1) := dk_27 (dk_at dksX0_held_0 1 rfl rfl)
theorem dX0_held_2 : decode cX0_held 2 = .ok (.invokevirtual 318, 3) := dk_182 1 62 (dk_at dksX0_held_0 2 rfl rfl)
theorem dX0_held_5 : decode cX0_held 5 = .ok (.ifCond .eq 25, 3) := dk_153 0 25 (dk_at dksX0_held_0 5 rfl rfl)
theorem dX0_held_8 : decode cX0_held 8 = .ok (.iload_n 2, 1) := dk_28 (dk_at dksX0_held_0 8 rfl rfl)
theorem dX0_held_9 : decode cX0_held 9 = .ok (.iconst 0, 1) := dk_3 (dk_at dksX0_held_0 9 rfl rfl)
theorem dX0_held_10 : decode cX0_held 10 = .ok (.bipush 6, 2) := dk_16 6 (dk_at dksX0_held_0 10 rfl rfl)
theorem dX0_held_12 : decode cX0_held 12 = .ok (.invokestatic 154, 3) := dk_184 0 154 (dk_at dksX0_held_0 12 rfl rfl)
theorem dX0_held_15 : decode cX0_held 15 = .ok (.ifCond .eq 15, 3) := dk_153 0 15 (dk_at dksX0_held_0 15 rfl rfl)
theorem dX0_held_18 : decode cX0_held 18 = .ok (.aload_n 0, 1) := dk_42 (dk_at dksX0_held_0 18 rfl rfl)
theorem dX0_held_19 : decode cX0_held 19 = .ok (.getfield 94, 3) := dk_180 0 94 (dk_at dksX0_held_0 19 rfl rfl)
theorem dX0_held_22 : decode cX0_held 22 = .ok (.invokevirtual 3, 3) := dk_182 0 3 (dk_at dksX0_held_1 0 rfl rfl)
theorem dX0_held_25 : decode cX0_held 25 = .ok (.bipush 30, 2) := dk_16 30 (dk_at dksX0_held_1 3 rfl rfl)
theorem dX0_held_27 : decode cX0_held 27 = .ok (.if_icmp .ne 5, 3) := dk_160 0 5 (dk_at dksX0_held_1 5 rfl rfl)
theorem dX0_held_30 : decode cX0_held 30 = .ok (.iconst (-1), 1) := dk_2 (dk_at dksX0_held_1 8 rfl rfl)
theorem dX0_held_31 : decode cX0_held 31 = .ok (.ireturn, 1) := dk_172 (dk_at dksX0_held_1 9 rfl rfl)
theorem dX0_held_32 : decode cX0_held 32 = .ok (.aload_n 0, 1) := dk_42 (dk_at dksX0_held_1 10 rfl rfl)
theorem dX0_held_33 : decode cX0_held 33 = .ok (.getfield 94, 3) := dk_180 0 94 (dk_at dksX0_held_1 11 rfl rfl)
theorem dX0_held_36 : decode cX0_held 36 = .ok (.new 321, 3) := dk_187 1 65 (dk_at dksX0_held_1 14 rfl rfl)
theorem dX0_held_39 : decode cX0_held 39 = .ok (.dup, 1) := dk_89 (dk_at dksX0_held_1 17 rfl rfl)
theorem dX0_held_40 : decode cX0_held 40 = .ok (.aload_n 0, 1) := dk_42 (dk_at dksX0_held_1 18 rfl rfl)
theorem dX0_held_41 : decode cX0_held 41 = .ok (.iload_n 1, 1) := dk_27 (dk_at dksX0_held_1 19 rfl rfl)
theorem dX0_held_42 : decode cX0_held 42 = .ok (.iload_n 2, 1) := dk_28 (dk_at dksX0_held_1 20 rfl rfl)
theorem dX0_held_43 : decode cX0_held 43 = .ok (.iload_n 3, 1) := dk_29 (dk_at dksX0_held_1 21 rfl rfl)
theorem dX0_held_44 : decode cX0_held 44 = .ok (.invokespecial 323, 3) := dk_183 1 67 (dk_at dksX0_held_2 0 rfl rfl)
theorem dX0_held_47 : decode cX0_held 47 = .ok (.invokevirtual 326, 3) := dk_182 1 70 (dk_at dksX0_held_2 3 rfl rfl)
theorem dX0_held_50 : decode cX0_held 50 = .ok (.pop, 1) := dk_87 (dk_at dksX0_held_2 6 rfl rfl)
theorem dX0_held_51 : decode cX0_held 51 = .ok (.aload_n 0, 1) := dk_42 (dk_at dksX0_held_2 7 rfl rfl)
theorem dX0_held_52 : decode cX0_held 52 = .ok (.getfield 94, 3) := dk_180 0 94 (dk_at dksX0_held_2 8 rfl rfl)
theorem dX0_held_55 : decode cX0_held 55 = .ok (.invokevirtual 3, 3) := dk_182 0 3 (dk_at dksX0_held_2 11 rfl rfl)
theorem dX0_held_58 : decode cX0_held 58 = .ok (.iconst 1, 1) := dk_4 (dk_at dksX0_held_2 14 rfl rfl)
theorem dX0_held_59 : decode cX0_held 59 = .ok (.isub, 1) := dk_100 (dk_at dksX0_held_2 15 rfl rfl)
theorem dX0_held_60 : decode cX0_held 60 = .ok (.ireturn, 1) := dk_172 (dk_at dksX0_held_2 16 rfl rfl)
abbrev cX0_isOther : ByteArray := prog_1_method_58_code
def yX0_isOther : MethodName := ⟨RX0, "isOther", "(I)Z"⟩
def dkwX0_isOther_0 : List UInt8 := [27, 3, 42, 180, 0, 48, 180, 0, 146, 182, 0, 3, 5, 100, 184, 0, 154, 172]
abbrev dktX0_isOther_0 : List UInt8 := dkwX0_isOther_0 ++ []
theorem dksX0_isOther_0 : cX0_isOther.data.toList.drop 0 = dktX0_isOther_0 := by decide +kernel
theorem dX0_isOther_0 : decode cX0_isOther 0 = .ok (.iload_n 1, 1) := dk_27 (dk_at dksX0_isOther_0 0 rfl rfl)
theorem dX0_isOther_1 : decode cX0_isOther 1 = .ok (.iconst 0, 1) := dk_3 (dk_at dksX0_isOther_0 1 rfl rfl)
theorem dX0_isOther_2 : decode cX0_isOther 2 = .ok (.aload_n 0, 1) := dk_42 (dk_at dksX0_isOther_0 2 rfl rfl)
theorem dX0_isOther_3 : decode cX0_isOther 3 = .ok (.getfield 48, 3) := dk_180 0 48 (dk_at dksX0_isOther_0 3 rfl rfl)
theorem dX0_isOther_6 : decode cX0_isOther 6 = .ok (.getfield 146, 3) := dk_180 0 146 (dk_at dksX0_isOther_0 6 rfl rfl)
theorem dX0_isOther_9 : decode cX0_isOther 9 = .ok (.invokevirtual 3, 3) := dk_182 0 3 (dk_at dksX0_isOther_0 9 rfl rfl)
theorem dX0_isOther_12 : decode cX0_isOther 12 = .ok (.iconst 2, 1) := dk_5 (dk_at dksX0_isOther_0 12 rfl rfl)
theorem dX0_isOther_13 : decode cX0_isOther 13 = .ok (.isub, 1) := dk_100 (dk_at dksX0_isOther_0 13 rfl rfl)
theorem dX0_isOther_14 : decode cX0_isOther 14 = .ok (.invokestatic 154, 3) := dk_184 0 154 (dk_at dksX0_isOther_0 14 rfl rfl)
theorem dX0_isOther_17 : decode cX0_isOther 17 = .ok (.ireturn, 1) := dk_172 (dk_at dksX0_isOther_0 17 rfl rfl)
abbrev cX0_untell : ByteArray := prog_1_method_60_code
def yX0_untell : MethodName := ⟨RX0, "untell", "(I)Z"⟩
def dkwX0_untell_1 : List UInt8 := [182, 0, 9, 192, 1, 65, 182, 1, 73, 153, 0, 7, 4, 167, 0, 4, 3, 172]
abbrev dktX0_untell_1 : List UInt8 := dkwX0_untell_1 ++ []
def dkwX0_untell_0 : List UInt8 := [27, 3, 42, 180, 0, 94, 182, 0, 3, 4, 100, 184, 0, 154, 153, 0, 24, 42, 180, 0, 94, 27]
abbrev dktX0_untell_0 : List UInt8 := dkwX0_untell_0 ++ dktX0_untell_1
theorem dksX0_untell_0 : cX0_untell.data.toList.drop 0 = dktX0_untell_0 := by decide +kernel
theorem dksX0_untell_1 : cX0_untell.data.toList.drop 22 = dktX0_untell_1 := dk_seg dksX0_untell_0 22 rfl rfl
theorem dX0_untell_0 : decode cX0_untell 0 = .ok (.iload_n 1, 1) := dk_27 (dk_at dksX0_untell_0 0 rfl rfl)
theorem dX0_untell_1 : decode cX0_untell 1 = .ok (.iconst 0, 1) := dk_3 (dk_at dksX0_untell_0 1 rfl rfl)
theorem dX0_untell_2 : decode cX0_untell 2 = .ok (.aload_n 0, 1) := dk_42 (dk_at dksX0_untell_0 2 rfl rfl)
theorem dX0_untell_3 : decode cX0_untell 3 = .ok (.getfield 94, 3) := dk_180 0 94 (dk_at dksX0_untell_0 3 rfl rfl)
theorem dX0_untell_6 : decode cX0_untell 6 = .ok (.invokevirtual 3, 3) := dk_182 0 3 (dk_at dksX0_untell_0 6 rfl rfl)
theorem dX0_untell_9 : decode cX0_untell 9 = .ok (.iconst 1, 1) := dk_4 (dk_at dksX0_untell_0 9 rfl rfl)
theorem dX0_untell_10 : decode cX0_untell 10 = .ok (.isub, 1) := dk_100 (dk_at dksX0_untell_0 10 rfl rfl)
theorem dX0_untell_11 : decode cX0_untell 11 = .ok (.invokestatic 154, 3) := dk_184 0 154 (dk_at dksX0_untell_0 11 rfl rfl)
theorem dX0_untell_14 : decode cX0_untell 14 = .ok (.ifCond .eq 24, 3) := dk_153 0 24 (dk_at dksX0_untell_0 14 rfl rfl)
theorem dX0_untell_17 : decode cX0_untell 17 = .ok (.aload_n 0, 1) := dk_42 (dk_at dksX0_untell_0 17 rfl rfl)
theorem dX0_untell_18 : decode cX0_untell 18 = .ok (.getfield 94, 3) := dk_180 0 94 (dk_at dksX0_untell_0 18 rfl rfl)
theorem dX0_untell_21 : decode cX0_untell 21 = .ok (.iload_n 1, 1) := dk_27 (dk_at dksX0_untell_0 21 rfl rfl)
theorem dX0_untell_22 : decode cX0_untell 22 = .ok (.invokevirtual 9, 3) := dk_182 0 9 (dk_at dksX0_untell_1 0 rfl rfl)
theorem dX0_untell_25 : decode cX0_untell 25 = .ok (.checkcast 321, 3) := dk_192 1 65 (dk_at dksX0_untell_1 3 rfl rfl)
theorem dX0_untell_28 : decode cX0_untell 28 = .ok (.invokevirtual 329, 3) := dk_182 1 73 (dk_at dksX0_untell_1 6 rfl rfl)
theorem dX0_untell_31 : decode cX0_untell 31 = .ok (.ifCond .eq 7, 3) := dk_153 0 7 (dk_at dksX0_untell_1 9 rfl rfl)
theorem dX0_untell_34 : decode cX0_untell 34 = .ok (.iconst 1, 1) := dk_4 (dk_at dksX0_untell_1 12 rfl rfl)
theorem dX0_untell_35 : decode cX0_untell 35 = .ok (.goto 4, 3) := dk_167 0 4 (dk_at dksX0_untell_1 13 rfl rfl)
theorem dX0_untell_38 : decode cX0_untell 38 = .ok (.iconst 0, 1) := dk_3 (dk_at dksX0_untell_1 16 rfl rfl)
theorem dX0_untell_39 : decode cX0_untell 39 = .ok (.ireturn, 1) := dk_172 (dk_at dksX0_untell_1 17 rfl rfl)
abbrev cX0_later : ByteArray := prog_1_method_61_code
def yX0_later : MethodName := ⟨RX0, "later", "(I)I"⟩
def dkwX0_later_1 : List UInt8 := [172, 42, 89, 180, 1, 77, 27, 96, 181, 1, 77, 42, 180, 1, 77, 172]
abbrev dktX0_later_1 : List UInt8 := dkwX0_later_1 ++ []
def dkwX0_later_0 : List UInt8 := [27, 155, 0, 22, 27, 17, 3, 232, 163, 0, 15, 42, 180, 1, 77, 27, 96, 19, 1, 80, 164, 0, 5, 2]
abbrev dktX0_later_0 : List UInt8 := dkwX0_later_0 ++ dktX0_later_1
theorem dksX0_later_0 : cX0_later.data.toList.drop 0 = dktX0_later_0 := by decide +kernel
theorem dksX0_later_1 : cX0_later.data.toList.drop 24 = dktX0_later_1 := dk_seg dksX0_later_0 24 rfl rfl
theorem dX0_later_0 : decode cX0_later 0 = .ok (.iload_n 1, 1) := dk_27 (dk_at dksX0_later_0 0 rfl rfl)
theorem dX0_later_1 : decode cX0_later 1 = .ok (.ifCond .lt 22, 3) := dk_155 0 22 (dk_at dksX0_later_0 1 rfl rfl)
theorem dX0_later_4 : decode cX0_later 4 = .ok (.iload_n 1, 1) := dk_27 (dk_at dksX0_later_0 4 rfl rfl)
theorem dX0_later_5 : decode cX0_later 5 = .ok (.sipush 1000, 3) := dk_17 3 232 (dk_at dksX0_later_0 5 rfl rfl)
theorem dX0_later_8 : decode cX0_later 8 = .ok (.if_icmp .gt 15, 3) := dk_163 0 15 (dk_at dksX0_later_0 8 rfl rfl)
theorem dX0_later_11 : decode cX0_later 11 = .ok (.aload_n 0, 1) := dk_42 (dk_at dksX0_later_0 11 rfl rfl)
theorem dX0_later_12 : decode cX0_later 12 = .ok (.getfield 333, 3) := dk_180 1 77 (dk_at dksX0_later_0 12 rfl rfl)
theorem dX0_later_15 : decode cX0_later 15 = .ok (.iload_n 1, 1) := dk_27 (dk_at dksX0_later_0 15 rfl rfl)
theorem dX0_later_16 : decode cX0_later 16 = .ok (.iadd, 1) := dk_96 (dk_at dksX0_later_0 16 rfl rfl)
theorem dX0_later_17 : decode cX0_later 17 = .ok (.ldc_w 336, 3) := dk_19 1 80 (dk_at dksX0_later_0 17 rfl rfl)
theorem dX0_later_20 : decode cX0_later 20 = .ok (.if_icmp .le 5, 3) := dk_164 0 5 (dk_at dksX0_later_0 20 rfl rfl)
theorem dX0_later_23 : decode cX0_later 23 = .ok (.iconst (-1), 1) := dk_2 (dk_at dksX0_later_0 23 rfl rfl)
theorem dX0_later_24 : decode cX0_later 24 = .ok (.ireturn, 1) := dk_172 (dk_at dksX0_later_1 0 rfl rfl)
theorem dX0_later_25 : decode cX0_later 25 = .ok (.aload_n 0, 1) := dk_42 (dk_at dksX0_later_1 1 rfl rfl)
theorem dX0_later_26 : decode cX0_later 26 = .ok (.dup, 1) := dk_89 (dk_at dksX0_later_1 2 rfl rfl)
theorem dX0_later_27 : decode cX0_later 27 = .ok (.getfield 333, 3) := dk_180 1 77 (dk_at dksX0_later_1 3 rfl rfl)
theorem dX0_later_30 : decode cX0_later 30 = .ok (.iload_n 1, 1) := dk_27 (dk_at dksX0_later_1 6 rfl rfl)
theorem dX0_later_31 : decode cX0_later 31 = .ok (.iadd, 1) := dk_96 (dk_at dksX0_later_1 7 rfl rfl)
theorem dX0_later_32 : decode cX0_later 32 = .ok (.putfield 333, 3) := dk_181 1 77 (dk_at dksX0_later_1 8 rfl rfl)
theorem dX0_later_35 : decode cX0_later 35 = .ok (.aload_n 0, 1) := dk_42 (dk_at dksX0_later_1 11 rfl rfl)
theorem dX0_later_36 : decode cX0_later 36 = .ok (.getfield 333, 3) := dk_180 1 77 (dk_at dksX0_later_1 12 rfl rfl)
theorem dX0_later_39 : decode cX0_later 39 = .ok (.ireturn, 1) := dk_172 (dk_at dksX0_later_1 15 rfl rfl)
abbrev cX0_fits : ByteArray := prog_1_method_63_code
def yX0_fits : MethodName := ⟨RX0, "fits", "(I)I"⟩
def dkwX0_fits_0 : List UInt8 := [42, 27, 182, 1, 84, 172]
abbrev dktX0_fits_0 : List UInt8 := dkwX0_fits_0 ++ []
theorem dksX0_fits_0 : cX0_fits.data.toList.drop 0 = dktX0_fits_0 := by decide +kernel
theorem dX0_fits_0 : decode cX0_fits 0 = .ok (.aload_n 0, 1) := dk_42 (dk_at dksX0_fits_0 0 rfl rfl)
theorem dX0_fits_1 : decode cX0_fits 1 = .ok (.iload_n 1, 1) := dk_27 (dk_at dksX0_fits_0 1 rfl rfl)
theorem dX0_fits_2 : decode cX0_fits 2 = .ok (.invokevirtual 340, 3) := dk_182 1 84 (dk_at dksX0_fits_0 2 rfl rfl)
theorem dX0_fits_5 : decode cX0_fits 5 = .ok (.ireturn, 1) := dk_172 (dk_at dksX0_fits_0 5 rfl rfl)
abbrev cX0_layFits : ByteArray := prog_1_method_62_code
def yX0_layFits : MethodName := ⟨RX0, "layFits", "(I)I"⟩
def dkwX0_layFits_4 : List UInt8 := [153, 0, 7, 4, 167, 0, 4, 3, 96, 61, 132, 3, 1, 167, 255, 157, 28, 172]
abbrev dktX0_layFits_4 : List UInt8 := dkwX0_layFits_4 ++ []
def dkwX0_layFits_3 : List UInt8 := [192, 1, 65, 29, 27, 182, 1, 81, 84, 132, 4, 1, 167, 255, 209, 28, 42, 180, 0, 98, 29, 51]
abbrev dktX0_layFits_3 : List UInt8 := dkwX0_layFits_3 ++ dktX0_layFits_4
def dkwX0_layFits_2 : List UInt8 := [180, 0, 98, 29, 51, 153, 0, 32, 42, 180, 0, 98, 29, 42, 180, 0, 94, 21, 4, 182, 0, 9]
abbrev dktX0_layFits_2 : List UInt8 := dkwX0_layFits_2 ++ dktX0_layFits_3
def dkwX0_layFits_1 : List UInt8 := [180, 0, 98, 29, 4, 84, 3, 54, 4, 21, 4, 42, 180, 0, 94, 182, 0, 3, 162, 0, 41, 42]
abbrev dktX0_layFits_1 : List UInt8 := dkwX0_layFits_1 ++ dktX0_layFits_2
def dkwX0_layFits_0 : List UInt8 := [3, 61, 3, 62, 29, 16, 63, 163, 0, 99, 42, 180, 0, 48, 180, 0, 146, 182, 0, 3, 158, 0, 86, 42]
abbrev dktX0_layFits_0 : List UInt8 := dkwX0_layFits_0 ++ dktX0_layFits_1
theorem dksX0_layFits_0 : cX0_layFits.data.toList.drop 0 = dktX0_layFits_0 := by decide +kernel
theorem dksX0_layFits_1 : cX0_layFits.data.toList.drop 24 = dktX0_layFits_1 := dk_seg dksX0_layFits_0 24 rfl rfl
theorem dksX0_layFits_2 : cX0_layFits.data.toList.drop 46 = dktX0_layFits_2 := dk_seg dksX0_layFits_1 22 rfl rfl
theorem dksX0_layFits_3 : cX0_layFits.data.toList.drop 68 = dktX0_layFits_3 := dk_seg dksX0_layFits_2 22 rfl rfl
theorem dksX0_layFits_4 : cX0_layFits.data.toList.drop 90 = dktX0_layFits_4 := dk_seg dksX0_layFits_3 22 rfl rfl
theorem dX0_layFits_0 : decode cX0_layFits 0 = .ok (.iconst 0, 1) := dk_3 (dk_at dksX0_layFits_0 0 rfl rfl)
theorem dX0_layFits_1 : decode cX0_layFits 1 = .ok (.istore_n 2, 1) := dk_61 (dk_at dksX0_layFits_0 1 rfl rfl)
theorem dX0_layFits_2 : decode cX0_layFits 2 = .ok (.iconst 0, 1) := dk_3 (dk_at dksX0_layFits_0 2 rfl rfl)
theorem dX0_layFits_3 : decode cX0_layFits 3 = .ok (.istore_n 3, 1) := dk_62 (dk_at dksX0_layFits_0 3 rfl rfl)
theorem dX0_layFits_4 : decode cX0_layFits 4 = .ok (.iload_n 3, 1) := dk_29 (dk_at dksX0_layFits_0 4 rfl rfl)
theorem dX0_layFits_5 : decode cX0_layFits 5 = .ok (.bipush 63, 2) := dk_16 63 (dk_at dksX0_layFits_0 5 rfl rfl)
theorem dX0_layFits_7 : decode cX0_layFits 7 = .ok (.if_icmp .gt 99, 3) := dk_163 0 99 (dk_at dksX0_layFits_0 7 rfl rfl)
theorem dX0_layFits_10 : decode cX0_layFits 10 = .ok (.aload_n 0, 1) := dk_42 (dk_at dksX0_layFits_0 10 rfl rfl)
theorem dX0_layFits_11 : decode cX0_layFits 11 = .ok (.getfield 48, 3) := dk_180 0 48 (dk_at dksX0_layFits_0 11 rfl rfl)
theorem dX0_layFits_14 : decode cX0_layFits 14 = .ok (.getfield 146, 3) := dk_180 0 146 (dk_at dksX0_layFits_0 14 rfl rfl)
theorem dX0_layFits_17 : decode cX0_layFits 17 = .ok (.invokevirtual 3, 3) := dk_182 0 3 (dk_at dksX0_layFits_0 17 rfl rfl)
theorem dX0_layFits_20 : decode cX0_layFits 20 = .ok (.ifCond .le 86, 3) := dk_158 0 86 (dk_at dksX0_layFits_0 20 rfl rfl)
theorem dX0_layFits_23 : decode cX0_layFits 23 = .ok (.aload_n 0, 1) := dk_42 (dk_at dksX0_layFits_0 23 rfl rfl)
theorem dX0_layFits_24 : decode cX0_layFits 24 = .ok (.getfield 98, 3) := dk_180 0 98 (dk_at dksX0_layFits_1 0 rfl rfl)
theorem dX0_layFits_27 : decode cX0_layFits 27 = .ok (.iload_n 3, 1) := dk_29 (dk_at dksX0_layFits_1 3 rfl rfl)
theorem dX0_layFits_28 : decode cX0_layFits 28 = .ok (.iconst 1, 1) := dk_4 (dk_at dksX0_layFits_1 4 rfl rfl)
theorem dX0_layFits_29 : decode cX0_layFits 29 = .ok (.bastore, 1) := dk_84 (dk_at dksX0_layFits_1 5 rfl rfl)
theorem dX0_layFits_30 : decode cX0_layFits 30 = .ok (.iconst 0, 1) := dk_3 (dk_at dksX0_layFits_1 6 rfl rfl)
theorem dX0_layFits_31 : decode cX0_layFits 31 = .ok (.istore 4, 2) := dk_54 4 (dk_at dksX0_layFits_1 7 rfl rfl)
theorem dX0_layFits_33 : decode cX0_layFits 33 = .ok (.iload 4, 2) := dk_21 4 (dk_at dksX0_layFits_1 9 rfl rfl)
theorem dX0_layFits_35 : decode cX0_layFits 35 = .ok (.aload_n 0, 1) := dk_42 (dk_at dksX0_layFits_1 11 rfl rfl)
theorem dX0_layFits_36 : decode cX0_layFits 36 = .ok (.getfield 94, 3) := dk_180 0 94 (dk_at dksX0_layFits_1 12 rfl rfl)
theorem dX0_layFits_39 : decode cX0_layFits 39 = .ok (.invokevirtual 3, 3) := dk_182 0 3 (dk_at dksX0_layFits_1 15 rfl rfl)
theorem dX0_layFits_42 : decode cX0_layFits 42 = .ok (.if_icmp .ge 41, 3) := dk_162 0 41 (dk_at dksX0_layFits_1 18 rfl rfl)
theorem dX0_layFits_45 : decode cX0_layFits 45 = .ok (.aload_n 0, 1) := dk_42 (dk_at dksX0_layFits_1 21 rfl rfl)
theorem dX0_layFits_46 : decode cX0_layFits 46 = .ok (.getfield 98, 3) := dk_180 0 98 (dk_at dksX0_layFits_2 0 rfl rfl)
theorem dX0_layFits_49 : decode cX0_layFits 49 = .ok (.iload_n 3, 1) := dk_29 (dk_at dksX0_layFits_2 3 rfl rfl)
theorem dX0_layFits_50 : decode cX0_layFits 50 = .ok (.baload, 1) := dk_51 (dk_at dksX0_layFits_2 4 rfl rfl)
theorem dX0_layFits_51 : decode cX0_layFits 51 = .ok (.ifCond .eq 32, 3) := dk_153 0 32 (dk_at dksX0_layFits_2 5 rfl rfl)
theorem dX0_layFits_54 : decode cX0_layFits 54 = .ok (.aload_n 0, 1) := dk_42 (dk_at dksX0_layFits_2 8 rfl rfl)
theorem dX0_layFits_55 : decode cX0_layFits 55 = .ok (.getfield 98, 3) := dk_180 0 98 (dk_at dksX0_layFits_2 9 rfl rfl)
theorem dX0_layFits_58 : decode cX0_layFits 58 = .ok (.iload_n 3, 1) := dk_29 (dk_at dksX0_layFits_2 12 rfl rfl)
theorem dX0_layFits_59 : decode cX0_layFits 59 = .ok (.aload_n 0, 1) := dk_42 (dk_at dksX0_layFits_2 13 rfl rfl)
theorem dX0_layFits_60 : decode cX0_layFits 60 = .ok (.getfield 94, 3) := dk_180 0 94 (dk_at dksX0_layFits_2 14 rfl rfl)
theorem dX0_layFits_63 : decode cX0_layFits 63 = .ok (.iload 4, 2) := dk_21 4 (dk_at dksX0_layFits_2 17 rfl rfl)
theorem dX0_layFits_65 : decode cX0_layFits 65 = .ok (.invokevirtual 9, 3) := dk_182 0 9 (dk_at dksX0_layFits_2 19 rfl rfl)
theorem dX0_layFits_68 : decode cX0_layFits 68 = .ok (.checkcast 321, 3) := dk_192 1 65 (dk_at dksX0_layFits_3 0 rfl rfl)
theorem dX0_layFits_71 : decode cX0_layFits 71 = .ok (.iload_n 3, 1) := dk_29 (dk_at dksX0_layFits_3 3 rfl rfl)
theorem dX0_layFits_72 : decode cX0_layFits 72 = .ok (.iload_n 1, 1) := dk_27 (dk_at dksX0_layFits_3 4 rfl rfl)
theorem dX0_layFits_73 : decode cX0_layFits 73 = .ok (.invokevirtual 337, 3) := dk_182 1 81 (dk_at dksX0_layFits_3 5 rfl rfl)
theorem dX0_layFits_76 : decode cX0_layFits 76 = .ok (.bastore, 1) := dk_84 (dk_at dksX0_layFits_3 8 rfl rfl)
theorem dX0_layFits_77 : decode cX0_layFits 77 = .ok (.iinc 4 1, 3) := dk_132 4 1 (dk_at dksX0_layFits_3 9 rfl rfl)
theorem dX0_layFits_80 : decode cX0_layFits 80 = .ok (.goto (-47), 3) := dk_167 255 209 (dk_at dksX0_layFits_3 12 rfl rfl)
theorem dX0_layFits_83 : decode cX0_layFits 83 = .ok (.iload_n 2, 1) := dk_28 (dk_at dksX0_layFits_3 15 rfl rfl)
theorem dX0_layFits_84 : decode cX0_layFits 84 = .ok (.aload_n 0, 1) := dk_42 (dk_at dksX0_layFits_3 16 rfl rfl)
theorem dX0_layFits_85 : decode cX0_layFits 85 = .ok (.getfield 98, 3) := dk_180 0 98 (dk_at dksX0_layFits_3 17 rfl rfl)
theorem dX0_layFits_88 : decode cX0_layFits 88 = .ok (.iload_n 3, 1) := dk_29 (dk_at dksX0_layFits_3 20 rfl rfl)
theorem dX0_layFits_89 : decode cX0_layFits 89 = .ok (.baload, 1) := dk_51 (dk_at dksX0_layFits_3 21 rfl rfl)
theorem dX0_layFits_90 : decode cX0_layFits 90 = .ok (.ifCond .eq 7, 3) := dk_153 0 7 (dk_at dksX0_layFits_4 0 rfl rfl)
theorem dX0_layFits_93 : decode cX0_layFits 93 = .ok (.iconst 1, 1) := dk_4 (dk_at dksX0_layFits_4 3 rfl rfl)
theorem dX0_layFits_94 : decode cX0_layFits 94 = .ok (.goto 4, 3) := dk_167 0 4 (dk_at dksX0_layFits_4 4 rfl rfl)
theorem dX0_layFits_97 : decode cX0_layFits 97 = .ok (.iconst 0, 1) := dk_3 (dk_at dksX0_layFits_4 7 rfl rfl)
theorem dX0_layFits_98 : decode cX0_layFits 98 = .ok (.iadd, 1) := dk_96 (dk_at dksX0_layFits_4 8 rfl rfl)
theorem dX0_layFits_99 : decode cX0_layFits 99 = .ok (.istore_n 2, 1) := dk_61 (dk_at dksX0_layFits_4 9 rfl rfl)
theorem dX0_layFits_100 : decode cX0_layFits 100 = .ok (.iinc 3 1, 3) := dk_132 3 1 (dk_at dksX0_layFits_4 10 rfl rfl)
theorem dX0_layFits_103 : decode cX0_layFits 103 = .ok (.goto (-99), 3) := dk_167 255 157 (dk_at dksX0_layFits_4 13 rfl rfl)
theorem dX0_layFits_106 : decode cX0_layFits 106 = .ok (.iload_n 2, 1) := dk_28 (dk_at dksX0_layFits_4 16 rfl rfl)
theorem dX0_layFits_107 : decode cX0_layFits 107 = .ok (.ireturn, 1) := dk_172 (dk_at dksX0_layFits_4 17 rfl rfl)
abbrev cX0_sharedAsTold : ByteArray := prog_1_method_57_code
def yX0_sharedAsTold : MethodName := ⟨RX0, "sharedAsTold", "(II)I"⟩
def dkwX0_sharedAsTold_0 : List UInt8 := [27, 42, 180, 0, 48, 180, 0, 146, 28, 182, 0, 9, 192, 1, 58, 180, 1, 60, 184, 1, 19, 172]
abbrev dktX0_sharedAsTold_0 : List UInt8 := dkwX0_sharedAsTold_0 ++ []
theorem dksX0_sharedAsTold_0 : cX0_sharedAsTold.data.toList.drop 0 = dktX0_sharedAsTold_0 := by decide +kernel
theorem dX0_sharedAsTold_0 : decode cX0_sharedAsTold 0 = .ok (.iload_n 1, 1) := dk_27 (dk_at dksX0_sharedAsTold_0 0 rfl rfl)
theorem dX0_sharedAsTold_1 : decode cX0_sharedAsTold 1 = .ok (.aload_n 0, 1) := dk_42 (dk_at dksX0_sharedAsTold_0 1 rfl rfl)
theorem dX0_sharedAsTold_2 : decode cX0_sharedAsTold 2 = .ok (.getfield 48, 3) := dk_180 0 48 (dk_at dksX0_sharedAsTold_0 2 rfl rfl)
theorem dX0_sharedAsTold_5 : decode cX0_sharedAsTold 5 = .ok (.getfield 146, 3) := dk_180 0 146 (dk_at dksX0_sharedAsTold_0 5 rfl rfl)
theorem dX0_sharedAsTold_8 : decode cX0_sharedAsTold 8 = .ok (.iload_n 2, 1) := dk_28 (dk_at dksX0_sharedAsTold_0 8 rfl rfl)
theorem dX0_sharedAsTold_9 : decode cX0_sharedAsTold 9 = .ok (.invokevirtual 9, 3) := dk_182 0 9 (dk_at dksX0_sharedAsTold_0 9 rfl rfl)
theorem dX0_sharedAsTold_12 : decode cX0_sharedAsTold 12 = .ok (.checkcast 314, 3) := dk_192 1 58 (dk_at dksX0_sharedAsTold_0 12 rfl rfl)
theorem dX0_sharedAsTold_15 : decode cX0_sharedAsTold 15 = .ok (.getfield 316, 3) := dk_180 1 60 (dk_at dksX0_sharedAsTold_0 15 rfl rfl)
theorem dX0_sharedAsTold_18 : decode cX0_sharedAsTold 18 = .ok (.invokestatic 275, 3) := dk_184 1 19 (dk_at dksX0_sharedAsTold_0 18 rfl rfl)
theorem dX0_sharedAsTold_21 : decode cX0_sharedAsTold 21 = .ok (.ireturn, 1) := dk_172 (dk_at dksX0_sharedAsTold_0 21 rfl rfl)
abbrev cX0_sure : ByteArray := prog_1_method_64_code
def yX0_sure : MethodName := ⟨RX0, "sure", "(II)I"⟩
def dkwX0_sure_4 : List UInt8 := [172]
abbrev dktX0_sure_4 : List UInt8 := dkwX0_sure_4 ++ []
def dkwX0_sure_3 : List UInt8 := [167, 0, 24, 21, 4, 29, 160, 0, 7, 4, 167, 0, 14, 21, 4, 154, 0, 7, 3, 167, 0, 5, 16, 254]
abbrev dktX0_sure_3 : List UInt8 := dkwX0_sure_3 ++ dktX0_sure_4
def dkwX0_sure_2 : List UInt8 := [21, 5, 27, 122, 4, 126, 167, 0, 4, 3, 96, 54, 4, 132, 5, 1, 167, 255, 217, 29, 154, 0, 7, 2]
abbrev dktX0_sure_2 : List UInt8 := dkwX0_sure_2 ++ dktX0_sure_3
def dkwX0_sure_1 : List UInt8 := [21, 5, 16, 63, 163, 0, 38, 29, 158, 0, 34, 21, 4, 42, 180, 0, 98, 21, 5, 51, 153, 0, 12]
abbrev dktX0_sure_1 : List UInt8 := dkwX0_sure_1 ++ dktX0_sure_2
def dkwX0_sure_0 : List UInt8 := [27, 3, 8, 184, 0, 154, 154, 0, 5, 2, 172, 42, 28, 182, 1, 84, 62, 3, 54, 4, 3, 54, 5]
abbrev dktX0_sure_0 : List UInt8 := dkwX0_sure_0 ++ dktX0_sure_1
theorem dksX0_sure_0 : cX0_sure.data.toList.drop 0 = dktX0_sure_0 := by decide +kernel
theorem dksX0_sure_1 : cX0_sure.data.toList.drop 23 = dktX0_sure_1 := dk_seg dksX0_sure_0 23 rfl rfl
theorem dksX0_sure_2 : cX0_sure.data.toList.drop 46 = dktX0_sure_2 := dk_seg dksX0_sure_1 23 rfl rfl
theorem dksX0_sure_3 : cX0_sure.data.toList.drop 70 = dktX0_sure_3 := dk_seg dksX0_sure_2 24 rfl rfl
theorem dksX0_sure_4 : cX0_sure.data.toList.drop 94 = dktX0_sure_4 := dk_seg dksX0_sure_3 24 rfl rfl
theorem dX0_sure_0 : decode cX0_sure 0 = .ok (.iload_n 1, 1) := dk_27 (dk_at dksX0_sure_0 0 rfl rfl)
theorem dX0_sure_1 : decode cX0_sure 1 = .ok (.iconst 0, 1) := dk_3 (dk_at dksX0_sure_0 1 rfl rfl)
theorem dX0_sure_2 : decode cX0_sure 2 = .ok (.iconst 5, 1) := dk_8 (dk_at dksX0_sure_0 2 rfl rfl)
theorem dX0_sure_3 : decode cX0_sure 3 = .ok (.invokestatic 154, 3) := dk_184 0 154 (dk_at dksX0_sure_0 3 rfl rfl)
theorem dX0_sure_6 : decode cX0_sure 6 = .ok (.ifCond .ne 5, 3) := dk_154 0 5 (dk_at dksX0_sure_0 6 rfl rfl)
theorem dX0_sure_9 : decode cX0_sure 9 = .ok (.iconst (-1), 1) := dk_2 (dk_at dksX0_sure_0 9 rfl rfl)
theorem dX0_sure_10 : decode cX0_sure 10 = .ok (.ireturn, 1) := dk_172 (dk_at dksX0_sure_0 10 rfl rfl)
theorem dX0_sure_11 : decode cX0_sure 11 = .ok (.aload_n 0, 1) := dk_42 (dk_at dksX0_sure_0 11 rfl rfl)
theorem dX0_sure_12 : decode cX0_sure 12 = .ok (.iload_n 2, 1) := dk_28 (dk_at dksX0_sure_0 12 rfl rfl)
theorem dX0_sure_13 : decode cX0_sure 13 = .ok (.invokevirtual 340, 3) := dk_182 1 84 (dk_at dksX0_sure_0 13 rfl rfl)
theorem dX0_sure_16 : decode cX0_sure 16 = .ok (.istore_n 3, 1) := dk_62 (dk_at dksX0_sure_0 16 rfl rfl)
theorem dX0_sure_17 : decode cX0_sure 17 = .ok (.iconst 0, 1) := dk_3 (dk_at dksX0_sure_0 17 rfl rfl)
theorem dX0_sure_18 : decode cX0_sure 18 = .ok (.istore 4, 2) := dk_54 4 (dk_at dksX0_sure_0 18 rfl rfl)
theorem dX0_sure_20 : decode cX0_sure 20 = .ok (.iconst 0, 1) := dk_3 (dk_at dksX0_sure_0 20 rfl rfl)
theorem dX0_sure_21 : decode cX0_sure 21 = .ok (.istore 5, 2) := dk_54 5 (dk_at dksX0_sure_0 21 rfl rfl)
theorem dX0_sure_23 : decode cX0_sure 23 = .ok (.iload 5, 2) := dk_21 5 (dk_at dksX0_sure_1 0 rfl rfl)
theorem dX0_sure_25 : decode cX0_sure 25 = .ok (.bipush 63, 2) := dk_16 63 (dk_at dksX0_sure_1 2 rfl rfl)
theorem dX0_sure_27 : decode cX0_sure 27 = .ok (.if_icmp .gt 38, 3) := dk_163 0 38 (dk_at dksX0_sure_1 4 rfl rfl)
theorem dX0_sure_30 : decode cX0_sure 30 = .ok (.iload_n 3, 1) := dk_29 (dk_at dksX0_sure_1 7 rfl rfl)
theorem dX0_sure_31 : decode cX0_sure 31 = .ok (.ifCond .le 34, 3) := dk_158 0 34 (dk_at dksX0_sure_1 8 rfl rfl)
theorem dX0_sure_34 : decode cX0_sure 34 = .ok (.iload 4, 2) := dk_21 4 (dk_at dksX0_sure_1 11 rfl rfl)
theorem dX0_sure_36 : decode cX0_sure 36 = .ok (.aload_n 0, 1) := dk_42 (dk_at dksX0_sure_1 13 rfl rfl)
theorem dX0_sure_37 : decode cX0_sure 37 = .ok (.getfield 98, 3) := dk_180 0 98 (dk_at dksX0_sure_1 14 rfl rfl)
theorem dX0_sure_40 : decode cX0_sure 40 = .ok (.iload 5, 2) := dk_21 5 (dk_at dksX0_sure_1 17 rfl rfl)
theorem dX0_sure_42 : decode cX0_sure 42 = .ok (.baload, 1) := dk_51 (dk_at dksX0_sure_1 19 rfl rfl)
theorem dX0_sure_43 : decode cX0_sure 43 = .ok (.ifCond .eq 12, 3) := dk_153 0 12 (dk_at dksX0_sure_1 20 rfl rfl)
theorem dX0_sure_46 : decode cX0_sure 46 = .ok (.iload 5, 2) := dk_21 5 (dk_at dksX0_sure_2 0 rfl rfl)
theorem dX0_sure_48 : decode cX0_sure 48 = .ok (.iload_n 1, 1) := dk_27 (dk_at dksX0_sure_2 2 rfl rfl)
theorem dX0_sure_49 : decode cX0_sure 49 = .ok (.ishr, 1) := dk_122 (dk_at dksX0_sure_2 3 rfl rfl)
theorem dX0_sure_50 : decode cX0_sure 50 = .ok (.iconst 1, 1) := dk_4 (dk_at dksX0_sure_2 4 rfl rfl)
theorem dX0_sure_51 : decode cX0_sure 51 = .ok (.iand, 1) := dk_126 (dk_at dksX0_sure_2 5 rfl rfl)
theorem dX0_sure_52 : decode cX0_sure 52 = .ok (.goto 4, 3) := dk_167 0 4 (dk_at dksX0_sure_2 6 rfl rfl)
theorem dX0_sure_55 : decode cX0_sure 55 = .ok (.iconst 0, 1) := dk_3 (dk_at dksX0_sure_2 9 rfl rfl)
theorem dX0_sure_56 : decode cX0_sure 56 = .ok (.iadd, 1) := dk_96 (dk_at dksX0_sure_2 10 rfl rfl)
theorem dX0_sure_57 : decode cX0_sure 57 = .ok (.istore 4, 2) := dk_54 4 (dk_at dksX0_sure_2 11 rfl rfl)
theorem dX0_sure_59 : decode cX0_sure 59 = .ok (.iinc 5 1, 3) := dk_132 5 1 (dk_at dksX0_sure_2 13 rfl rfl)
theorem dX0_sure_62 : decode cX0_sure 62 = .ok (.goto (-39), 3) := dk_167 255 217 (dk_at dksX0_sure_2 16 rfl rfl)
theorem dX0_sure_65 : decode cX0_sure 65 = .ok (.iload_n 3, 1) := dk_29 (dk_at dksX0_sure_2 19 rfl rfl)
theorem dX0_sure_66 : decode cX0_sure 66 = .ok (.ifCond .ne 7, 3) := dk_154 0 7 (dk_at dksX0_sure_2 20 rfl rfl)
theorem dX0_sure_69 : decode cX0_sure 69 = .ok (.iconst (-1), 1) := dk_2 (dk_at dksX0_sure_2 23 rfl rfl)
theorem dX0_sure_70 : decode cX0_sure 70 = .ok (.goto 24, 3) := dk_167 0 24 (dk_at dksX0_sure_3 0 rfl rfl)
theorem dX0_sure_73 : decode cX0_sure 73 = .ok (.iload 4, 2) := dk_21 4 (dk_at dksX0_sure_3 3 rfl rfl)
theorem dX0_sure_75 : decode cX0_sure 75 = .ok (.iload_n 3, 1) := dk_29 (dk_at dksX0_sure_3 5 rfl rfl)
theorem dX0_sure_76 : decode cX0_sure 76 = .ok (.if_icmp .ne 7, 3) := dk_160 0 7 (dk_at dksX0_sure_3 6 rfl rfl)
theorem dX0_sure_79 : decode cX0_sure 79 = .ok (.iconst 1, 1) := dk_4 (dk_at dksX0_sure_3 9 rfl rfl)
theorem dX0_sure_80 : decode cX0_sure 80 = .ok (.goto 14, 3) := dk_167 0 14 (dk_at dksX0_sure_3 10 rfl rfl)
theorem dX0_sure_83 : decode cX0_sure 83 = .ok (.iload 4, 2) := dk_21 4 (dk_at dksX0_sure_3 13 rfl rfl)
theorem dX0_sure_85 : decode cX0_sure 85 = .ok (.ifCond .ne 7, 3) := dk_154 0 7 (dk_at dksX0_sure_3 15 rfl rfl)
theorem dX0_sure_88 : decode cX0_sure 88 = .ok (.iconst 0, 1) := dk_3 (dk_at dksX0_sure_3 18 rfl rfl)
theorem dX0_sure_89 : decode cX0_sure 89 = .ok (.goto 5, 3) := dk_167 0 5 (dk_at dksX0_sure_3 19 rfl rfl)
theorem dX0_sure_92 : decode cX0_sure 92 = .ok (.bipush (-2), 2) := dk_16 254 (dk_at dksX0_sure_3 22 rfl rfl)
theorem dX0_sure_94 : decode cX0_sure 94 = .ok (.ireturn, 1) := dk_172 (dk_at dksX0_sure_4 0 rfl rfl)
abbrev cX0_ask : ByteArray := prog_1_method_66_code
def yX0_ask : MethodName := ⟨RX0, "ask", "(II)I"⟩
def dkwX0_ask_3 : List UInt8 := [27, 154, 0, 7, 29, 167, 0, 8, 42, 29, 182, 1, 90, 172]
abbrev dktX0_ask_3 : List UInt8 := dkwX0_ask_3 ++ []
def dkwX0_ask_2 : List UInt8 := [182, 1, 90, 42, 29, 182, 1, 90, 162, 0, 8, 21, 4, 167, 0, 4, 29, 62, 132, 4, 1, 167, 255, 223]
abbrev dktX0_ask_2 : List UInt8 := dkwX0_ask_2 ++ dktX0_ask_3
def dkwX0_ask_1 : List UInt8 := [154, 0, 5, 2, 172, 3, 62, 4, 54, 4, 42, 21, 4, 182, 1, 62, 153, 0, 30, 42, 21, 4]
abbrev dktX0_ask_1 : List UInt8 := dkwX0_ask_1 ++ dktX0_ask_2
def dkwX0_ask_0 : List UInt8 := [27, 3, 4, 184, 0, 154, 153, 0, 19, 42, 3, 182, 1, 62, 153, 0, 11, 42, 28, 182, 1, 84]
abbrev dktX0_ask_0 : List UInt8 := dkwX0_ask_0 ++ dktX0_ask_1
theorem dksX0_ask_0 : cX0_ask.data.toList.drop 0 = dktX0_ask_0 := by decide +kernel
theorem dksX0_ask_1 : cX0_ask.data.toList.drop 22 = dktX0_ask_1 := dk_seg dksX0_ask_0 22 rfl rfl
theorem dksX0_ask_2 : cX0_ask.data.toList.drop 44 = dktX0_ask_2 := dk_seg dksX0_ask_1 22 rfl rfl
theorem dksX0_ask_3 : cX0_ask.data.toList.drop 68 = dktX0_ask_3 := dk_seg dksX0_ask_2 24 rfl rfl
theorem dX0_ask_0 : decode cX0_ask 0 = .ok (.iload_n 1, 1) := dk_27 (dk_at dksX0_ask_0 0 rfl rfl)
theorem dX0_ask_1 : decode cX0_ask 1 = .ok (.iconst 0, 1) := dk_3 (dk_at dksX0_ask_0 1 rfl rfl)
theorem dX0_ask_2 : decode cX0_ask 2 = .ok (.iconst 1, 1) := dk_4 (dk_at dksX0_ask_0 2 rfl rfl)
theorem dX0_ask_3 : decode cX0_ask 3 = .ok (.invokestatic 154, 3) := dk_184 0 154 (dk_at dksX0_ask_0 3 rfl rfl)
theorem dX0_ask_6 : decode cX0_ask 6 = .ok (.ifCond .eq 19, 3) := dk_153 0 19 (dk_at dksX0_ask_0 6 rfl rfl)
theorem dX0_ask_9 : decode cX0_ask 9 = .ok (.aload_n 0, 1) := dk_42 (dk_at dksX0_ask_0 9 rfl rfl)
theorem dX0_ask_10 : decode cX0_ask 10 = .ok (.iconst 0, 1) := dk_3 (dk_at dksX0_ask_0 10 rfl rfl)
theorem dX0_ask_11 : decode cX0_ask 11 = .ok (.invokevirtual 318, 3) := dk_182 1 62 (dk_at dksX0_ask_0 11 rfl rfl)
theorem dX0_ask_14 : decode cX0_ask 14 = .ok (.ifCond .eq 11, 3) := dk_153 0 11 (dk_at dksX0_ask_0 14 rfl rfl)
theorem dX0_ask_17 : decode cX0_ask 17 = .ok (.aload_n 0, 1) := dk_42 (dk_at dksX0_ask_0 17 rfl rfl)
theorem dX0_ask_18 : decode cX0_ask 18 = .ok (.iload_n 2, 1) := dk_28 (dk_at dksX0_ask_0 18 rfl rfl)
theorem dX0_ask_19 : decode cX0_ask 19 = .ok (.invokevirtual 340, 3) := dk_182 1 84 (dk_at dksX0_ask_0 19 rfl rfl)
theorem dX0_ask_22 : decode cX0_ask 22 = .ok (.ifCond .ne 5, 3) := dk_154 0 5 (dk_at dksX0_ask_1 0 rfl rfl)
theorem dX0_ask_25 : decode cX0_ask 25 = .ok (.iconst (-1), 1) := dk_2 (dk_at dksX0_ask_1 3 rfl rfl)
theorem dX0_ask_26 : decode cX0_ask 26 = .ok (.ireturn, 1) := dk_172 (dk_at dksX0_ask_1 4 rfl rfl)
theorem dX0_ask_27 : decode cX0_ask 27 = .ok (.iconst 0, 1) := dk_3 (dk_at dksX0_ask_1 5 rfl rfl)
theorem dX0_ask_28 : decode cX0_ask 28 = .ok (.istore_n 3, 1) := dk_62 (dk_at dksX0_ask_1 6 rfl rfl)
theorem dX0_ask_29 : decode cX0_ask 29 = .ok (.iconst 1, 1) := dk_4 (dk_at dksX0_ask_1 7 rfl rfl)
theorem dX0_ask_30 : decode cX0_ask 30 = .ok (.istore 4, 2) := dk_54 4 (dk_at dksX0_ask_1 8 rfl rfl)
theorem dX0_ask_32 : decode cX0_ask 32 = .ok (.aload_n 0, 1) := dk_42 (dk_at dksX0_ask_1 10 rfl rfl)
theorem dX0_ask_33 : decode cX0_ask 33 = .ok (.iload 4, 2) := dk_21 4 (dk_at dksX0_ask_1 11 rfl rfl)
theorem dX0_ask_35 : decode cX0_ask 35 = .ok (.invokevirtual 318, 3) := dk_182 1 62 (dk_at dksX0_ask_1 13 rfl rfl)
theorem dX0_ask_38 : decode cX0_ask 38 = .ok (.ifCond .eq 30, 3) := dk_153 0 30 (dk_at dksX0_ask_1 16 rfl rfl)
theorem dX0_ask_41 : decode cX0_ask 41 = .ok (.aload_n 0, 1) := dk_42 (dk_at dksX0_ask_1 19 rfl rfl)
theorem dX0_ask_42 : decode cX0_ask 42 = .ok (.iload 4, 2) := dk_21 4 (dk_at dksX0_ask_1 20 rfl rfl)
theorem dX0_ask_44 : decode cX0_ask 44 = .ok (.invokevirtual 346, 3) := dk_182 1 90 (dk_at dksX0_ask_2 0 rfl rfl)
theorem dX0_ask_47 : decode cX0_ask 47 = .ok (.aload_n 0, 1) := dk_42 (dk_at dksX0_ask_2 3 rfl rfl)
theorem dX0_ask_48 : decode cX0_ask 48 = .ok (.iload_n 3, 1) := dk_29 (dk_at dksX0_ask_2 4 rfl rfl)
theorem dX0_ask_49 : decode cX0_ask 49 = .ok (.invokevirtual 346, 3) := dk_182 1 90 (dk_at dksX0_ask_2 5 rfl rfl)
theorem dX0_ask_52 : decode cX0_ask 52 = .ok (.if_icmp .ge 8, 3) := dk_162 0 8 (dk_at dksX0_ask_2 8 rfl rfl)
theorem dX0_ask_55 : decode cX0_ask 55 = .ok (.iload 4, 2) := dk_21 4 (dk_at dksX0_ask_2 11 rfl rfl)
theorem dX0_ask_57 : decode cX0_ask 57 = .ok (.goto 4, 3) := dk_167 0 4 (dk_at dksX0_ask_2 13 rfl rfl)
theorem dX0_ask_60 : decode cX0_ask 60 = .ok (.iload_n 3, 1) := dk_29 (dk_at dksX0_ask_2 16 rfl rfl)
theorem dX0_ask_61 : decode cX0_ask 61 = .ok (.istore_n 3, 1) := dk_62 (dk_at dksX0_ask_2 17 rfl rfl)
theorem dX0_ask_62 : decode cX0_ask 62 = .ok (.iinc 4 1, 3) := dk_132 4 1 (dk_at dksX0_ask_2 18 rfl rfl)
theorem dX0_ask_65 : decode cX0_ask 65 = .ok (.goto (-33), 3) := dk_167 255 223 (dk_at dksX0_ask_2 21 rfl rfl)
theorem dX0_ask_68 : decode cX0_ask 68 = .ok (.iload_n 1, 1) := dk_27 (dk_at dksX0_ask_3 0 rfl rfl)
theorem dX0_ask_69 : decode cX0_ask 69 = .ok (.ifCond .ne 7, 3) := dk_154 0 7 (dk_at dksX0_ask_3 1 rfl rfl)
theorem dX0_ask_72 : decode cX0_ask 72 = .ok (.iload_n 3, 1) := dk_29 (dk_at dksX0_ask_3 4 rfl rfl)
theorem dX0_ask_73 : decode cX0_ask 73 = .ok (.goto 8, 3) := dk_167 0 8 (dk_at dksX0_ask_3 5 rfl rfl)
theorem dX0_ask_76 : decode cX0_ask 76 = .ok (.aload_n 0, 1) := dk_42 (dk_at dksX0_ask_3 8 rfl rfl)
theorem dX0_ask_77 : decode cX0_ask 77 = .ok (.iload_n 3, 1) := dk_29 (dk_at dksX0_ask_3 9 rfl rfl)
theorem dX0_ask_78 : decode cX0_ask 78 = .ok (.invokevirtual 346, 3) := dk_182 1 90 (dk_at dksX0_ask_3 10 rfl rfl)
theorem dX0_ask_81 : decode cX0_ask 81 = .ok (.ireturn, 1) := dk_172 (dk_at dksX0_ask_3 13 rfl rfl)
abbrev cX0_leftBy : ByteArray := prog_1_method_65_code
def yX0_leftBy : MethodName := ⟨RX0, "leftBy", "(I)I"⟩
def dkwX0_leftBy_3 : List UInt8 := [184, 1, 3, 61, 132, 3, 1, 167, 255, 204, 28, 172]
abbrev dktX0_leftBy_3 : List UInt8 := dkwX0_leftBy_3 ++ []
def dkwX0_leftBy_2 : List UInt8 := [182, 1, 87, 54, 4, 42, 180, 0, 102, 21, 4, 92, 46, 4, 96, 79, 28, 42, 180, 0, 102, 21, 4, 46]
abbrev dktX0_leftBy_2 : List UInt8 := dkwX0_leftBy_2 ++ dktX0_leftBy_3
def dkwX0_leftBy_1 : List UInt8 := [62, 29, 16, 63, 163, 0, 52, 42, 180, 0, 98, 29, 51, 154, 0, 6, 167, 0, 34, 42, 29, 27]
abbrev dktX0_leftBy_1 : List UInt8 := dkwX0_leftBy_1 ++ dktX0_leftBy_2
def dkwX0_leftBy_0 : List UInt8 := [3, 61, 28, 16, 6, 163, 0, 16, 42, 180, 0, 102, 28, 3, 79, 132, 2, 1, 167, 255, 240, 3, 61, 3]
abbrev dktX0_leftBy_0 : List UInt8 := dkwX0_leftBy_0 ++ dktX0_leftBy_1
theorem dksX0_leftBy_0 : cX0_leftBy.data.toList.drop 0 = dktX0_leftBy_0 := by decide +kernel
theorem dksX0_leftBy_1 : cX0_leftBy.data.toList.drop 24 = dktX0_leftBy_1 := dk_seg dksX0_leftBy_0 24 rfl rfl
theorem dksX0_leftBy_2 : cX0_leftBy.data.toList.drop 46 = dktX0_leftBy_2 := dk_seg dksX0_leftBy_1 22 rfl rfl
theorem dksX0_leftBy_3 : cX0_leftBy.data.toList.drop 70 = dktX0_leftBy_3 := dk_seg dksX0_leftBy_2 24 rfl rfl
theorem dX0_leftBy_0 : decode cX0_leftBy 0 = .ok (.iconst 0, 1) := dk_3 (dk_at dksX0_leftBy_0 0 rfl rfl)
theorem dX0_leftBy_1 : decode cX0_leftBy 1 = .ok (.istore_n 2, 1) := dk_61 (dk_at dksX0_leftBy_0 1 rfl rfl)
theorem dX0_leftBy_2 : decode cX0_leftBy 2 = .ok (.iload_n 2, 1) := dk_28 (dk_at dksX0_leftBy_0 2 rfl rfl)
theorem dX0_leftBy_3 : decode cX0_leftBy 3 = .ok (.bipush 6, 2) := dk_16 6 (dk_at dksX0_leftBy_0 3 rfl rfl)
theorem dX0_leftBy_5 : decode cX0_leftBy 5 = .ok (.if_icmp .gt 16, 3) := dk_163 0 16 (dk_at dksX0_leftBy_0 5 rfl rfl)
theorem dX0_leftBy_8 : decode cX0_leftBy 8 = .ok (.aload_n 0, 1) := dk_42 (dk_at dksX0_leftBy_0 8 rfl rfl)
theorem dX0_leftBy_9 : decode cX0_leftBy 9 = .ok (.getfield 102, 3) := dk_180 0 102 (dk_at dksX0_leftBy_0 9 rfl rfl)
theorem dX0_leftBy_12 : decode cX0_leftBy 12 = .ok (.iload_n 2, 1) := dk_28 (dk_at dksX0_leftBy_0 12 rfl rfl)
theorem dX0_leftBy_13 : decode cX0_leftBy 13 = .ok (.iconst 0, 1) := dk_3 (dk_at dksX0_leftBy_0 13 rfl rfl)
theorem dX0_leftBy_14 : decode cX0_leftBy 14 = .ok (.iastore, 1) := dk_79 (dk_at dksX0_leftBy_0 14 rfl rfl)
theorem dX0_leftBy_15 : decode cX0_leftBy 15 = .ok (.iinc 2 1, 3) := dk_132 2 1 (dk_at dksX0_leftBy_0 15 rfl rfl)
theorem dX0_leftBy_18 : decode cX0_leftBy 18 = .ok (.goto (-16), 3) := dk_167 255 240 (dk_at dksX0_leftBy_0 18 rfl rfl)
theorem dX0_leftBy_21 : decode cX0_leftBy 21 = .ok (.iconst 0, 1) := dk_3 (dk_at dksX0_leftBy_0 21 rfl rfl)
theorem dX0_leftBy_22 : decode cX0_leftBy 22 = .ok (.istore_n 2, 1) := dk_61 (dk_at dksX0_leftBy_0 22 rfl rfl)
theorem dX0_leftBy_23 : decode cX0_leftBy 23 = .ok (.iconst 0, 1) := dk_3 (dk_at dksX0_leftBy_0 23 rfl rfl)
theorem dX0_leftBy_24 : decode cX0_leftBy 24 = .ok (.istore_n 3, 1) := dk_62 (dk_at dksX0_leftBy_1 0 rfl rfl)
theorem dX0_leftBy_25 : decode cX0_leftBy 25 = .ok (.iload_n 3, 1) := dk_29 (dk_at dksX0_leftBy_1 1 rfl rfl)
theorem dX0_leftBy_26 : decode cX0_leftBy 26 = .ok (.bipush 63, 2) := dk_16 63 (dk_at dksX0_leftBy_1 2 rfl rfl)
theorem dX0_leftBy_28 : decode cX0_leftBy 28 = .ok (.if_icmp .gt 52, 3) := dk_163 0 52 (dk_at dksX0_leftBy_1 4 rfl rfl)
theorem dX0_leftBy_31 : decode cX0_leftBy 31 = .ok (.aload_n 0, 1) := dk_42 (dk_at dksX0_leftBy_1 7 rfl rfl)
theorem dX0_leftBy_32 : decode cX0_leftBy 32 = .ok (.getfield 98, 3) := dk_180 0 98 (dk_at dksX0_leftBy_1 8 rfl rfl)
theorem dX0_leftBy_35 : decode cX0_leftBy 35 = .ok (.iload_n 3, 1) := dk_29 (dk_at dksX0_leftBy_1 11 rfl rfl)
theorem dX0_leftBy_36 : decode cX0_leftBy 36 = .ok (.baload, 1) := dk_51 (dk_at dksX0_leftBy_1 12 rfl rfl)
theorem dX0_leftBy_37 : decode cX0_leftBy 37 = .ok (.ifCond .ne 6, 3) := dk_154 0 6 (dk_at dksX0_leftBy_1 13 rfl rfl)
theorem dX0_leftBy_40 : decode cX0_leftBy 40 = .ok (.goto 34, 3) := dk_167 0 34 (dk_at dksX0_leftBy_1 16 rfl rfl)
theorem dX0_leftBy_43 : decode cX0_leftBy 43 = .ok (.aload_n 0, 1) := dk_42 (dk_at dksX0_leftBy_1 19 rfl rfl)
theorem dX0_leftBy_44 : decode cX0_leftBy 44 = .ok (.iload_n 3, 1) := dk_29 (dk_at dksX0_leftBy_1 20 rfl rfl)
theorem dX0_leftBy_45 : decode cX0_leftBy 45 = .ok (.iload_n 1, 1) := dk_27 (dk_at dksX0_leftBy_1 21 rfl rfl)
theorem dX0_leftBy_46 : decode cX0_leftBy 46 = .ok (.invokevirtual 343, 3) := dk_182 1 87 (dk_at dksX0_leftBy_2 0 rfl rfl)
theorem dX0_leftBy_49 : decode cX0_leftBy 49 = .ok (.istore 4, 2) := dk_54 4 (dk_at dksX0_leftBy_2 3 rfl rfl)
theorem dX0_leftBy_51 : decode cX0_leftBy 51 = .ok (.aload_n 0, 1) := dk_42 (dk_at dksX0_leftBy_2 5 rfl rfl)
theorem dX0_leftBy_52 : decode cX0_leftBy 52 = .ok (.getfield 102, 3) := dk_180 0 102 (dk_at dksX0_leftBy_2 6 rfl rfl)
theorem dX0_leftBy_55 : decode cX0_leftBy 55 = .ok (.iload 4, 2) := dk_21 4 (dk_at dksX0_leftBy_2 9 rfl rfl)
theorem dX0_leftBy_57 : decode cX0_leftBy 57 = .ok (.dup2, 1) := dk_92 (dk_at dksX0_leftBy_2 11 rfl rfl)
theorem dX0_leftBy_58 : decode cX0_leftBy 58 = .ok (.iaload, 1) := dk_46 (dk_at dksX0_leftBy_2 12 rfl rfl)
theorem dX0_leftBy_59 : decode cX0_leftBy 59 = .ok (.iconst 1, 1) := dk_4 (dk_at dksX0_leftBy_2 13 rfl rfl)
theorem dX0_leftBy_60 : decode cX0_leftBy 60 = .ok (.iadd, 1) := dk_96 (dk_at dksX0_leftBy_2 14 rfl rfl)
theorem dX0_leftBy_61 : decode cX0_leftBy 61 = .ok (.iastore, 1) := dk_79 (dk_at dksX0_leftBy_2 15 rfl rfl)
theorem dX0_leftBy_62 : decode cX0_leftBy 62 = .ok (.iload_n 2, 1) := dk_28 (dk_at dksX0_leftBy_2 16 rfl rfl)
theorem dX0_leftBy_63 : decode cX0_leftBy 63 = .ok (.aload_n 0, 1) := dk_42 (dk_at dksX0_leftBy_2 17 rfl rfl)
theorem dX0_leftBy_64 : decode cX0_leftBy 64 = .ok (.getfield 102, 3) := dk_180 0 102 (dk_at dksX0_leftBy_2 18 rfl rfl)
theorem dX0_leftBy_67 : decode cX0_leftBy 67 = .ok (.iload 4, 2) := dk_21 4 (dk_at dksX0_leftBy_2 21 rfl rfl)
theorem dX0_leftBy_69 : decode cX0_leftBy 69 = .ok (.iaload, 1) := dk_46 (dk_at dksX0_leftBy_2 23 rfl rfl)
theorem dX0_leftBy_70 : decode cX0_leftBy 70 = .ok (.invokestatic 259, 3) := dk_184 1 3 (dk_at dksX0_leftBy_3 0 rfl rfl)
theorem dX0_leftBy_73 : decode cX0_leftBy 73 = .ok (.istore_n 2, 1) := dk_61 (dk_at dksX0_leftBy_3 3 rfl rfl)
theorem dX0_leftBy_74 : decode cX0_leftBy 74 = .ok (.iinc 3 1, 3) := dk_132 3 1 (dk_at dksX0_leftBy_3 4 rfl rfl)
theorem dX0_leftBy_77 : decode cX0_leftBy 77 = .ok (.goto (-52), 3) := dk_167 255 204 (dk_at dksX0_leftBy_3 7 rfl rfl)
theorem dX0_leftBy_80 : decode cX0_leftBy 80 = .ok (.iload_n 2, 1) := dk_28 (dk_at dksX0_leftBy_3 10 rfl rfl)
theorem dX0_leftBy_81 : decode cX0_leftBy 81 = .ok (.ireturn, 1) := dk_172 (dk_at dksX0_leftBy_3 11 rfl rfl)
abbrev cX0_image : ByteArray := prog_1_method_68_code
def yX0_image : MethodName := ⟨RX0, "image", "(I)I"⟩
def dkwX0_image_1 : List UInt8 := [180, 0, 108, 27, 4, 84, 42, 180, 0, 59, 180, 0, 223, 172]
abbrev dktX0_image_1 : List UInt8 := dkwX0_image_1 ++ []
def dkwX0_image_0 : List UInt8 := [27, 184, 1, 93, 154, 0, 5, 2, 172, 42, 180, 0, 105, 27, 50, 42, 180, 0, 59, 182, 0, 219, 87, 42]
abbrev dktX0_image_0 : List UInt8 := dkwX0_image_0 ++ dktX0_image_1
theorem dksX0_image_0 : cX0_image.data.toList.drop 0 = dktX0_image_0 := by decide +kernel
theorem dksX0_image_1 : cX0_image.data.toList.drop 24 = dktX0_image_1 := dk_seg dksX0_image_0 24 rfl rfl
theorem dX0_image_0 : decode cX0_image 0 = .ok (.iload_n 1, 1) := dk_27 (dk_at dksX0_image_0 0 rfl rfl)
theorem dX0_image_1 : decode cX0_image 1 = .ok (.invokestatic 349, 3) := dk_184 1 93 (dk_at dksX0_image_0 1 rfl rfl)
theorem dX0_image_4 : decode cX0_image 4 = .ok (.ifCond .ne 5, 3) := dk_154 0 5 (dk_at dksX0_image_0 4 rfl rfl)
theorem dX0_image_7 : decode cX0_image 7 = .ok (.iconst (-1), 1) := dk_2 (dk_at dksX0_image_0 7 rfl rfl)
theorem dX0_image_8 : decode cX0_image 8 = .ok (.ireturn, 1) := dk_172 (dk_at dksX0_image_0 8 rfl rfl)
theorem dX0_image_9 : decode cX0_image 9 = .ok (.aload_n 0, 1) := dk_42 (dk_at dksX0_image_0 9 rfl rfl)
theorem dX0_image_10 : decode cX0_image 10 = .ok (.getfield 105, 3) := dk_180 0 105 (dk_at dksX0_image_0 10 rfl rfl)
theorem dX0_image_13 : decode cX0_image 13 = .ok (.iload_n 1, 1) := dk_27 (dk_at dksX0_image_0 13 rfl rfl)
theorem dX0_image_14 : decode cX0_image 14 = .ok (.aaload, 1) := dk_50 (dk_at dksX0_image_0 14 rfl rfl)
theorem dX0_image_15 : decode cX0_image 15 = .ok (.aload_n 0, 1) := dk_42 (dk_at dksX0_image_0 15 rfl rfl)
theorem dX0_image_16 : decode cX0_image 16 = .ok (.getfield 59, 3) := dk_180 0 59 (dk_at dksX0_image_0 16 rfl rfl)
theorem dX0_image_19 : decode cX0_image 19 = .ok (.invokevirtual 219, 3) := dk_182 0 219 (dk_at dksX0_image_0 19 rfl rfl)
theorem dX0_image_22 : decode cX0_image 22 = .ok (.pop, 1) := dk_87 (dk_at dksX0_image_0 22 rfl rfl)
theorem dX0_image_23 : decode cX0_image 23 = .ok (.aload_n 0, 1) := dk_42 (dk_at dksX0_image_0 23 rfl rfl)
theorem dX0_image_24 : decode cX0_image 24 = .ok (.getfield 108, 3) := dk_180 0 108 (dk_at dksX0_image_1 0 rfl rfl)
theorem dX0_image_27 : decode cX0_image 27 = .ok (.iload_n 1, 1) := dk_27 (dk_at dksX0_image_1 3 rfl rfl)
theorem dX0_image_28 : decode cX0_image 28 = .ok (.iconst 1, 1) := dk_4 (dk_at dksX0_image_1 4 rfl rfl)
theorem dX0_image_29 : decode cX0_image 29 = .ok (.bastore, 1) := dk_84 (dk_at dksX0_image_1 5 rfl rfl)
theorem dX0_image_30 : decode cX0_image 30 = .ok (.aload_n 0, 1) := dk_42 (dk_at dksX0_image_1 6 rfl rfl)
theorem dX0_image_31 : decode cX0_image 31 = .ok (.getfield 59, 3) := dk_180 0 59 (dk_at dksX0_image_1 7 rfl rfl)
theorem dX0_image_34 : decode cX0_image 34 = .ok (.getfield 223, 3) := dk_180 0 223 (dk_at dksX0_image_1 10 rfl rfl)
theorem dX0_image_37 : decode cX0_image 37 = .ok (.ireturn, 1) := dk_172 (dk_at dksX0_image_1 13 rfl rfl)
abbrev cX0_isBox : ByteArray := prog_1_method_67_code
def yX0_isBox : MethodName := ⟨RX0, "isBox", "(I)Z"⟩
def dkwX0_isBox_0 : List UInt8 := [26, 3, 5, 184, 0, 154, 172]
abbrev dktX0_isBox_0 : List UInt8 := dkwX0_isBox_0 ++ []
theorem dksX0_isBox_0 : cX0_isBox.data.toList.drop 0 = dktX0_isBox_0 := by decide +kernel
theorem dX0_isBox_0 : decode cX0_isBox 0 = .ok (.iload_n 0, 1) := dk_26 (dk_at dksX0_isBox_0 0 rfl rfl)
theorem dX0_isBox_1 : decode cX0_isBox 1 = .ok (.iconst 0, 1) := dk_3 (dk_at dksX0_isBox_0 1 rfl rfl)
theorem dX0_isBox_2 : decode cX0_isBox 2 = .ok (.iconst 2, 1) := dk_5 (dk_at dksX0_isBox_0 2 rfl rfl)
theorem dX0_isBox_3 : decode cX0_isBox 3 = .ok (.invokestatic 154, 3) := dk_184 0 154 (dk_at dksX0_isBox_0 3 rfl rfl)
theorem dX0_isBox_6 : decode cX0_isBox 6 = .ok (.ireturn, 1) := dk_172 (dk_at dksX0_isBox_0 6 rfl rfl)
abbrev cX0_back : ByteArray := prog_1_method_69_code
def yX0_back : MethodName := ⟨RX0, "back", "(I)I"⟩
def dkwX0_back_2 : List UInt8 := [180, 0, 223, 172]
abbrev dktX0_back_2 : List UInt8 := dkwX0_back_2 ++ []
def dkwX0_back_1 : List UInt8 := [180, 0, 105, 27, 50, 182, 0, 219, 87, 42, 3, 181, 0, 123, 42, 3, 181, 0, 126, 42, 180, 0, 59]
abbrev dktX0_back_1 : List UInt8 := dkwX0_back_1 ++ dktX0_back_2
def dkwX0_back_0 : List UInt8 := [27, 184, 1, 93, 153, 0, 12, 42, 180, 0, 108, 27, 51, 154, 0, 5, 2, 172, 42, 180, 0, 59, 42]
abbrev dktX0_back_0 : List UInt8 := dkwX0_back_0 ++ dktX0_back_1
theorem dksX0_back_0 : cX0_back.data.toList.drop 0 = dktX0_back_0 := by decide +kernel
theorem dksX0_back_1 : cX0_back.data.toList.drop 23 = dktX0_back_1 := dk_seg dksX0_back_0 23 rfl rfl
theorem dksX0_back_2 : cX0_back.data.toList.drop 46 = dktX0_back_2 := dk_seg dksX0_back_1 23 rfl rfl
theorem dX0_back_0 : decode cX0_back 0 = .ok (.iload_n 1, 1) := dk_27 (dk_at dksX0_back_0 0 rfl rfl)
theorem dX0_back_1 : decode cX0_back 1 = .ok (.invokestatic 349, 3) := dk_184 1 93 (dk_at dksX0_back_0 1 rfl rfl)
theorem dX0_back_4 : decode cX0_back 4 = .ok (.ifCond .eq 12, 3) := dk_153 0 12 (dk_at dksX0_back_0 4 rfl rfl)
theorem dX0_back_7 : decode cX0_back 7 = .ok (.aload_n 0, 1) := dk_42 (dk_at dksX0_back_0 7 rfl rfl)
theorem dX0_back_8 : decode cX0_back 8 = .ok (.getfield 108, 3) := dk_180 0 108 (dk_at dksX0_back_0 8 rfl rfl)
theorem dX0_back_11 : decode cX0_back 11 = .ok (.iload_n 1, 1) := dk_27 (dk_at dksX0_back_0 11 rfl rfl)
theorem dX0_back_12 : decode cX0_back 12 = .ok (.baload, 1) := dk_51 (dk_at dksX0_back_0 12 rfl rfl)
theorem dX0_back_13 : decode cX0_back 13 = .ok (.ifCond .ne 5, 3) := dk_154 0 5 (dk_at dksX0_back_0 13 rfl rfl)
theorem dX0_back_16 : decode cX0_back 16 = .ok (.iconst (-1), 1) := dk_2 (dk_at dksX0_back_0 16 rfl rfl)
theorem dX0_back_17 : decode cX0_back 17 = .ok (.ireturn, 1) := dk_172 (dk_at dksX0_back_0 17 rfl rfl)
theorem dX0_back_18 : decode cX0_back 18 = .ok (.aload_n 0, 1) := dk_42 (dk_at dksX0_back_0 18 rfl rfl)
theorem dX0_back_19 : decode cX0_back 19 = .ok (.getfield 59, 3) := dk_180 0 59 (dk_at dksX0_back_0 19 rfl rfl)
theorem dX0_back_22 : decode cX0_back 22 = .ok (.aload_n 0, 1) := dk_42 (dk_at dksX0_back_0 22 rfl rfl)
theorem dX0_back_23 : decode cX0_back 23 = .ok (.getfield 105, 3) := dk_180 0 105 (dk_at dksX0_back_1 0 rfl rfl)
theorem dX0_back_26 : decode cX0_back 26 = .ok (.iload_n 1, 1) := dk_27 (dk_at dksX0_back_1 3 rfl rfl)
theorem dX0_back_27 : decode cX0_back 27 = .ok (.aaload, 1) := dk_50 (dk_at dksX0_back_1 4 rfl rfl)
theorem dX0_back_28 : decode cX0_back 28 = .ok (.invokevirtual 219, 3) := dk_182 0 219 (dk_at dksX0_back_1 5 rfl rfl)
theorem dX0_back_31 : decode cX0_back 31 = .ok (.pop, 1) := dk_87 (dk_at dksX0_back_1 8 rfl rfl)
theorem dX0_back_32 : decode cX0_back 32 = .ok (.aload_n 0, 1) := dk_42 (dk_at dksX0_back_1 9 rfl rfl)
theorem dX0_back_33 : decode cX0_back 33 = .ok (.iconst 0, 1) := dk_3 (dk_at dksX0_back_1 10 rfl rfl)
theorem dX0_back_34 : decode cX0_back 34 = .ok (.putfield 123, 3) := dk_181 0 123 (dk_at dksX0_back_1 11 rfl rfl)
theorem dX0_back_37 : decode cX0_back 37 = .ok (.aload_n 0, 1) := dk_42 (dk_at dksX0_back_1 14 rfl rfl)
theorem dX0_back_38 : decode cX0_back 38 = .ok (.iconst 0, 1) := dk_3 (dk_at dksX0_back_1 15 rfl rfl)
theorem dX0_back_39 : decode cX0_back 39 = .ok (.putfield 126, 3) := dk_181 0 126 (dk_at dksX0_back_1 16 rfl rfl)
theorem dX0_back_42 : decode cX0_back 42 = .ok (.aload_n 0, 1) := dk_42 (dk_at dksX0_back_1 19 rfl rfl)
theorem dX0_back_43 : decode cX0_back 43 = .ok (.getfield 59, 3) := dk_180 0 59 (dk_at dksX0_back_1 20 rfl rfl)
theorem dX0_back_46 : decode cX0_back 46 = .ok (.getfield 223, 3) := dk_180 0 223 (dk_at dksX0_back_2 0 rfl rfl)
theorem dX0_back_49 : decode cX0_back 49 = .ok (.ireturn, 1) := dk_172 (dk_at dksX0_back_2 3 rfl rfl)
abbrev cX0_about : ByteArray := prog_1_method_70_code
def yX0_about : MethodName := ⟨RX0, "about", "(I)I"⟩
def dkwX0_about_6 : List UInt8 := [172, 42, 180, 0, 48, 180, 0, 146, 182, 0, 3, 172, 2, 172]
abbrev dktX0_about_6 : List UInt8 := dkwX0_about_6 ++ []
def dkwX0_about_5 : List UInt8 := [180, 0, 111, 172, 42, 180, 0, 48, 180, 1, 99, 172, 42, 180, 0, 129, 172, 42, 180, 0, 48, 180, 1, 102]
abbrev dktX0_about_5 : List UInt8 := dkwX0_about_5 ++ dktX0_about_6
def dkwX0_about_4 : List UInt8 := [42, 180, 0, 123, 172, 42, 180, 0, 126, 172, 42, 180, 0, 94, 182, 0, 3, 172, 42, 180, 1, 77, 172, 42]
abbrev dktX0_about_4 : List UInt8 := dkwX0_about_4 ++ dktX0_about_5
def dkwX0_about_3 : List UInt8 := [42, 180, 0, 59, 180, 0, 233, 172, 42, 180, 0, 59, 180, 0, 223, 172, 42, 180, 0, 59, 180, 1, 96, 172]
abbrev dktX0_about_3 : List UInt8 := dkwX0_about_3 ++ dktX0_about_4
def dkwX0_about_2 : List UInt8 := [42, 180, 0, 59, 180, 0, 246, 184, 0, 25, 172, 42, 182, 0, 152, 172, 42, 180, 0, 59, 180, 0, 246, 172]
abbrev dktX0_about_2 : List UInt8 := dkwX0_about_2 ++ dktX0_about_3
def dkwX0_about_1 : List UInt8 := [170, 0, 0, 0, 0, 0, 183, 0, 0, 0, 0, 0, 0, 0, 14, 0, 0, 0, 75, 0, 0, 0, 86, 0, 0, 0, 91, 0, 0, 0, 99, 0, 0, 0, 107, 0, 0, 0, 115, 0, 0, 0, 123, 0, 0, 0, 128, 0, 0, 0, 133, 0, 0, 0, 141, 0, 0, 0, 146, 0, 0, 0, 151, 0, 0, 0, 159, 0, 0, 0, 164, 0, 0, 0, 172]
abbrev dktX0_about_1 : List UInt8 := dkwX0_about_1 ++ dktX0_about_2
def dkwX0_about_0 : List UInt8 := [27]
abbrev dktX0_about_0 : List UInt8 := dkwX0_about_0 ++ dktX0_about_1
theorem dksX0_about_0 : cX0_about.data.toList.drop 0 = dktX0_about_0 := by decide +kernel
theorem dksX0_about_1 : cX0_about.data.toList.drop 1 = dktX0_about_1 := dk_seg dksX0_about_0 1 rfl rfl
theorem dksX0_about_2 : cX0_about.data.toList.drop 76 = dktX0_about_2 := dk_seg dksX0_about_1 75 rfl rfl
theorem dksX0_about_3 : cX0_about.data.toList.drop 100 = dktX0_about_3 := dk_seg dksX0_about_2 24 rfl rfl
theorem dksX0_about_4 : cX0_about.data.toList.drop 124 = dktX0_about_4 := dk_seg dksX0_about_3 24 rfl rfl
theorem dksX0_about_5 : cX0_about.data.toList.drop 148 = dktX0_about_5 := dk_seg dksX0_about_4 24 rfl rfl
theorem dksX0_about_6 : cX0_about.data.toList.drop 172 = dktX0_about_6 := dk_seg dksX0_about_5 24 rfl rfl
theorem dX0_about_0 : decode cX0_about 0 = .ok (.iload_n 1, 1) := dk_27 (dk_at dksX0_about_0 0 rfl rfl)
theorem dX0_about_1 : decode cX0_about 1 = .ok (.tableswitch 183 0 14 #[75, 86, 91, 99, 107, 115, 123, 128, 133, 141, 146, 151, 159, 164, 172], 75) := by decide +kernel
theorem dX0_about_76 : decode cX0_about 76 = .ok (.aload_n 0, 1) := dk_42 (dk_at dksX0_about_2 0 rfl rfl)
theorem dX0_about_77 : decode cX0_about 77 = .ok (.getfield 59, 3) := dk_180 0 59 (dk_at dksX0_about_2 1 rfl rfl)
theorem dX0_about_80 : decode cX0_about 80 = .ok (.getfield 246, 3) := dk_180 0 246 (dk_at dksX0_about_2 4 rfl rfl)
theorem dX0_about_83 : decode cX0_about 83 = .ok (.invokestatic 25, 3) := dk_184 0 25 (dk_at dksX0_about_2 7 rfl rfl)
theorem dX0_about_86 : decode cX0_about 86 = .ok (.ireturn, 1) := dk_172 (dk_at dksX0_about_2 10 rfl rfl)
theorem dX0_about_87 : decode cX0_about 87 = .ok (.aload_n 0, 1) := dk_42 (dk_at dksX0_about_2 11 rfl rfl)
theorem dX0_about_88 : decode cX0_about 88 = .ok (.invokevirtual 152, 3) := dk_182 0 152 (dk_at dksX0_about_2 12 rfl rfl)
theorem dX0_about_91 : decode cX0_about 91 = .ok (.ireturn, 1) := dk_172 (dk_at dksX0_about_2 15 rfl rfl)
theorem dX0_about_92 : decode cX0_about 92 = .ok (.aload_n 0, 1) := dk_42 (dk_at dksX0_about_2 16 rfl rfl)
theorem dX0_about_93 : decode cX0_about 93 = .ok (.getfield 59, 3) := dk_180 0 59 (dk_at dksX0_about_2 17 rfl rfl)
theorem dX0_about_96 : decode cX0_about 96 = .ok (.getfield 246, 3) := dk_180 0 246 (dk_at dksX0_about_2 20 rfl rfl)
theorem dX0_about_99 : decode cX0_about 99 = .ok (.ireturn, 1) := dk_172 (dk_at dksX0_about_2 23 rfl rfl)
theorem dX0_about_100 : decode cX0_about 100 = .ok (.aload_n 0, 1) := dk_42 (dk_at dksX0_about_3 0 rfl rfl)
theorem dX0_about_101 : decode cX0_about 101 = .ok (.getfield 59, 3) := dk_180 0 59 (dk_at dksX0_about_3 1 rfl rfl)
theorem dX0_about_104 : decode cX0_about 104 = .ok (.getfield 233, 3) := dk_180 0 233 (dk_at dksX0_about_3 4 rfl rfl)
theorem dX0_about_107 : decode cX0_about 107 = .ok (.ireturn, 1) := dk_172 (dk_at dksX0_about_3 7 rfl rfl)
theorem dX0_about_108 : decode cX0_about 108 = .ok (.aload_n 0, 1) := dk_42 (dk_at dksX0_about_3 8 rfl rfl)
theorem dX0_about_109 : decode cX0_about 109 = .ok (.getfield 59, 3) := dk_180 0 59 (dk_at dksX0_about_3 9 rfl rfl)
theorem dX0_about_112 : decode cX0_about 112 = .ok (.getfield 223, 3) := dk_180 0 223 (dk_at dksX0_about_3 12 rfl rfl)
theorem dX0_about_115 : decode cX0_about 115 = .ok (.ireturn, 1) := dk_172 (dk_at dksX0_about_3 15 rfl rfl)
theorem dX0_about_116 : decode cX0_about 116 = .ok (.aload_n 0, 1) := dk_42 (dk_at dksX0_about_3 16 rfl rfl)
theorem dX0_about_117 : decode cX0_about 117 = .ok (.getfield 59, 3) := dk_180 0 59 (dk_at dksX0_about_3 17 rfl rfl)
theorem dX0_about_120 : decode cX0_about 120 = .ok (.getfield 352, 3) := dk_180 1 96 (dk_at dksX0_about_3 20 rfl rfl)
theorem dX0_about_123 : decode cX0_about 123 = .ok (.ireturn, 1) := dk_172 (dk_at dksX0_about_3 23 rfl rfl)
theorem dX0_about_124 : decode cX0_about 124 = .ok (.aload_n 0, 1) := dk_42 (dk_at dksX0_about_4 0 rfl rfl)
theorem dX0_about_125 : decode cX0_about 125 = .ok (.getfield 123, 3) := dk_180 0 123 (dk_at dksX0_about_4 1 rfl rfl)
theorem dX0_about_128 : decode cX0_about 128 = .ok (.ireturn, 1) := dk_172 (dk_at dksX0_about_4 4 rfl rfl)
theorem dX0_about_129 : decode cX0_about 129 = .ok (.aload_n 0, 1) := dk_42 (dk_at dksX0_about_4 5 rfl rfl)
theorem dX0_about_130 : decode cX0_about 130 = .ok (.getfield 126, 3) := dk_180 0 126 (dk_at dksX0_about_4 6 rfl rfl)
theorem dX0_about_133 : decode cX0_about 133 = .ok (.ireturn, 1) := dk_172 (dk_at dksX0_about_4 9 rfl rfl)
theorem dX0_about_134 : decode cX0_about 134 = .ok (.aload_n 0, 1) := dk_42 (dk_at dksX0_about_4 10 rfl rfl)
theorem dX0_about_135 : decode cX0_about 135 = .ok (.getfield 94, 3) := dk_180 0 94 (dk_at dksX0_about_4 11 rfl rfl)
theorem dX0_about_138 : decode cX0_about 138 = .ok (.invokevirtual 3, 3) := dk_182 0 3 (dk_at dksX0_about_4 14 rfl rfl)
theorem dX0_about_141 : decode cX0_about 141 = .ok (.ireturn, 1) := dk_172 (dk_at dksX0_about_4 17 rfl rfl)
theorem dX0_about_142 : decode cX0_about 142 = .ok (.aload_n 0, 1) := dk_42 (dk_at dksX0_about_4 18 rfl rfl)
theorem dX0_about_143 : decode cX0_about 143 = .ok (.getfield 333, 3) := dk_180 1 77 (dk_at dksX0_about_4 19 rfl rfl)
theorem dX0_about_146 : decode cX0_about 146 = .ok (.ireturn, 1) := dk_172 (dk_at dksX0_about_4 22 rfl rfl)
theorem dX0_about_147 : decode cX0_about 147 = .ok (.aload_n 0, 1) := dk_42 (dk_at dksX0_about_4 23 rfl rfl)
theorem dX0_about_148 : decode cX0_about 148 = .ok (.getfield 111, 3) := dk_180 0 111 (dk_at dksX0_about_5 0 rfl rfl)
theorem dX0_about_151 : decode cX0_about 151 = .ok (.ireturn, 1) := dk_172 (dk_at dksX0_about_5 3 rfl rfl)
theorem dX0_about_152 : decode cX0_about 152 = .ok (.aload_n 0, 1) := dk_42 (dk_at dksX0_about_5 4 rfl rfl)
theorem dX0_about_153 : decode cX0_about 153 = .ok (.getfield 48, 3) := dk_180 0 48 (dk_at dksX0_about_5 5 rfl rfl)
theorem dX0_about_156 : decode cX0_about 156 = .ok (.getfield 355, 3) := dk_180 1 99 (dk_at dksX0_about_5 8 rfl rfl)
theorem dX0_about_159 : decode cX0_about 159 = .ok (.ireturn, 1) := dk_172 (dk_at dksX0_about_5 11 rfl rfl)
theorem dX0_about_160 : decode cX0_about 160 = .ok (.aload_n 0, 1) := dk_42 (dk_at dksX0_about_5 12 rfl rfl)
theorem dX0_about_161 : decode cX0_about 161 = .ok (.getfield 129, 3) := dk_180 0 129 (dk_at dksX0_about_5 13 rfl rfl)
theorem dX0_about_164 : decode cX0_about 164 = .ok (.ireturn, 1) := dk_172 (dk_at dksX0_about_5 16 rfl rfl)
theorem dX0_about_165 : decode cX0_about 165 = .ok (.aload_n 0, 1) := dk_42 (dk_at dksX0_about_5 17 rfl rfl)
theorem dX0_about_166 : decode cX0_about 166 = .ok (.getfield 48, 3) := dk_180 0 48 (dk_at dksX0_about_5 18 rfl rfl)
theorem dX0_about_169 : decode cX0_about 169 = .ok (.getfield 358, 3) := dk_180 1 102 (dk_at dksX0_about_5 21 rfl rfl)
theorem dX0_about_172 : decode cX0_about 172 = .ok (.ireturn, 1) := dk_172 (dk_at dksX0_about_6 0 rfl rfl)
theorem dX0_about_173 : decode cX0_about 173 = .ok (.aload_n 0, 1) := dk_42 (dk_at dksX0_about_6 1 rfl rfl)
theorem dX0_about_174 : decode cX0_about 174 = .ok (.getfield 48, 3) := dk_180 0 48 (dk_at dksX0_about_6 2 rfl rfl)
theorem dX0_about_177 : decode cX0_about 177 = .ok (.getfield 146, 3) := dk_180 0 146 (dk_at dksX0_about_6 5 rfl rfl)
theorem dX0_about_180 : decode cX0_about 180 = .ok (.invokevirtual 3, 3) := dk_182 0 3 (dk_at dksX0_about_6 8 rfl rfl)
theorem dX0_about_183 : decode cX0_about 183 = .ok (.ireturn, 1) := dk_172 (dk_at dksX0_about_6 11 rfl rfl)
theorem dX0_about_184 : decode cX0_about 184 = .ok (.iconst (-1), 1) := dk_2 (dk_at dksX0_about_6 12 rfl rfl)
theorem dX0_about_185 : decode cX0_about 185 = .ok (.ireturn, 1) := dk_172 (dk_at dksX0_about_6 13 rfl rfl)
theorem q123 : (Jvm.Cond.initialized "TrunkLitters") ∈ lw_all := lw_g (lw_at lw_m1 1 rfl) rfl
theorem q157 : (Jvm.Cond.instantiable "TrunkLitters" (26 : Nat)) ∈ lw_all := lw_g (lw_at lw_m1 35 rfl) rfl
theorem q159 : (Jvm.Cond.instanceMethod ({ cls := "TrunkLitters", name := "<init>", desc := "()V" } : Jvm.MethodName)) ∈ lw_all := lw_g (lw_at lw_m1 37 rfl) rfl
theorem q160 : (Jvm.Cond.code ({ cls := "TrunkLitters", name := "<init>", desc := "()V" } : Jvm.MethodName) prog_1_method_4_code (2 : Nat) (Option.none : Option Jvm.ClassFile.FieldType)) ∈ lw_all := lw_g (lw_at lw_m1 38 rfl) rfl
theorem q161 : (Jvm.Cond.methodLink "TrunkLitters" (31 : Nat) ({ cls := "java/lang/Object", name := "<init>", desc := "()V" } : Jvm.MethodName)) ∈ lw_all := lw_g (lw_at lw_m1 39 rfl) rfl
theorem q164 : (Jvm.Cond.classLink "TrunkLitters" (45 : Nat) "TrunkLitters$Book") ∈ lw_all := lw_g (lw_at lw_m1 42 rfl) rfl
theorem q166 : (Jvm.Cond.methodLinkNest "TrunkLitters" (47 : Nat) ({ cls := "TrunkLitters$Book", name := "<init>", desc := "()V" } : Jvm.MethodName) "TrunkLitters") ∈ lw_tbl := lw_at lw_m1 44 rfl
theorem q228 : (Jvm.Cond.fieldLink "TrunkLitters" (149 : Nat) "TrunkLitters$Book" "rooms" "Ljava/util/ArrayList;") ∈ lw_all := lw_g (lw_at lw_m1 106 rfl) rfl
theorem q232 : (Jvm.Cond.fieldLink "TrunkLitters" (146 : Nat) "TrunkLitters$Book" "trunks" "Ljava/util/ArrayList;") ∈ lw_all := lw_g (lw_at lw_m1 110 rfl) rfl
theorem q241 : (Jvm.Cond.fieldLink "TrunkLitters" (358 : Nat) "TrunkLitters$Book" "pines" "I") ∈ lw_all := lw_g (lw_at lw_m1 119 rfl) rfl
theorem q247 : (Jvm.Cond.fieldLink "TrunkLitters" (355 : Nat) "TrunkLitters$Book" "units" "I") ∈ lw_all := lw_g (lw_at lw_m1 125 rfl) rfl
theorem q265 : (Jvm.Cond.classLink "TrunkLitters" (52 : Nat) "TrunkLitters$House") ∈ lw_all := lw_g (lw_at lw_m1 143 rfl) rfl
theorem q267 : (Jvm.Cond.methodLinkNest "TrunkLitters" (54 : Nat) ({ cls := "TrunkLitters$House", name := "<init>", desc := "()V" } : Jvm.MethodName) "TrunkLitters") ∈ lw_tbl := lw_at lw_m1 145 rfl
theorem q272 : (Jvm.Cond.fieldLink "TrunkLitters" (180 : Nat) "TrunkLitters$House" "bulk" "[I") ∈ lw_all := lw_g (lw_at lw_m1 150 rfl) rfl
theorem q274 : (Jvm.Cond.fieldLink "TrunkLitters" (183 : Nat) "TrunkLitters$House" "at" "[I") ∈ lw_all := lw_g (lw_at lw_m1 152 rfl) rfl
theorem q276 : (Jvm.Cond.fieldLink "TrunkLitters" (186 : Nat) "TrunkLitters$House" "marks" "[I") ∈ lw_all := lw_g (lw_at lw_m1 154 rfl) rfl
theorem q278 : (Jvm.Cond.fieldLink "TrunkLitters" (189 : Nat) "TrunkLitters$House" "told" "[I") ∈ lw_all := lw_g (lw_at lw_m1 156 rfl) rfl
theorem q280 : (Jvm.Cond.fieldLink "TrunkLitters" (192 : Nat) "TrunkLitters$House" "pining" "[I") ∈ lw_all := lw_g (lw_at lw_m1 158 rfl) rfl
theorem q282 : (Jvm.Cond.fieldLink "TrunkLitters" (195 : Nat) "TrunkLitters$House" "one" "[I") ∈ lw_all := lw_g (lw_at lw_m1 160 rfl) rfl
theorem q284 : (Jvm.Cond.fieldLink "TrunkLitters" (198 : Nat) "TrunkLitters$House" "two" "[I") ∈ lw_all := lw_g (lw_at lw_m1 162 rfl) rfl
theorem q286 : (Jvm.Cond.fieldLink "TrunkLitters" (252 : Nat) "TrunkLitters$House" "born" "[I") ∈ lw_all := lw_g (lw_at lw_m1 164 rfl) rfl
theorem q288 : (Jvm.Cond.fieldLink "TrunkLitters" (246 : Nat) "TrunkLitters$House" "there" "I") ∈ lw_all := lw_g (lw_at lw_m1 166 rfl) rfl
theorem q290 : (Jvm.Cond.fieldLink "TrunkLitters" (233 : Nat) "TrunkLitters$House" "tales" "I") ∈ lw_all := lw_g (lw_at lw_m1 168 rfl) rfl
theorem q292 : (Jvm.Cond.fieldLink "TrunkLitters" (223 : Nat) "TrunkLitters$House" "year" "I") ∈ lw_all := lw_g (lw_at lw_m1 170 rfl) rfl
theorem q294 : (Jvm.Cond.fieldLink "TrunkLitters" (352 : Nat) "TrunkLitters$House" "seed" "I") ∈ lw_all := lw_g (lw_at lw_m1 172 rfl) rfl
theorem q297 : (Jvm.Cond.fieldLink "TrunkLitters" (249 : Nat) "TrunkLitters$House" "pines" "I") ∈ lw_all := lw_g (lw_at lw_m1 175 rfl) rfl
theorem q328 : (Jvm.Cond.methodLink "TrunkLitters" (55 : Nat) ({ cls := "TrunkLitters$House", name := "begin", desc := "(LTrunkLitters$Book;)LTrunkLitters$House;" } : Jvm.MethodName)) ∈ lw_all := lw_g (lw_at lw_m1 206 rfl) rfl
theorem q360 : (Jvm.Cond.classLink "TrunkLitters" (83 : Nat) "[[I") ∈ lw_all := lw_g (lw_at lw_m1 238 rfl) rfl
theorem q362 : (Jvm.Cond.classLink "TrunkLitters" (4 : Nat) "java/util/ArrayList") ∈ lw_all := lw_g (lw_at lw_m2 0 rfl) rfl
theorem q363 : (Jvm.Cond.methodLink "TrunkLitters" (91 : Nat) ({ cls := "java/util/ArrayList", name := "<init>", desc := "(I)V" } : Jvm.MethodName)) ∈ lw_all := lw_g (lw_at lw_m2 1 rfl) rfl
theorem q365 : (Jvm.Cond.fieldLink "TrunkLitters" (37 : Nat) "TrunkLitters" "tape" "[B") ∈ lw_all := lw_g (lw_at lw_m2 3 rfl) rfl
theorem q367 : (Jvm.Cond.fieldLink "TrunkLitters" (111 : Nat) "TrunkLitters" "taped" "I") ∈ lw_all := lw_g (lw_at lw_m2 5 rfl) rfl
theorem q368 : (Jvm.Cond.fieldLink "TrunkLitters" (140 : Nat) "TrunkLitters" "faultKind" "I") ∈ lw_all := lw_g (lw_at lw_m2 6 rfl) rfl
theorem q369 : (Jvm.Cond.fieldLink "TrunkLitters" (41 : Nat) "TrunkLitters" "faultPlace" "I") ∈ lw_all := lw_g (lw_at lw_m2 7 rfl) rfl
theorem q370 : (Jvm.Cond.fieldLink "TrunkLitters" (48 : Nat) "TrunkLitters" "book" "LTrunkLitters$Book;") ∈ lw_all := lw_g (lw_at lw_m2 8 rfl) rfl
theorem q371 : (Jvm.Cond.fieldLink "TrunkLitters" (59 : Nat) "TrunkLitters" "now" "LTrunkLitters$House;") ∈ lw_all := lw_g (lw_at lw_m2 9 rfl) rfl
theorem q372 : (Jvm.Cond.fieldLink "TrunkLitters" (63 : Nat) "TrunkLitters" "spare" "LTrunkLitters$House;") ∈ lw_all := lw_g (lw_at lw_m2 10 rfl) rfl
theorem q373 : (Jvm.Cond.fieldLink "TrunkLitters" (66 : Nat) "TrunkLitters" "tried" "LTrunkLitters$House;") ∈ lw_all := lw_g (lw_at lw_m2 11 rfl) rfl
theorem q375 : (Jvm.Cond.fieldLink "TrunkLitters" (333 : Nat) "TrunkLitters" "time" "I") ∈ lw_all := lw_g (lw_at lw_m2 13 rfl) rfl
theorem q376 : (Jvm.Cond.fieldLink "TrunkLitters" (69 : Nat) "TrunkLitters" "were" "[LTrunkLitters$House;") ∈ lw_all := lw_g (lw_at lw_m2 14 rfl) rfl
theorem q377 : (Jvm.Cond.fieldLink "TrunkLitters" (123 : Nat) "TrunkLitters" "acts" "I") ∈ lw_all := lw_g (lw_at lw_m2 15 rfl) rfl
theorem q378 : (Jvm.Cond.fieldLink "TrunkLitters" (126 : Nat) "TrunkLitters" "undone" "I") ∈ lw_all := lw_g (lw_at lw_m2 16 rfl) rfl
theorem q379 : (Jvm.Cond.fieldLink "TrunkLitters" (73 : Nat) "TrunkLitters" "lies" "[I") ∈ lw_all := lw_g (lw_at lw_m2 17 rfl) rfl
theorem q380 : (Jvm.Cond.fieldLink "TrunkLitters" (77 : Nat) "TrunkLitters" "row" "[I") ∈ lw_all := lw_g (lw_at lw_m2 18 rfl) rfl
theorem q381 : (Jvm.Cond.fieldLink "TrunkLitters" (80 : Nat) "TrunkLitters" "free" "[I") ∈ lw_all := lw_g (lw_at lw_m2 19 rfl) rfl
theorem q382 : (Jvm.Cond.fieldLink "TrunkLitters" (129 : Nat) "TrunkLitters" "lain" "I") ∈ lw_all := lw_g (lw_at lw_m2 20 rfl) rfl
theorem q383 : (Jvm.Cond.fieldLink "TrunkLitters" (265 : Nat) "TrunkLitters" "fewest" "I") ∈ lw_all := lw_g (lw_at lw_m2 21 rfl) rfl
theorem q384 : (Jvm.Cond.fieldLink "TrunkLitters" (85 : Nat) "TrunkLitters" "ones" "[[I") ∈ lw_all := lw_g (lw_at lw_m2 22 rfl) rfl
theorem q385 : (Jvm.Cond.fieldLink "TrunkLitters" (88 : Nat) "TrunkLitters" "others" "[[I") ∈ lw_all := lw_g (lw_at lw_m2 23 rfl) rfl
theorem q386 : (Jvm.Cond.fieldLink "TrunkLitters" (304 : Nat) "TrunkLitters" "mayOne" "I") ∈ lw_all := lw_g (lw_at lw_m2 24 rfl) rfl
theorem q387 : (Jvm.Cond.fieldLink "TrunkLitters" (307 : Nat) "TrunkLitters" "mayOther" "I") ∈ lw_all := lw_g (lw_at lw_m2 25 rfl) rfl
theorem q388 : (Jvm.Cond.fieldLink "TrunkLitters" (94 : Nat) "TrunkLitters" "tales" "Ljava/util/ArrayList;") ∈ lw_all := lw_g (lw_at lw_m2 26 rfl) rfl
theorem q389 : (Jvm.Cond.fieldLink "TrunkLitters" (98 : Nat) "TrunkLitters" "isFit" "[Z") ∈ lw_all := lw_g (lw_at lw_m2 27 rfl) rfl
theorem q390 : (Jvm.Cond.fieldLink "TrunkLitters" (102 : Nat) "TrunkLitters" "tally" "[I") ∈ lw_all := lw_g (lw_at lw_m2 28 rfl) rfl
theorem q391 : (Jvm.Cond.fieldLink "TrunkLitters" (105 : Nat) "TrunkLitters" "boxes" "[LTrunkLitters$House;") ∈ lw_all := lw_g (lw_at lw_m2 29 rfl) rfl
theorem q392 : (Jvm.Cond.fieldLink "TrunkLitters" (108 : Nat) "TrunkLitters" "isThere" "[Z") ∈ lw_all := lw_g (lw_at lw_m2 30 rfl) rfl
theorem q393 : (Jvm.Cond.laysFinal "TrunkLitters" "TrunkLitters" "tape" "[B") ∈ lw_all := lw_g (lw_at lw_m2 31 rfl) rfl
theorem q394 : (Jvm.Cond.soleField "TrunkLitters" "tape") ∈ lw_all := lw_g (lw_at lw_m2 32 rfl) rfl
theorem q395 : (Jvm.Cond.lays "TrunkLitters" "TrunkLitters" "taped" "I") ∈ lw_all := lw_g (lw_at lw_m2 33 rfl) rfl
theorem q396 : (Jvm.Cond.soleField "TrunkLitters" "taped") ∈ lw_all := lw_g (lw_at lw_m2 34 rfl) rfl
theorem q397 : (Jvm.Cond.lays "TrunkLitters" "TrunkLitters" "faultKind" "I") ∈ lw_all := lw_g (lw_at lw_m2 35 rfl) rfl
theorem q398 : (Jvm.Cond.soleField "TrunkLitters" "faultKind") ∈ lw_all := lw_g (lw_at lw_m2 36 rfl) rfl
theorem q399 : (Jvm.Cond.lays "TrunkLitters" "TrunkLitters" "faultPlace" "I") ∈ lw_all := lw_g (lw_at lw_m2 37 rfl) rfl
theorem q400 : (Jvm.Cond.soleField "TrunkLitters" "faultPlace") ∈ lw_all := lw_g (lw_at lw_m2 38 rfl) rfl
theorem q401 : (Jvm.Cond.lays "TrunkLitters" "TrunkLitters" "book" "LTrunkLitters$Book;") ∈ lw_all := lw_g (lw_at lw_m2 39 rfl) rfl
theorem q402 : (Jvm.Cond.soleField "TrunkLitters" "book") ∈ lw_all := lw_g (lw_at lw_m2 40 rfl) rfl
theorem q403 : (Jvm.Cond.laysFinal "TrunkLitters" "TrunkLitters" "now" "LTrunkLitters$House;") ∈ lw_all := lw_g (lw_at lw_m2 41 rfl) rfl
theorem q404 : (Jvm.Cond.soleField "TrunkLitters" "now") ∈ lw_all := lw_g (lw_at lw_m2 42 rfl) rfl
theorem q405 : (Jvm.Cond.laysFinal "TrunkLitters" "TrunkLitters" "spare" "LTrunkLitters$House;") ∈ lw_all := lw_g (lw_at lw_m2 43 rfl) rfl
theorem q406 : (Jvm.Cond.soleField "TrunkLitters" "spare") ∈ lw_all := lw_g (lw_at lw_m2 44 rfl) rfl
theorem q407 : (Jvm.Cond.laysFinal "TrunkLitters" "TrunkLitters" "tried" "LTrunkLitters$House;") ∈ lw_all := lw_g (lw_at lw_m2 45 rfl) rfl
theorem q408 : (Jvm.Cond.soleField "TrunkLitters" "tried") ∈ lw_all := lw_g (lw_at lw_m2 46 rfl) rfl
theorem q409 : (Jvm.Cond.lays "TrunkLitters" "TrunkLitters" "time" "I") ∈ lw_all := lw_g (lw_at lw_m2 47 rfl) rfl
theorem q410 : (Jvm.Cond.soleField "TrunkLitters" "time") ∈ lw_all := lw_g (lw_at lw_m2 48 rfl) rfl
theorem q411 : (Jvm.Cond.laysFinal "TrunkLitters" "TrunkLitters" "were" "[LTrunkLitters$House;") ∈ lw_all := lw_g (lw_at lw_m2 49 rfl) rfl
theorem q412 : (Jvm.Cond.soleField "TrunkLitters" "were") ∈ lw_all := lw_g (lw_at lw_m2 50 rfl) rfl
theorem q413 : (Jvm.Cond.lays "TrunkLitters" "TrunkLitters" "acts" "I") ∈ lw_all := lw_g (lw_at lw_m2 51 rfl) rfl
theorem q414 : (Jvm.Cond.soleField "TrunkLitters" "acts") ∈ lw_all := lw_g (lw_at lw_m2 52 rfl) rfl
theorem q415 : (Jvm.Cond.lays "TrunkLitters" "TrunkLitters" "undone" "I") ∈ lw_all := lw_g (lw_at lw_m2 53 rfl) rfl
theorem q416 : (Jvm.Cond.soleField "TrunkLitters" "undone") ∈ lw_all := lw_g (lw_at lw_m2 54 rfl) rfl
theorem q417 : (Jvm.Cond.laysFinal "TrunkLitters" "TrunkLitters" "lies" "[I") ∈ lw_all := lw_g (lw_at lw_m2 55 rfl) rfl
theorem q418 : (Jvm.Cond.soleField "TrunkLitters" "lies") ∈ lw_all := lw_g (lw_at lw_m2 56 rfl) rfl
theorem q419 : (Jvm.Cond.laysFinal "TrunkLitters" "TrunkLitters" "row" "[I") ∈ lw_all := lw_g (lw_at lw_m2 57 rfl) rfl
theorem q420 : (Jvm.Cond.soleField "TrunkLitters" "row") ∈ lw_all := lw_g (lw_at lw_m2 58 rfl) rfl
theorem q421 : (Jvm.Cond.laysFinal "TrunkLitters" "TrunkLitters" "free" "[I") ∈ lw_all := lw_g (lw_at lw_m2 59 rfl) rfl
theorem q422 : (Jvm.Cond.soleField "TrunkLitters" "free") ∈ lw_all := lw_g (lw_at lw_m2 60 rfl) rfl
theorem q423 : (Jvm.Cond.lays "TrunkLitters" "TrunkLitters" "lain" "I") ∈ lw_all := lw_g (lw_at lw_m2 61 rfl) rfl
theorem q424 : (Jvm.Cond.soleField "TrunkLitters" "lain") ∈ lw_all := lw_g (lw_at lw_m2 62 rfl) rfl
theorem q425 : (Jvm.Cond.lays "TrunkLitters" "TrunkLitters" "fewest" "I") ∈ lw_all := lw_g (lw_at lw_m2 63 rfl) rfl
theorem q426 : (Jvm.Cond.soleField "TrunkLitters" "fewest") ∈ lw_all := lw_g (lw_at lw_m2 64 rfl) rfl
theorem q427 : (Jvm.Cond.laysFinal "TrunkLitters" "TrunkLitters" "ones" "[[I") ∈ lw_all := lw_g (lw_at lw_m2 65 rfl) rfl
theorem q428 : (Jvm.Cond.soleField "TrunkLitters" "ones") ∈ lw_all := lw_g (lw_at lw_m2 66 rfl) rfl
theorem q429 : (Jvm.Cond.laysFinal "TrunkLitters" "TrunkLitters" "others" "[[I") ∈ lw_all := lw_g (lw_at lw_m2 67 rfl) rfl
theorem q430 : (Jvm.Cond.soleField "TrunkLitters" "others") ∈ lw_all := lw_g (lw_at lw_m2 68 rfl) rfl
theorem q431 : (Jvm.Cond.lays "TrunkLitters" "TrunkLitters" "mayOne" "I") ∈ lw_all := lw_g (lw_at lw_m2 69 rfl) rfl
theorem q432 : (Jvm.Cond.soleField "TrunkLitters" "mayOne") ∈ lw_all := lw_g (lw_at lw_m2 70 rfl) rfl
theorem q433 : (Jvm.Cond.lays "TrunkLitters" "TrunkLitters" "mayOther" "I") ∈ lw_all := lw_g (lw_at lw_m2 71 rfl) rfl
theorem q434 : (Jvm.Cond.soleField "TrunkLitters" "mayOther") ∈ lw_all := lw_g (lw_at lw_m2 72 rfl) rfl
theorem q435 : (Jvm.Cond.laysFinal "TrunkLitters" "TrunkLitters" "tales" "Ljava/util/ArrayList;") ∈ lw_all := lw_g (lw_at lw_m2 73 rfl) rfl
theorem q436 : (Jvm.Cond.soleField "TrunkLitters" "tales") ∈ lw_all := lw_g (lw_at lw_m2 74 rfl) rfl
theorem q437 : (Jvm.Cond.laysFinal "TrunkLitters" "TrunkLitters" "isFit" "[Z") ∈ lw_all := lw_g (lw_at lw_m2 75 rfl) rfl
theorem q438 : (Jvm.Cond.soleField "TrunkLitters" "isFit") ∈ lw_all := lw_g (lw_at lw_m2 76 rfl) rfl
theorem q439 : (Jvm.Cond.laysFinal "TrunkLitters" "TrunkLitters" "tally" "[I") ∈ lw_all := lw_g (lw_at lw_m2 77 rfl) rfl
theorem q440 : (Jvm.Cond.soleField "TrunkLitters" "tally") ∈ lw_all := lw_g (lw_at lw_m2 78 rfl) rfl
theorem q441 : (Jvm.Cond.laysFinal "TrunkLitters" "TrunkLitters" "boxes" "[LTrunkLitters$House;") ∈ lw_all := lw_g (lw_at lw_m2 79 rfl) rfl
theorem q442 : (Jvm.Cond.soleField "TrunkLitters" "boxes") ∈ lw_all := lw_g (lw_at lw_m2 80 rfl) rfl
theorem q443 : (Jvm.Cond.laysFinal "TrunkLitters" "TrunkLitters" "isThere" "[Z") ∈ lw_all := lw_g (lw_at lw_m2 81 rfl) rfl
theorem q444 : (Jvm.Cond.soleField "TrunkLitters" "isThere") ∈ lw_all := lw_g (lw_at lw_m2 82 rfl) rfl
theorem q445 : (Jvm.Cond.superclass "TrunkLitters" "java/lang/Object") ∈ lw_all := lw_g (lw_at lw_m2 83 rfl) rfl
theorem q448 : (Jvm.Cond.instanceMethod ({ cls := "TrunkLitters", name := "feed", desc := "(IIIII)I" } : Jvm.MethodName)) ∈ lw_all := lw_g (lw_at lw_m2 86 rfl) rfl
theorem q449 : (Jvm.Cond.selects "TrunkLitters" ({ cls := "TrunkLitters", name := "feed", desc := "(IIIII)I" } : Jvm.MethodName) ({ cls := "TrunkLitters", name := "feed", desc := "(IIIII)I" } : Jvm.MethodName)) ∈ lw_all := lw_g (lw_at lw_m2 87 rfl) rfl
theorem q450 : (Jvm.Cond.code ({ cls := "TrunkLitters", name := "feed", desc := "(IIIII)I" } : Jvm.MethodName) prog_1_method_5_code (12 : Nat) (Option.some Jvm.ClassFile.FieldType.int)) ∈ lw_all := lw_g (lw_at lw_m2 88 rfl) rfl
theorem q452 : (Jvm.Cond.instanceMethod ({ cls := "TrunkLitters", name := "end", desc := "(I)I" } : Jvm.MethodName)) ∈ lw_all := lw_g (lw_at lw_m2 90 rfl) rfl
theorem q453 : (Jvm.Cond.selects "TrunkLitters" ({ cls := "TrunkLitters", name := "end", desc := "(I)I" } : Jvm.MethodName) ({ cls := "TrunkLitters", name := "end", desc := "(I)I" } : Jvm.MethodName)) ∈ lw_all := lw_g (lw_at lw_m2 91 rfl) rfl
theorem q454 : (Jvm.Cond.code ({ cls := "TrunkLitters", name := "end", desc := "(I)I" } : Jvm.MethodName) prog_1_method_6_code (2 : Nat) (Option.some Jvm.ClassFile.FieldType.int)) ∈ lw_all := lw_g (lw_at lw_m2 92 rfl) rfl
theorem q456 : (Jvm.Cond.instanceMethod ({ cls := "TrunkLitters", name := "house", desc := "()I" } : Jvm.MethodName)) ∈ lw_all := lw_g (lw_at lw_m2 94 rfl) rfl
theorem q457 : (Jvm.Cond.selects "TrunkLitters" ({ cls := "TrunkLitters", name := "house", desc := "()I" } : Jvm.MethodName) ({ cls := "TrunkLitters", name := "house", desc := "()I" } : Jvm.MethodName)) ∈ lw_all := lw_g (lw_at lw_m2 95 rfl) rfl
theorem q458 : (Jvm.Cond.codeWith ({ cls := "TrunkLitters", name := "house", desc := "()I" } : Jvm.MethodName) prog_1_method_7_code (3 : Nat) (Option.some Jvm.ClassFile.FieldType.int) [((2 : Nat), (71 : Nat), (74 : Nat), (135 : Nat))]) ∈ lw_all := lw_g (lw_at lw_m2 96 rfl) rfl
theorem q459 : (Jvm.Cond.classLink "TrunkLitters" (135 : Nat) "TrunkLitters$Wrong") ∈ lw_all := lw_g (lw_at lw_m2 97 rfl) rfl
theorem q460 : (Jvm.Cond.classLink "TrunkLitters" (114 : Nat) "TrunkLitters$Reader") ∈ lw_all := lw_g (lw_at lw_m2 98 rfl) rfl
theorem q462 : (Jvm.Cond.methodLinkNest "TrunkLitters" (116 : Nat) ({ cls := "TrunkLitters$Reader", name := "<init>", desc := "(LTrunkLitters;)V" } : Jvm.MethodName) "TrunkLitters") ∈ lw_tbl := lw_at lw_m2 100 rfl
theorem q506 : (Jvm.Cond.methodLink "TrunkLitters" (119 : Nat) ({ cls := "TrunkLitters$Reader", name := "text", desc := "()LTrunkLitters$Book;" } : Jvm.MethodName)) ∈ lw_all := lw_g (lw_at lw_m2 144 rfl) rfl
theorem q869 : (Jvm.Cond.fieldLink "TrunkLitters" (137 : Nat) "TrunkLitters$Wrong" "kind" "I") ∈ lw_all := lw_g (lw_at lw_m4 27 rfl) rfl
theorem q871 : (Jvm.Cond.fieldLink "TrunkLitters" (143 : Nat) "TrunkLitters$Wrong" "place" "I") ∈ lw_all := lw_g (lw_at lw_m4 29 rfl) rfl
theorem q890 : (Jvm.Cond.static ({ cls := "TrunkLitters", name := "find", desc := "(Ljava/util/ArrayList;Ljava/lang/String;)I" } : Jvm.MethodName)) ∈ lw_all := lw_g (lw_at lw_m4 48 rfl) rfl
theorem q891 : (Jvm.Cond.code ({ cls := "TrunkLitters", name := "find", desc := "(Ljava/util/ArrayList;Ljava/lang/String;)I" } : Jvm.MethodName) prog_1_method_1_code (4 : Nat) (Option.some Jvm.ClassFile.FieldType.int)) ∈ lw_all := lw_g (lw_at lw_m4 49 rfl) rfl
theorem q892 : (Jvm.Cond.methodLink "TrunkLitters" (3 : Nat) ({ cls := "java/util/ArrayList", name := "size", desc := "()I" } : Jvm.MethodName)) ∈ lw_all := lw_g (lw_at lw_m4 50 rfl) rfl
theorem q893 : (Jvm.Cond.methodLink "TrunkLitters" (9 : Nat) ({ cls := "java/util/ArrayList", name := "get", desc := "(I)Ljava/lang/Object;" } : Jvm.MethodName)) ∈ lw_all := lw_g (lw_at lw_m4 51 rfl) rfl
theorem q894 : (Jvm.Cond.classLink "TrunkLitters" (13 : Nat) "TrunkLitters$Named") ∈ lw_all := lw_g (lw_at lw_m4 52 rfl) rfl
theorem q895 : (Jvm.Cond.methodLink "TrunkLitters" (19 : Nat) ({ cls := "java/lang/String", name := "equals", desc := "(Ljava/lang/Object;)Z" } : Jvm.MethodName)) ∈ lw_all := lw_g (lw_at lw_m4 53 rfl) rfl
theorem q904 : (Jvm.Cond.fieldLink "TrunkLitters" (167 : Nat) "TrunkLitters$Room" "holds" "I") ∈ lw_all := lw_g (lw_at lw_m4 62 rfl) rfl
theorem q908 : (Jvm.Cond.fieldLink "TrunkLitters" (15 : Nat) "TrunkLitters$Named" "name" "Ljava/lang/String;") ∈ lw_all := lw_g (lw_at lw_m4 66 rfl) rfl
theorem q957 : (Jvm.Cond.selects "TrunkLitters" ({ cls := "java/lang/Object", name := "getClass", desc := "()Ljava/lang/Class;" } : Jvm.MethodName) ({ cls := "java/lang/Object", name := "getClass", desc := "()Ljava/lang/Class;" } : Jvm.MethodName)) ∈ lw_all := lw_g (lw_at lw_m4 115 rfl) rfl
theorem q1002 : (Jvm.Cond.fieldLink "TrunkLitters" (316 : Nat) "TrunkLitters$Trunk" "marks" "I") ∈ lw_all := lw_g (lw_at lw_m4 160 rfl) rfl
theorem q1110 : (Jvm.Cond.methodLink "TrunkLitters" (132 : Nat) ({ cls := "java/util/ArrayList", name := "clear", desc := "()V" } : Jvm.MethodName)) ∈ lw_all := lw_g (lw_at lw_m5 28 rfl) rfl
theorem q1115 : (Jvm.Cond.instanceMethod ({ cls := "TrunkLitters", name := "fault", desc := "(I)I" } : Jvm.MethodName)) ∈ lw_all := lw_g (lw_at lw_m5 33 rfl) rfl
theorem q1116 : (Jvm.Cond.selects "TrunkLitters" ({ cls := "TrunkLitters", name := "fault", desc := "(I)I" } : Jvm.MethodName) ({ cls := "TrunkLitters", name := "fault", desc := "(I)I" } : Jvm.MethodName)) ∈ lw_all := lw_g (lw_at lw_m5 34 rfl) rfl
theorem q1117 : (Jvm.Cond.code ({ cls := "TrunkLitters", name := "fault", desc := "(I)I" } : Jvm.MethodName) prog_1_method_8_code (2 : Nat) (Option.some Jvm.ClassFile.FieldType.int)) ∈ lw_all := lw_g (lw_at lw_m5 35 rfl) rfl
theorem q1119 : (Jvm.Cond.instanceMethod ({ cls := "TrunkLitters", name := "room", desc := "(II)I" } : Jvm.MethodName)) ∈ lw_all := lw_g (lw_at lw_m5 37 rfl) rfl
theorem q1120 : (Jvm.Cond.selects "TrunkLitters" ({ cls := "TrunkLitters", name := "room", desc := "(II)I" } : Jvm.MethodName) ({ cls := "TrunkLitters", name := "room", desc := "(II)I" } : Jvm.MethodName)) ∈ lw_all := lw_g (lw_at lw_m5 38 rfl) rfl
theorem q1121 : (Jvm.Cond.code ({ cls := "TrunkLitters", name := "room", desc := "(II)I" } : Jvm.MethodName) prog_1_method_12_code (3 : Nat) (Option.some Jvm.ClassFile.FieldType.int)) ∈ lw_all := lw_g (lw_at lw_m5 39 rfl) rfl
theorem q1122 : (Jvm.Cond.methodLink "TrunkLitters" (162 : Nat) ({ cls := "TrunkLitters", name := "isRoom", desc := "(I)Z" } : Jvm.MethodName)) ∈ lw_all := lw_g (lw_at lw_m5 40 rfl) rfl
theorem q1123 : (Jvm.Cond.privateMethod ({ cls := "TrunkLitters", name := "isRoom", desc := "(I)Z" } : Jvm.MethodName)) ∈ lw_tbl := lw_at lw_m5 41 rfl
theorem q1124 : (Jvm.Cond.instanceMethod ({ cls := "TrunkLitters", name := "isRoom", desc := "(I)Z" } : Jvm.MethodName)) ∈ lw_all := lw_g (lw_at lw_m5 42 rfl) rfl
theorem q1125 : (Jvm.Cond.code ({ cls := "TrunkLitters", name := "isRoom", desc := "(I)Z" } : Jvm.MethodName) prog_1_method_10_code (2 : Nat) (Option.some Jvm.ClassFile.FieldType.boolean)) ∈ lw_all := lw_g (lw_at lw_m5 43 rfl) rfl
theorem q1126 : (Jvm.Cond.methodLink "TrunkLitters" (152 : Nat) ({ cls := "TrunkLitters", name := "rooms", desc := "()I" } : Jvm.MethodName)) ∈ lw_all := lw_g (lw_at lw_m5 44 rfl) rfl
theorem q1127 : (Jvm.Cond.privateMethod ({ cls := "TrunkLitters", name := "rooms", desc := "()I" } : Jvm.MethodName)) ∈ lw_tbl := lw_at lw_m5 45 rfl
theorem q1128 : (Jvm.Cond.instanceMethod ({ cls := "TrunkLitters", name := "rooms", desc := "()I" } : Jvm.MethodName)) ∈ lw_all := lw_g (lw_at lw_m5 46 rfl) rfl
theorem q1129 : (Jvm.Cond.code ({ cls := "TrunkLitters", name := "rooms", desc := "()I" } : Jvm.MethodName) prog_1_method_9_code (1 : Nat) (Option.some Jvm.ClassFile.FieldType.int)) ∈ lw_all := lw_g (lw_at lw_m5 47 rfl) rfl
theorem q1130 : (Jvm.Cond.methodLink "TrunkLitters" (154 : Nat) ({ cls := "TrunkLitters", name := "isIn", desc := "(III)Z" } : Jvm.MethodName)) ∈ lw_all := lw_g (lw_at lw_m5 48 rfl) rfl
theorem q1131 : (Jvm.Cond.static ({ cls := "TrunkLitters", name := "isIn", desc := "(III)Z" } : Jvm.MethodName)) ∈ lw_all := lw_g (lw_at lw_m5 49 rfl) rfl
theorem q1132 : (Jvm.Cond.code ({ cls := "TrunkLitters", name := "isIn", desc := "(III)Z" } : Jvm.MethodName) prog_1_method_2_code (3 : Nat) (Option.some Jvm.ClassFile.FieldType.boolean)) ∈ lw_all := lw_g (lw_at lw_m5 50 rfl) rfl
theorem q1133 : (Jvm.Cond.classLink "TrunkLitters" (165 : Nat) "TrunkLitters$Room") ∈ lw_all := lw_g (lw_at lw_m5 51 rfl) rfl
theorem q1134 : (Jvm.Cond.methodLink "TrunkLitters" (170 : Nat) ({ cls := "TrunkLitters$House", name := "left", desc := "(LTrunkLitters$Book;I)I" } : Jvm.MethodName)) ∈ lw_all := lw_g (lw_at lw_m5 52 rfl) rfl
theorem q1147 : (Jvm.Cond.methodLink "TrunkLitters" (174 : Nat) ({ cls := "TrunkLitters$House", name := "in", desc := "(I)I" } : Jvm.MethodName)) ∈ lw_all := lw_g (lw_at lw_m5 65 rfl) rfl
theorem q1149 : (Jvm.Cond.instanceMethod ({ cls := "TrunkLitters", name := "trunk", desc := "(II)I" } : Jvm.MethodName)) ∈ lw_all := lw_g (lw_at lw_m5 67 rfl) rfl
theorem q1150 : (Jvm.Cond.selects "TrunkLitters" ({ cls := "TrunkLitters", name := "trunk", desc := "(II)I" } : Jvm.MethodName) ({ cls := "TrunkLitters", name := "trunk", desc := "(II)I" } : Jvm.MethodName)) ∈ lw_all := lw_g (lw_at lw_m5 68 rfl) rfl
theorem q1151 : (Jvm.Cond.code ({ cls := "TrunkLitters", name := "trunk", desc := "(II)I" } : Jvm.MethodName) prog_1_method_13_code (3 : Nat) (Option.some Jvm.ClassFile.FieldType.int)) ∈ lw_all := lw_g (lw_at lw_m5 69 rfl) rfl
theorem q1152 : (Jvm.Cond.methodLink "TrunkLitters" (177 : Nat) ({ cls := "TrunkLitters", name := "isTrunk", desc := "(I)Z" } : Jvm.MethodName)) ∈ lw_all := lw_g (lw_at lw_m5 70 rfl) rfl
theorem q1153 : (Jvm.Cond.privateMethod ({ cls := "TrunkLitters", name := "isTrunk", desc := "(I)Z" } : Jvm.MethodName)) ∈ lw_tbl := lw_at lw_m5 71 rfl
theorem q1154 : (Jvm.Cond.instanceMethod ({ cls := "TrunkLitters", name := "isTrunk", desc := "(I)Z" } : Jvm.MethodName)) ∈ lw_all := lw_g (lw_at lw_m5 72 rfl) rfl
theorem q1155 : (Jvm.Cond.code ({ cls := "TrunkLitters", name := "isTrunk", desc := "(I)Z" } : Jvm.MethodName) prog_1_method_11_code (2 : Nat) (Option.some Jvm.ClassFile.FieldType.boolean)) ∈ lw_all := lw_g (lw_at lw_m5 73 rfl) rfl
theorem q1156 : (Jvm.Cond.methodLink "TrunkLitters" (158 : Nat) ({ cls := "TrunkLitters$House", name := "has", desc := "(I)Z" } : Jvm.MethodName)) ∈ lw_all := lw_g (lw_at lw_m5 74 rfl) rfl
theorem q1158 : (Jvm.Cond.instanceMethod ({ cls := "TrunkLitters", name := "brood", desc := "(II)I" } : Jvm.MethodName)) ∈ lw_all := lw_g (lw_at lw_m5 76 rfl) rfl
theorem q1159 : (Jvm.Cond.selects "TrunkLitters" ({ cls := "TrunkLitters", name := "brood", desc := "(II)I" } : Jvm.MethodName) ({ cls := "TrunkLitters", name := "brood", desc := "(II)I" } : Jvm.MethodName)) ∈ lw_all := lw_g (lw_at lw_m5 77 rfl) rfl
theorem q1160 : (Jvm.Cond.code ({ cls := "TrunkLitters", name := "brood", desc := "(II)I" } : Jvm.MethodName) prog_1_method_14_code (3 : Nat) (Option.some Jvm.ClassFile.FieldType.int)) ∈ lw_all := lw_g (lw_at lw_m5 78 rfl) rfl
theorem q1161 : (Jvm.Cond.methodLink "TrunkLitters" (201 : Nat) ({ cls := "TrunkLitters$House", name := "broodOf", desc := "(LTrunkLitters$Book;II)I" } : Jvm.MethodName)) ∈ lw_all := lw_g (lw_at lw_m5 79 rfl) rfl
theorem q1166 : (Jvm.Cond.static ({ cls := "TrunkLitters", name := "shared", desc := "(II)I" } : Jvm.MethodName)) ∈ lw_all := lw_g (lw_at lw_m5 84 rfl) rfl
theorem q1167 : (Jvm.Cond.code ({ cls := "TrunkLitters", name := "shared", desc := "(II)I" } : Jvm.MethodName) prog_1_method_3_code (2 : Nat) (Option.some Jvm.ClassFile.FieldType.int)) ∈ lw_all := lw_g (lw_at lw_m5 85 rfl) rfl
theorem q1168 : (Jvm.Cond.methodLink "TrunkLitters" (25 : Nat) ({ cls := "java/lang/Integer", name := "bitCount", desc := "(I)I" } : Jvm.MethodName)) ∈ lw_all := lw_g (lw_at lw_m5 86 rfl) rfl
theorem q1232 : (Jvm.Cond.constant "TrunkLitters" (205 : Nat) (-1000000000 : Int32)) ∈ lw_all := lw_g (lw_at lw_m5 150 rfl) rfl
theorem q1234 : (Jvm.Cond.instanceMethod ({ cls := "TrunkLitters", name := "couple", desc := "(I)I" } : Jvm.MethodName)) ∈ lw_all := lw_g (lw_at lw_m5 152 rfl) rfl
theorem q1235 : (Jvm.Cond.selects "TrunkLitters" ({ cls := "TrunkLitters", name := "couple", desc := "(I)I" } : Jvm.MethodName) ({ cls := "TrunkLitters", name := "couple", desc := "(I)I" } : Jvm.MethodName)) ∈ lw_all := lw_g (lw_at lw_m5 153 rfl) rfl
theorem q1236 : (Jvm.Cond.code ({ cls := "TrunkLitters", name := "couple", desc := "(I)I" } : Jvm.MethodName) prog_1_method_15_code (2 : Nat) (Option.some Jvm.ClassFile.FieldType.int)) ∈ lw_all := lw_g (lw_at lw_m5 154 rfl) rfl
theorem q1237 : (Jvm.Cond.methodLink "TrunkLitters" (206 : Nat) ({ cls := "TrunkLitters$House", name := "coupleOf", desc := "(I)I" } : Jvm.MethodName)) ∈ lw_all := lw_g (lw_at lw_m5 155 rfl) rfl
theorem q1246 : (Jvm.Cond.instanceMethod ({ cls := "TrunkLitters", name := "ripe", desc := "()I" } : Jvm.MethodName)) ∈ lw_all := lw_g (lw_at lw_m5 164 rfl) rfl
theorem q1247 : (Jvm.Cond.selects "TrunkLitters" ({ cls := "TrunkLitters", name := "ripe", desc := "()I" } : Jvm.MethodName) ({ cls := "TrunkLitters", name := "ripe", desc := "()I" } : Jvm.MethodName)) ∈ lw_all := lw_g (lw_at lw_m5 165 rfl) rfl
theorem q1248 : (Jvm.Cond.code ({ cls := "TrunkLitters", name := "ripe", desc := "()I" } : Jvm.MethodName) prog_1_method_16_code (3 : Nat) (Option.some Jvm.ClassFile.FieldType.int)) ∈ lw_all := lw_g (lw_at lw_m5 166 rfl) rfl
theorem q1249 : (Jvm.Cond.methodLink "TrunkLitters" (209 : Nat) ({ cls := "TrunkLitters$House", name := "isRipe", desc := "(LTrunkLitters$Book;I)Z" } : Jvm.MethodName)) ∈ lw_all := lw_g (lw_at lw_m5 167 rfl) rfl
theorem q1265 : (Jvm.Cond.instanceMethod ({ cls := "TrunkLitters", name := "year", desc := "()I" } : Jvm.MethodName)) ∈ lw_all := lw_g (lw_at lw_m5 183 rfl) rfl
theorem q1266 : (Jvm.Cond.selects "TrunkLitters" ({ cls := "TrunkLitters", name := "year", desc := "()I" } : Jvm.MethodName) ({ cls := "TrunkLitters", name := "year", desc := "()I" } : Jvm.MethodName)) ∈ lw_all := lw_g (lw_at lw_m5 184 rfl) rfl
theorem q1267 : (Jvm.Cond.code ({ cls := "TrunkLitters", name := "year", desc := "()I" } : Jvm.MethodName) prog_1_method_19_code (1 : Nat) (Option.some Jvm.ClassFile.FieldType.int)) ∈ lw_all := lw_g (lw_at lw_m5 185 rfl) rfl
theorem q1268 : (Jvm.Cond.methodLink "TrunkLitters" (226 : Nat) ({ cls := "TrunkLitters", name := "act", desc := "()V" } : Jvm.MethodName)) ∈ lw_all := lw_g (lw_at lw_m5 186 rfl) rfl
theorem q1269 : (Jvm.Cond.privateMethod ({ cls := "TrunkLitters", name := "act", desc := "()V" } : Jvm.MethodName)) ∈ lw_tbl := lw_at lw_m5 187 rfl
theorem q1270 : (Jvm.Cond.instanceMethod ({ cls := "TrunkLitters", name := "act", desc := "()V" } : Jvm.MethodName)) ∈ lw_all := lw_g (lw_at lw_m5 188 rfl) rfl
theorem q1271 : (Jvm.Cond.code ({ cls := "TrunkLitters", name := "act", desc := "()V" } : Jvm.MethodName) prog_1_method_17_code (2 : Nat) (Option.none : Option Jvm.ClassFile.FieldType)) ∈ lw_all := lw_g (lw_at lw_m5 189 rfl) rfl
theorem q1272 : (Jvm.Cond.methodLink "TrunkLitters" (213 : Nat) ({ cls := "java/lang/System", name := "arraycopy", desc := "(Ljava/lang/Object;ILjava/lang/Object;II)V" } : Jvm.MethodName)) ∈ lw_all := lw_g (lw_at lw_m5 190 rfl) rfl
theorem q1273 : (Jvm.Cond.methodLink "TrunkLitters" (219 : Nat) ({ cls := "TrunkLitters$House", name := "copy", desc := "(LTrunkLitters$House;)LTrunkLitters$House;" } : Jvm.MethodName)) ∈ lw_all := lw_g (lw_at lw_m5 191 rfl) rfl
theorem q1278 : (Jvm.Cond.methodLink "TrunkLitters" (229 : Nat) ({ cls := "TrunkLitters$House", name := "go", desc := "(LTrunkLitters$Book;)I" } : Jvm.MethodName)) ∈ lw_all := lw_g (lw_at lw_m5 196 rfl) rfl
theorem q1296 : (Jvm.Cond.instanceMethod ({ cls := "TrunkLitters", name := "carry", desc := "(II)I" } : Jvm.MethodName)) ∈ lw_all := lw_g (lw_at lw_m5 214 rfl) rfl
theorem q1297 : (Jvm.Cond.selects "TrunkLitters" ({ cls := "TrunkLitters", name := "carry", desc := "(II)I" } : Jvm.MethodName) ({ cls := "TrunkLitters", name := "carry", desc := "(II)I" } : Jvm.MethodName)) ∈ lw_all := lw_g (lw_at lw_m5 215 rfl) rfl
theorem q1298 : (Jvm.Cond.code ({ cls := "TrunkLitters", name := "carry", desc := "(II)I" } : Jvm.MethodName) prog_1_method_20_code (4 : Nat) (Option.some Jvm.ClassFile.FieldType.int)) ∈ lw_all := lw_g (lw_at lw_m5 216 rfl) rfl
theorem q1300 : (Jvm.Cond.instanceMethod ({ cls := "TrunkLitters", name := "tell", desc := "(I)I" } : Jvm.MethodName)) ∈ lw_all := lw_g (lw_at lw_m5 218 rfl) rfl
theorem q1301 : (Jvm.Cond.selects "TrunkLitters" ({ cls := "TrunkLitters", name := "tell", desc := "(I)I" } : Jvm.MethodName) ({ cls := "TrunkLitters", name := "tell", desc := "(I)I" } : Jvm.MethodName)) ∈ lw_all := lw_g (lw_at lw_m5 219 rfl) rfl
theorem q1302 : (Jvm.Cond.code ({ cls := "TrunkLitters", name := "tell", desc := "(I)I" } : Jvm.MethodName) prog_1_method_21_code (2 : Nat) (Option.some Jvm.ClassFile.FieldType.int)) ∈ lw_all := lw_g (lw_at lw_m5 220 rfl) rfl
theorem q1304 : (Jvm.Cond.instanceMethod ({ cls := "TrunkLitters", name := "lose", desc := "(I)I" } : Jvm.MethodName)) ∈ lw_all := lw_g (lw_at lw_m5 222 rfl) rfl
theorem q1305 : (Jvm.Cond.selects "TrunkLitters" ({ cls := "TrunkLitters", name := "lose", desc := "(I)I" } : Jvm.MethodName) ({ cls := "TrunkLitters", name := "lose", desc := "(I)I" } : Jvm.MethodName)) ∈ lw_all := lw_g (lw_at lw_m5 223 rfl) rfl
theorem q1306 : (Jvm.Cond.code ({ cls := "TrunkLitters", name := "lose", desc := "(I)I" } : Jvm.MethodName) prog_1_method_22_code (3 : Nat) (Option.some Jvm.ClassFile.FieldType.int)) ∈ lw_all := lw_g (lw_at lw_m5 224 rfl) rfl
theorem q1307 : (Jvm.Cond.methodLink "TrunkLitters" (235 : Nat) ({ cls := "TrunkLitters$House", name := "leaves", desc := "(I)V" } : Jvm.MethodName)) ∈ lw_all := lw_g (lw_at lw_m5 225 rfl) rfl
theorem q1309 : (Jvm.Cond.instanceMethod ({ cls := "TrunkLitters", name := "undo", desc := "()Z" } : Jvm.MethodName)) ∈ lw_all := lw_g (lw_at lw_m5 227 rfl) rfl
theorem q1310 : (Jvm.Cond.selects "TrunkLitters" ({ cls := "TrunkLitters", name := "undo", desc := "()Z" } : Jvm.MethodName) ({ cls := "TrunkLitters", name := "undo", desc := "()Z" } : Jvm.MethodName)) ∈ lw_all := lw_g (lw_at lw_m5 228 rfl) rfl
theorem q1311 : (Jvm.Cond.code ({ cls := "TrunkLitters", name := "undo", desc := "()Z" } : Jvm.MethodName) prog_1_method_23_code (1 : Nat) (Option.some Jvm.ClassFile.FieldType.boolean)) ∈ lw_all := lw_g (lw_at lw_m5 229 rfl) rfl
theorem q1312 : (Jvm.Cond.methodLink "TrunkLitters" (238 : Nat) ({ cls := "TrunkLitters", name := "turnAbout", desc := "(LTrunkLitters$House;)V" } : Jvm.MethodName)) ∈ lw_all := lw_g (lw_at lw_m5 230 rfl) rfl
theorem q1313 : (Jvm.Cond.privateMethod ({ cls := "TrunkLitters", name := "turnAbout", desc := "(LTrunkLitters$House;)V" } : Jvm.MethodName)) ∈ lw_tbl := lw_at lw_m5 231 rfl
theorem q1314 : (Jvm.Cond.instanceMethod ({ cls := "TrunkLitters", name := "turnAbout", desc := "(LTrunkLitters$House;)V" } : Jvm.MethodName)) ∈ lw_all := lw_g (lw_at lw_m5 232 rfl) rfl
theorem q1315 : (Jvm.Cond.code ({ cls := "TrunkLitters", name := "turnAbout", desc := "(LTrunkLitters$House;)V" } : Jvm.MethodName) prog_1_method_18_code (2 : Nat) (Option.none : Option Jvm.ClassFile.FieldType)) ∈ lw_all := lw_g (lw_at lw_m5 233 rfl) rfl
theorem q1317 : (Jvm.Cond.instanceMethod ({ cls := "TrunkLitters", name := "redo", desc := "()Z" } : Jvm.MethodName)) ∈ lw_all := lw_g (lw_at lw_m5 235 rfl) rfl
theorem q1318 : (Jvm.Cond.selects "TrunkLitters" ({ cls := "TrunkLitters", name := "redo", desc := "()Z" } : Jvm.MethodName) ({ cls := "TrunkLitters", name := "redo", desc := "()Z" } : Jvm.MethodName)) ∈ lw_all := lw_g (lw_at lw_m5 236 rfl) rfl
theorem q1319 : (Jvm.Cond.code ({ cls := "TrunkLitters", name := "redo", desc := "()Z" } : Jvm.MethodName) prog_1_method_24_code (1 : Nat) (Option.some Jvm.ClassFile.FieldType.boolean)) ∈ lw_all := lw_g (lw_at lw_m5 237 rfl) rfl
theorem q1321 : (Jvm.Cond.instanceMethod ({ cls := "TrunkLitters", name := "will", desc := "(III)I" } : Jvm.MethodName)) ∈ lw_all := lw_g (lw_at lw_m5 239 rfl) rfl
theorem q1322 : (Jvm.Cond.selects "TrunkLitters" ({ cls := "TrunkLitters", name := "will", desc := "(III)I" } : Jvm.MethodName) ({ cls := "TrunkLitters", name := "will", desc := "(III)I" } : Jvm.MethodName)) ∈ lw_all := lw_g (lw_at lw_m6 0 rfl) rfl
theorem q1323 : (Jvm.Cond.code ({ cls := "TrunkLitters", name := "will", desc := "(III)I" } : Jvm.MethodName) prog_1_method_26_code (4 : Nat) (Option.some Jvm.ClassFile.FieldType.int)) ∈ lw_all := lw_g (lw_at lw_m6 1 rfl) rfl
theorem q1324 : (Jvm.Cond.methodLink "TrunkLitters" (242 : Nat) ({ cls := "TrunkLitters", name := "ahead", desc := "(I)LTrunkLitters$House;" } : Jvm.MethodName)) ∈ lw_all := lw_g (lw_at lw_m6 2 rfl) rfl
theorem q1325 : (Jvm.Cond.privateMethod ({ cls := "TrunkLitters", name := "ahead", desc := "(I)LTrunkLitters$House;" } : Jvm.MethodName)) ∈ lw_tbl := lw_at lw_m6 3 rfl
theorem q1326 : (Jvm.Cond.instanceMethod ({ cls := "TrunkLitters", name := "ahead", desc := "(I)LTrunkLitters$House;" } : Jvm.MethodName)) ∈ lw_all := lw_g (lw_at lw_m6 4 rfl) rfl
theorem q1327 : (Jvm.Cond.code ({ cls := "TrunkLitters", name := "ahead", desc := "(I)LTrunkLitters$House;" } : Jvm.MethodName) prog_1_method_25_code (3 : Nat) (Option.some (Jvm.ClassFile.FieldType.object "TrunkLitters$House"))) ∈ lw_all := lw_g (lw_at lw_m6 5 rfl) rfl
theorem q1329 : (Jvm.Cond.instanceMethod ({ cls := "TrunkLitters", name := "alive", desc := "(I)I" } : Jvm.MethodName)) ∈ lw_all := lw_g (lw_at lw_m6 7 rfl) rfl
theorem q1330 : (Jvm.Cond.selects "TrunkLitters" ({ cls := "TrunkLitters", name := "alive", desc := "(I)I" } : Jvm.MethodName) ({ cls := "TrunkLitters", name := "alive", desc := "(I)I" } : Jvm.MethodName)) ∈ lw_all := lw_g (lw_at lw_m6 8 rfl) rfl
theorem q1331 : (Jvm.Cond.code ({ cls := "TrunkLitters", name := "alive", desc := "(I)I" } : Jvm.MethodName) prog_1_method_27_code (2 : Nat) (Option.some Jvm.ClassFile.FieldType.int)) ∈ lw_all := lw_g (lw_at lw_m6 9 rfl) rfl
theorem q1333 : (Jvm.Cond.instanceMethod ({ cls := "TrunkLitters", name := "law", desc := "(II)I" } : Jvm.MethodName)) ∈ lw_all := lw_g (lw_at lw_m6 11 rfl) rfl
theorem q1334 : (Jvm.Cond.selects "TrunkLitters" ({ cls := "TrunkLitters", name := "law", desc := "(II)I" } : Jvm.MethodName) ({ cls := "TrunkLitters", name := "law", desc := "(II)I" } : Jvm.MethodName)) ∈ lw_all := lw_g (lw_at lw_m6 12 rfl) rfl
theorem q1335 : (Jvm.Cond.code ({ cls := "TrunkLitters", name := "law", desc := "(II)I" } : Jvm.MethodName) prog_1_method_28_code (3 : Nat) (Option.some Jvm.ClassFile.FieldType.int)) ∈ lw_all := lw_g (lw_at lw_m6 13 rfl) rfl
theorem q1337 : (Jvm.Cond.instanceMethod ({ cls := "TrunkLitters", name := "gone", desc := "(I)I" } : Jvm.MethodName)) ∈ lw_all := lw_g (lw_at lw_m6 15 rfl) rfl
theorem q1338 : (Jvm.Cond.selects "TrunkLitters" ({ cls := "TrunkLitters", name := "gone", desc := "(I)I" } : Jvm.MethodName) ({ cls := "TrunkLitters", name := "gone", desc := "(I)I" } : Jvm.MethodName)) ∈ lw_all := lw_g (lw_at lw_m6 16 rfl) rfl
theorem q1339 : (Jvm.Cond.code ({ cls := "TrunkLitters", name := "gone", desc := "(I)I" } : Jvm.MethodName) prog_1_method_29_code (3 : Nat) (Option.some Jvm.ClassFile.FieldType.int)) ∈ lw_all := lw_g (lw_at lw_m6 17 rfl) rfl
theorem q1341 : (Jvm.Cond.instanceMethod ({ cls := "TrunkLitters", name := "fading", desc := "(I)I" } : Jvm.MethodName)) ∈ lw_all := lw_g (lw_at lw_m6 19 rfl) rfl
theorem q1342 : (Jvm.Cond.selects "TrunkLitters" ({ cls := "TrunkLitters", name := "fading", desc := "(I)I" } : Jvm.MethodName) ({ cls := "TrunkLitters", name := "fading", desc := "(I)I" } : Jvm.MethodName)) ∈ lw_all := lw_g (lw_at lw_m6 20 rfl) rfl
theorem q1343 : (Jvm.Cond.code ({ cls := "TrunkLitters", name := "fading", desc := "(I)I" } : Jvm.MethodName) prog_1_method_31_code (2 : Nat) (Option.some Jvm.ClassFile.FieldType.int)) ∈ lw_all := lw_g (lw_at lw_m6 21 rfl) rfl
theorem q1344 : (Jvm.Cond.methodLink "TrunkLitters" (255 : Nat) ({ cls := "TrunkLitters", name := "marksOf", desc := "(LTrunkLitters$House;)I" } : Jvm.MethodName)) ∈ lw_all := lw_g (lw_at lw_m6 22 rfl) rfl
theorem q1345 : (Jvm.Cond.static ({ cls := "TrunkLitters", name := "marksOf", desc := "(LTrunkLitters$House;)I" } : Jvm.MethodName)) ∈ lw_all := lw_g (lw_at lw_m6 23 rfl) rfl
theorem q1346 : (Jvm.Cond.code ({ cls := "TrunkLitters", name := "marksOf", desc := "(LTrunkLitters$House;)I" } : Jvm.MethodName) prog_1_method_30_code (3 : Nat) (Option.some Jvm.ClassFile.FieldType.int)) ∈ lw_all := lw_g (lw_at lw_m6 24 rfl) rfl
theorem q1348 : (Jvm.Cond.instanceMethod ({ cls := "TrunkLitters", name := "best", desc := "(II)I" } : Jvm.MethodName)) ∈ lw_all := lw_g (lw_at lw_m6 26 rfl) rfl
theorem q1349 : (Jvm.Cond.selects "TrunkLitters" ({ cls := "TrunkLitters", name := "best", desc := "(II)I" } : Jvm.MethodName) ({ cls := "TrunkLitters", name := "best", desc := "(II)I" } : Jvm.MethodName)) ∈ lw_all := lw_g (lw_at lw_m6 27 rfl) rfl
theorem q1350 : (Jvm.Cond.code ({ cls := "TrunkLitters", name := "best", desc := "(II)I" } : Jvm.MethodName) prog_1_method_32_code (7 : Nat) (Option.some Jvm.ClassFile.FieldType.int)) ∈ lw_all := lw_g (lw_at lw_m6 28 rfl) rfl
theorem q1352 : (Jvm.Cond.instanceMethod ({ cls := "TrunkLitters", name := "need", desc := "(I)I" } : Jvm.MethodName)) ∈ lw_all := lw_g (lw_at lw_m6 30 rfl) rfl
theorem q1353 : (Jvm.Cond.selects "TrunkLitters" ({ cls := "TrunkLitters", name := "need", desc := "(I)I" } : Jvm.MethodName) ({ cls := "TrunkLitters", name := "need", desc := "(I)I" } : Jvm.MethodName)) ∈ lw_all := lw_g (lw_at lw_m6 31 rfl) rfl
theorem q1354 : (Jvm.Cond.code ({ cls := "TrunkLitters", name := "need", desc := "(I)I" } : Jvm.MethodName) prog_1_method_33_code (4 : Nat) (Option.some Jvm.ClassFile.FieldType.int)) ∈ lw_all := lw_g (lw_at lw_m6 32 rfl) rfl
theorem q1355 : (Jvm.Cond.methodLink "TrunkLitters" (259 : Nat) ({ cls := "java/lang/Math", name := "max", desc := "(II)I" } : Jvm.MethodName)) ∈ lw_all := lw_g (lw_at lw_m6 33 rfl) rfl
theorem q1357 : (Jvm.Cond.instanceMethod ({ cls := "TrunkLitters", name := "pining", desc := "()I" } : Jvm.MethodName)) ∈ lw_all := lw_g (lw_at lw_m6 35 rfl) rfl
theorem q1358 : (Jvm.Cond.selects "TrunkLitters" ({ cls := "TrunkLitters", name := "pining", desc := "()I" } : Jvm.MethodName) ({ cls := "TrunkLitters", name := "pining", desc := "()I" } : Jvm.MethodName)) ∈ lw_all := lw_g (lw_at lw_m6 36 rfl) rfl
theorem q1359 : (Jvm.Cond.code ({ cls := "TrunkLitters", name := "pining", desc := "()I" } : Jvm.MethodName) prog_1_method_34_code (3 : Nat) (Option.some Jvm.ClassFile.FieldType.int)) ∈ lw_all := lw_g (lw_at lw_m6 37 rfl) rfl
theorem q1361 : (Jvm.Cond.instanceMethod ({ cls := "TrunkLitters", name := "pack", desc := "()I" } : Jvm.MethodName)) ∈ lw_all := lw_g (lw_at lw_m6 39 rfl) rfl
theorem q1362 : (Jvm.Cond.selects "TrunkLitters" ({ cls := "TrunkLitters", name := "pack", desc := "()I" } : Jvm.MethodName) ({ cls := "TrunkLitters", name := "pack", desc := "()I" } : Jvm.MethodName)) ∈ lw_all := lw_g (lw_at lw_m6 40 rfl) rfl
theorem q1363 : (Jvm.Cond.code ({ cls := "TrunkLitters", name := "pack", desc := "()I" } : Jvm.MethodName) prog_1_method_36_code (2 : Nat) (Option.some Jvm.ClassFile.FieldType.int)) ∈ lw_all := lw_g (lw_at lw_m6 41 rfl) rfl
theorem q1364 : (Jvm.Cond.methodLink "TrunkLitters" (268 : Nat) ({ cls := "TrunkLitters", name := "packs", desc := "(II)V" } : Jvm.MethodName)) ∈ lw_all := lw_g (lw_at lw_m6 42 rfl) rfl
theorem q1365 : (Jvm.Cond.privateMethod ({ cls := "TrunkLitters", name := "packs", desc := "(II)V" } : Jvm.MethodName)) ∈ lw_tbl := lw_at lw_m6 43 rfl
theorem q1366 : (Jvm.Cond.instanceMethod ({ cls := "TrunkLitters", name := "packs", desc := "(II)V" } : Jvm.MethodName)) ∈ lw_all := lw_g (lw_at lw_m6 44 rfl) rfl
theorem q1367 : (Jvm.Cond.code ({ cls := "TrunkLitters", name := "packs", desc := "(II)V" } : Jvm.MethodName) prog_1_method_35_code (4 : Nat) (Option.none : Option Jvm.ClassFile.FieldType)) ∈ lw_all := lw_g (lw_at lw_m6 45 rfl) rfl
theorem q1369 : (Jvm.Cond.instanceMethod ({ cls := "TrunkLitters", name := "fill", desc := "(II)I" } : Jvm.MethodName)) ∈ lw_all := lw_g (lw_at lw_m6 47 rfl) rfl
theorem q1370 : (Jvm.Cond.selects "TrunkLitters" ({ cls := "TrunkLitters", name := "fill", desc := "(II)I" } : Jvm.MethodName) ({ cls := "TrunkLitters", name := "fill", desc := "(II)I" } : Jvm.MethodName)) ∈ lw_all := lw_g (lw_at lw_m6 48 rfl) rfl
theorem q1371 : (Jvm.Cond.code ({ cls := "TrunkLitters", name := "fill", desc := "(II)I" } : Jvm.MethodName) prog_1_method_37_code (7 : Nat) (Option.some Jvm.ClassFile.FieldType.int)) ∈ lw_all := lw_g (lw_at lw_m6 49 rfl) rfl
theorem q1372 : (Jvm.Cond.methodLink "TrunkLitters" (272 : Nat) ({ cls := "TrunkLitters$House", name := "bulkOf", desc := "(I)I" } : Jvm.MethodName)) ∈ lw_all := lw_g (lw_at lw_m6 50 rfl) rfl
theorem q1374 : (Jvm.Cond.instanceMethod ({ cls := "TrunkLitters", name := "alike", desc := "(II)I" } : Jvm.MethodName)) ∈ lw_all := lw_g (lw_at lw_m6 52 rfl) rfl
theorem q1375 : (Jvm.Cond.selects "TrunkLitters" ({ cls := "TrunkLitters", name := "alike", desc := "(II)I" } : Jvm.MethodName) ({ cls := "TrunkLitters", name := "alike", desc := "(II)I" } : Jvm.MethodName)) ∈ lw_all := lw_g (lw_at lw_m6 53 rfl) rfl
theorem q1376 : (Jvm.Cond.code ({ cls := "TrunkLitters", name := "alike", desc := "(II)I" } : Jvm.MethodName) prog_1_method_38_code (3 : Nat) (Option.some Jvm.ClassFile.FieldType.int)) ∈ lw_all := lw_g (lw_at lw_m6 54 rfl) rfl
theorem q1377 : (Jvm.Cond.methodLink "TrunkLitters" (275 : Nat) ({ cls := "TrunkLitters", name := "shared", desc := "(II)I" } : Jvm.MethodName)) ∈ lw_all := lw_g (lw_at lw_m6 55 rfl) rfl
theorem q1379 : (Jvm.Cond.instanceMethod ({ cls := "TrunkLitters", name := "sires", desc := "(II)I" } : Jvm.MethodName)) ∈ lw_all := lw_g (lw_at lw_m6 57 rfl) rfl
theorem q1380 : (Jvm.Cond.selects "TrunkLitters" ({ cls := "TrunkLitters", name := "sires", desc := "(II)I" } : Jvm.MethodName) ({ cls := "TrunkLitters", name := "sires", desc := "(II)I" } : Jvm.MethodName)) ∈ lw_all := lw_g (lw_at lw_m6 58 rfl) rfl
theorem q1381 : (Jvm.Cond.code ({ cls := "TrunkLitters", name := "sires", desc := "(II)I" } : Jvm.MethodName) prog_1_method_40_code (8 : Nat) (Option.some Jvm.ClassFile.FieldType.int)) ∈ lw_all := lw_g (lw_at lw_m6 59 rfl) rfl
theorem q1382 : (Jvm.Cond.methodLink "TrunkLitters" (278 : Nat) ({ cls := "TrunkLitters", name := "foreign", desc := "(III)I" } : Jvm.MethodName)) ∈ lw_all := lw_g (lw_at lw_m6 60 rfl) rfl
theorem q1383 : (Jvm.Cond.privateMethod ({ cls := "TrunkLitters", name := "foreign", desc := "(III)I" } : Jvm.MethodName)) ∈ lw_tbl := lw_at lw_m6 61 rfl
theorem q1384 : (Jvm.Cond.instanceMethod ({ cls := "TrunkLitters", name := "foreign", desc := "(III)I" } : Jvm.MethodName)) ∈ lw_all := lw_g (lw_at lw_m6 62 rfl) rfl
theorem q1385 : (Jvm.Cond.code ({ cls := "TrunkLitters", name := "foreign", desc := "(III)I" } : Jvm.MethodName) prog_1_method_39_code (4 : Nat) (Option.some Jvm.ClassFile.FieldType.int)) ∈ lw_all := lw_g (lw_at lw_m6 63 rfl) rfl
theorem q1387 : (Jvm.Cond.instanceMethod ({ cls := "TrunkLitters", name := "quartet", desc := "(IIIII)I" } : Jvm.MethodName)) ∈ lw_all := lw_g (lw_at lw_m6 65 rfl) rfl
theorem q1388 : (Jvm.Cond.selects "TrunkLitters" ({ cls := "TrunkLitters", name := "quartet", desc := "(IIIII)I" } : Jvm.MethodName) ({ cls := "TrunkLitters", name := "quartet", desc := "(IIIII)I" } : Jvm.MethodName)) ∈ lw_all := lw_g (lw_at lw_m6 66 rfl) rfl
theorem q1389 : (Jvm.Cond.code ({ cls := "TrunkLitters", name := "quartet", desc := "(IIIII)I" } : Jvm.MethodName) prog_1_method_42_code (10 : Nat) (Option.some Jvm.ClassFile.FieldType.int)) ∈ lw_all := lw_g (lw_at lw_m6 67 rfl) rfl
theorem q1390 : (Jvm.Cond.methodLink "TrunkLitters" (282 : Nat) ({ cls := "TrunkLitters", name := "changes", desc := "(IIII)I" } : Jvm.MethodName)) ∈ lw_all := lw_g (lw_at lw_m6 68 rfl) rfl
theorem q1391 : (Jvm.Cond.privateMethod ({ cls := "TrunkLitters", name := "changes", desc := "(IIII)I" } : Jvm.MethodName)) ∈ lw_tbl := lw_at lw_m6 69 rfl
theorem q1392 : (Jvm.Cond.instanceMethod ({ cls := "TrunkLitters", name := "changes", desc := "(IIII)I" } : Jvm.MethodName)) ∈ lw_all := lw_g (lw_at lw_m6 70 rfl) rfl
theorem q1393 : (Jvm.Cond.code ({ cls := "TrunkLitters", name := "changes", desc := "(IIII)I" } : Jvm.MethodName) prog_1_method_41_code (12 : Nat) (Option.some Jvm.ClassFile.FieldType.int)) ∈ lw_all := lw_g (lw_at lw_m6 71 rfl) rfl
theorem q1394 : (Jvm.Cond.methodLink "TrunkLitters" (286 : Nat) ({ cls := "java/lang/Math", name := "min", desc := "(II)I" } : Jvm.MethodName)) ∈ lw_all := lw_g (lw_at lw_m6 72 rfl) rfl
theorem q1396 : (Jvm.Cond.instanceMethod ({ cls := "TrunkLitters", name := "span", desc := "()I" } : Jvm.MethodName)) ∈ lw_all := lw_g (lw_at lw_m6 74 rfl) rfl
theorem q1397 : (Jvm.Cond.selects "TrunkLitters" ({ cls := "TrunkLitters", name := "span", desc := "()I" } : Jvm.MethodName) ({ cls := "TrunkLitters", name := "span", desc := "()I" } : Jvm.MethodName)) ∈ lw_all := lw_g (lw_at lw_m6 75 rfl) rfl
theorem q1398 : (Jvm.Cond.code ({ cls := "TrunkLitters", name := "span", desc := "()I" } : Jvm.MethodName) prog_1_method_43_code (7 : Nat) (Option.some Jvm.ClassFile.FieldType.int)) ∈ lw_all := lw_g (lw_at lw_m6 76 rfl) rfl
theorem q1399 : (Jvm.Cond.methodLink "TrunkLitters" (289 : Nat) ({ cls := "java/lang/Integer", name := "lowestOneBit", desc := "(I)I" } : Jvm.MethodName)) ∈ lw_all := lw_g (lw_at lw_m6 77 rfl) rfl
theorem q1403 : (Jvm.Cond.instanceMethod ({ cls := "TrunkLitters", name := "odd", desc := "()I" } : Jvm.MethodName)) ∈ lw_all := lw_g (lw_at lw_m6 81 rfl) rfl
theorem q1404 : (Jvm.Cond.selects "TrunkLitters" ({ cls := "TrunkLitters", name := "odd", desc := "()I" } : Jvm.MethodName) ({ cls := "TrunkLitters", name := "odd", desc := "()I" } : Jvm.MethodName)) ∈ lw_all := lw_g (lw_at lw_m6 82 rfl) rfl
theorem q1405 : (Jvm.Cond.code ({ cls := "TrunkLitters", name := "odd", desc := "()I" } : Jvm.MethodName) prog_1_method_45_code (3 : Nat) (Option.some Jvm.ClassFile.FieldType.int)) ∈ lw_all := lw_g (lw_at lw_m6 83 rfl) rfl
theorem q1406 : (Jvm.Cond.methodLink "TrunkLitters" (292 : Nat) ({ cls := "TrunkLitters", name := "sharedWithAll", desc := "(I)I" } : Jvm.MethodName)) ∈ lw_all := lw_g (lw_at lw_m6 84 rfl) rfl
theorem q1407 : (Jvm.Cond.privateMethod ({ cls := "TrunkLitters", name := "sharedWithAll", desc := "(I)I" } : Jvm.MethodName)) ∈ lw_tbl := lw_at lw_m6 85 rfl
theorem q1408 : (Jvm.Cond.instanceMethod ({ cls := "TrunkLitters", name := "sharedWithAll", desc := "(I)I" } : Jvm.MethodName)) ∈ lw_all := lw_g (lw_at lw_m6 86 rfl) rfl
theorem q1409 : (Jvm.Cond.code ({ cls := "TrunkLitters", name := "sharedWithAll", desc := "(I)I" } : Jvm.MethodName) prog_1_method_44_code (4 : Nat) (Option.some Jvm.ClassFile.FieldType.int)) ∈ lw_all := lw_g (lw_at lw_m6 87 rfl) rfl
theorem q1411 : (Jvm.Cond.instanceMethod ({ cls := "TrunkLitters", name := "like", desc := "(I)I" } : Jvm.MethodName)) ∈ lw_all := lw_g (lw_at lw_m6 89 rfl) rfl
theorem q1412 : (Jvm.Cond.selects "TrunkLitters" ({ cls := "TrunkLitters", name := "like", desc := "(I)I" } : Jvm.MethodName) ({ cls := "TrunkLitters", name := "like", desc := "(I)I" } : Jvm.MethodName)) ∈ lw_all := lw_g (lw_at lw_m6 90 rfl) rfl
theorem q1413 : (Jvm.Cond.code ({ cls := "TrunkLitters", name := "like", desc := "(I)I" } : Jvm.MethodName) prog_1_method_46_code (4 : Nat) (Option.some Jvm.ClassFile.FieldType.int)) ∈ lw_all := lw_g (lw_at lw_m6 91 rfl) rfl
theorem q1414 : (Jvm.Cond.methodLink "TrunkLitters" (295 : Nat) ({ cls := "TrunkLitters", name := "alike", desc := "(II)I" } : Jvm.MethodName)) ∈ lw_all := lw_g (lw_at lw_m6 92 rfl) rfl
theorem q1416 : (Jvm.Cond.instanceMethod ({ cls := "TrunkLitters", name := "bearers", desc := "(I)I" } : Jvm.MethodName)) ∈ lw_all := lw_g (lw_at lw_m6 94 rfl) rfl
theorem q1417 : (Jvm.Cond.selects "TrunkLitters" ({ cls := "TrunkLitters", name := "bearers", desc := "(I)I" } : Jvm.MethodName) ({ cls := "TrunkLitters", name := "bearers", desc := "(I)I" } : Jvm.MethodName)) ∈ lw_all := lw_g (lw_at lw_m6 95 rfl) rfl
theorem q1418 : (Jvm.Cond.code ({ cls := "TrunkLitters", name := "bearers", desc := "(I)I" } : Jvm.MethodName) prog_1_method_47_code (4 : Nat) (Option.some Jvm.ClassFile.FieldType.int)) ∈ lw_all := lw_g (lw_at lw_m6 96 rfl) rfl
theorem q1420 : (Jvm.Cond.instanceMethod ({ cls := "TrunkLitters", name := "roomiest", desc := "()I" } : Jvm.MethodName)) ∈ lw_all := lw_g (lw_at lw_m6 98 rfl) rfl
theorem q1421 : (Jvm.Cond.selects "TrunkLitters" ({ cls := "TrunkLitters", name := "roomiest", desc := "()I" } : Jvm.MethodName) ({ cls := "TrunkLitters", name := "roomiest", desc := "()I" } : Jvm.MethodName)) ∈ lw_all := lw_g (lw_at lw_m6 99 rfl) rfl
theorem q1422 : (Jvm.Cond.code ({ cls := "TrunkLitters", name := "roomiest", desc := "()I" } : Jvm.MethodName) prog_1_method_48_code (3 : Nat) (Option.some Jvm.ClassFile.FieldType.int)) ∈ lw_all := lw_g (lw_at lw_m6 100 rfl) rfl
theorem q1424 : (Jvm.Cond.instanceMethod ({ cls := "TrunkLitters", name := "line", desc := "(I)I" } : Jvm.MethodName)) ∈ lw_all := lw_g (lw_at lw_m6 102 rfl) rfl
theorem q1425 : (Jvm.Cond.selects "TrunkLitters" ({ cls := "TrunkLitters", name := "line", desc := "(I)I" } : Jvm.MethodName) ({ cls := "TrunkLitters", name := "line", desc := "(I)I" } : Jvm.MethodName)) ∈ lw_all := lw_g (lw_at lw_m6 103 rfl) rfl
theorem q1426 : (Jvm.Cond.code ({ cls := "TrunkLitters", name := "line", desc := "(I)I" } : Jvm.MethodName) prog_1_method_50_code (4 : Nat) (Option.some Jvm.ClassFile.FieldType.int)) ∈ lw_all := lw_g (lw_at lw_m6 104 rfl) rfl
theorem q1427 : (Jvm.Cond.methodLink "TrunkLitters" (298 : Nat) ({ cls := "TrunkLitters", name := "parentsOf", desc := "(I)I" } : Jvm.MethodName)) ∈ lw_all := lw_g (lw_at lw_m6 105 rfl) rfl
theorem q1428 : (Jvm.Cond.privateMethod ({ cls := "TrunkLitters", name := "parentsOf", desc := "(I)I" } : Jvm.MethodName)) ∈ lw_tbl := lw_at lw_m6 106 rfl
theorem q1429 : (Jvm.Cond.instanceMethod ({ cls := "TrunkLitters", name := "parentsOf", desc := "(I)I" } : Jvm.MethodName)) ∈ lw_all := lw_g (lw_at lw_m6 107 rfl) rfl
theorem q1430 : (Jvm.Cond.code ({ cls := "TrunkLitters", name := "parentsOf", desc := "(I)I" } : Jvm.MethodName) prog_1_method_49_code (4 : Nat) (Option.some Jvm.ClassFile.FieldType.int)) ∈ lw_all := lw_g (lw_at lw_m6 108 rfl) rfl
theorem q1432 : (Jvm.Cond.instanceMethod ({ cls := "TrunkLitters", name := "litter", desc := "(I)I" } : Jvm.MethodName)) ∈ lw_all := lw_g (lw_at lw_m6 110 rfl) rfl
theorem q1433 : (Jvm.Cond.selects "TrunkLitters" ({ cls := "TrunkLitters", name := "litter", desc := "(I)I" } : Jvm.MethodName) ({ cls := "TrunkLitters", name := "litter", desc := "(I)I" } : Jvm.MethodName)) ∈ lw_all := lw_g (lw_at lw_m6 111 rfl) rfl
theorem q1434 : (Jvm.Cond.code ({ cls := "TrunkLitters", name := "litter", desc := "(I)I" } : Jvm.MethodName) prog_1_method_51_code (4 : Nat) (Option.some Jvm.ClassFile.FieldType.int)) ∈ lw_all := lw_g (lw_at lw_m6 112 rfl) rfl
theorem q1436 : (Jvm.Cond.instanceMethod ({ cls := "TrunkLitters", name := "kin", desc := "(II)I" } : Jvm.MethodName)) ∈ lw_all := lw_g (lw_at lw_m6 114 rfl) rfl
theorem q1437 : (Jvm.Cond.selects "TrunkLitters" ({ cls := "TrunkLitters", name := "kin", desc := "(II)I" } : Jvm.MethodName) ({ cls := "TrunkLitters", name := "kin", desc := "(II)I" } : Jvm.MethodName)) ∈ lw_all := lw_g (lw_at lw_m6 115 rfl) rfl
theorem q1438 : (Jvm.Cond.code ({ cls := "TrunkLitters", name := "kin", desc := "(II)I" } : Jvm.MethodName) prog_1_method_53_code (7 : Nat) (Option.some Jvm.ClassFile.FieldType.int)) ∈ lw_all := lw_g (lw_at lw_m6 116 rfl) rfl
theorem q1439 : (Jvm.Cond.methodLink "TrunkLitters" (301 : Nat) ({ cls := "TrunkLitters", name := "steps", desc := "(II)I" } : Jvm.MethodName)) ∈ lw_all := lw_g (lw_at lw_m6 117 rfl) rfl
theorem q1440 : (Jvm.Cond.privateMethod ({ cls := "TrunkLitters", name := "steps", desc := "(II)I" } : Jvm.MethodName)) ∈ lw_tbl := lw_at lw_m6 118 rfl
theorem q1441 : (Jvm.Cond.instanceMethod ({ cls := "TrunkLitters", name := "steps", desc := "(II)I" } : Jvm.MethodName)) ∈ lw_all := lw_g (lw_at lw_m6 119 rfl) rfl
theorem q1442 : (Jvm.Cond.code ({ cls := "TrunkLitters", name := "steps", desc := "(II)I" } : Jvm.MethodName) prog_1_method_52_code (5 : Nat) (Option.some Jvm.ClassFile.FieldType.int)) ∈ lw_all := lw_g (lw_at lw_m6 120 rfl) rfl
theorem q1444 : (Jvm.Cond.instanceMethod ({ cls := "TrunkLitters", name := "rivals", desc := "(II)I" } : Jvm.MethodName)) ∈ lw_all := lw_g (lw_at lw_m6 122 rfl) rfl
theorem q1445 : (Jvm.Cond.selects "TrunkLitters" ({ cls := "TrunkLitters", name := "rivals", desc := "(II)I" } : Jvm.MethodName) ({ cls := "TrunkLitters", name := "rivals", desc := "(II)I" } : Jvm.MethodName)) ∈ lw_all := lw_g (lw_at lw_m6 123 rfl) rfl
theorem q1446 : (Jvm.Cond.code ({ cls := "TrunkLitters", name := "rivals", desc := "(II)I" } : Jvm.MethodName) prog_1_method_55_code (8 : Nat) (Option.some Jvm.ClassFile.FieldType.int)) ∈ lw_all := lw_g (lw_at lw_m6 124 rfl) rfl
theorem q1447 : (Jvm.Cond.methodLink "TrunkLitters" (310 : Nat) ({ cls := "TrunkLitters", name := "rests", desc := "(II)Z" } : Jvm.MethodName)) ∈ lw_all := lw_g (lw_at lw_m6 125 rfl) rfl
theorem q1448 : (Jvm.Cond.privateMethod ({ cls := "TrunkLitters", name := "rests", desc := "(II)Z" } : Jvm.MethodName)) ∈ lw_tbl := lw_at lw_m6 126 rfl
theorem q1449 : (Jvm.Cond.instanceMethod ({ cls := "TrunkLitters", name := "rests", desc := "(II)Z" } : Jvm.MethodName)) ∈ lw_all := lw_g (lw_at lw_m6 127 rfl) rfl
theorem q1450 : (Jvm.Cond.code ({ cls := "TrunkLitters", name := "rests", desc := "(II)Z" } : Jvm.MethodName) prog_1_method_54_code (5 : Nat) (Option.some Jvm.ClassFile.FieldType.boolean)) ∈ lw_all := lw_g (lw_at lw_m6 128 rfl) rfl
theorem q1452 : (Jvm.Cond.instanceMethod ({ cls := "TrunkLitters", name := "lies", desc := "(I)I" } : Jvm.MethodName)) ∈ lw_all := lw_g (lw_at lw_m6 130 rfl) rfl
theorem q1453 : (Jvm.Cond.selects "TrunkLitters" ({ cls := "TrunkLitters", name := "lies", desc := "(I)I" } : Jvm.MethodName) ({ cls := "TrunkLitters", name := "lies", desc := "(I)I" } : Jvm.MethodName)) ∈ lw_all := lw_g (lw_at lw_m6 131 rfl) rfl
theorem q1454 : (Jvm.Cond.code ({ cls := "TrunkLitters", name := "lies", desc := "(I)I" } : Jvm.MethodName) prog_1_method_56_code (2 : Nat) (Option.some Jvm.ClassFile.FieldType.int)) ∈ lw_all := lw_g (lw_at lw_m6 132 rfl) rfl
theorem q1456 : (Jvm.Cond.instanceMethod ({ cls := "TrunkLitters", name := "held", desc := "(IIZ)I" } : Jvm.MethodName)) ∈ lw_all := lw_g (lw_at lw_m6 134 rfl) rfl
theorem q1457 : (Jvm.Cond.selects "TrunkLitters" ({ cls := "TrunkLitters", name := "held", desc := "(IIZ)I" } : Jvm.MethodName) ({ cls := "TrunkLitters", name := "held", desc := "(IIZ)I" } : Jvm.MethodName)) ∈ lw_all := lw_g (lw_at lw_m6 135 rfl) rfl
theorem q1458 : (Jvm.Cond.code ({ cls := "TrunkLitters", name := "held", desc := "(IIZ)I" } : Jvm.MethodName) prog_1_method_59_code (4 : Nat) (Option.some Jvm.ClassFile.FieldType.int)) ∈ lw_all := lw_g (lw_at lw_m6 136 rfl) rfl
theorem q1459 : (Jvm.Cond.methodLink "TrunkLitters" (318 : Nat) ({ cls := "TrunkLitters", name := "isOther", desc := "(I)Z" } : Jvm.MethodName)) ∈ lw_all := lw_g (lw_at lw_m6 137 rfl) rfl
theorem q1460 : (Jvm.Cond.privateMethod ({ cls := "TrunkLitters", name := "isOther", desc := "(I)Z" } : Jvm.MethodName)) ∈ lw_tbl := lw_at lw_m6 138 rfl
theorem q1461 : (Jvm.Cond.instanceMethod ({ cls := "TrunkLitters", name := "isOther", desc := "(I)Z" } : Jvm.MethodName)) ∈ lw_all := lw_g (lw_at lw_m6 139 rfl) rfl
theorem q1462 : (Jvm.Cond.code ({ cls := "TrunkLitters", name := "isOther", desc := "(I)Z" } : Jvm.MethodName) prog_1_method_58_code (2 : Nat) (Option.some Jvm.ClassFile.FieldType.boolean)) ∈ lw_all := lw_g (lw_at lw_m6 140 rfl) rfl
theorem q1463 : (Jvm.Cond.classLink "TrunkLitters" (321 : Nat) "TrunkLitters$Tale") ∈ lw_all := lw_g (lw_at lw_m6 141 rfl) rfl
theorem q1465 : (Jvm.Cond.methodLink "TrunkLitters" (323 : Nat) ({ cls := "TrunkLitters$Tale", name := "<init>", desc := "(LTrunkLitters;IIZ)V" } : Jvm.MethodName)) ∈ lw_all := lw_g (lw_at lw_m6 143 rfl) rfl
theorem q1488 : (Jvm.Cond.methodLink "TrunkLitters" (326 : Nat) ({ cls := "java/util/ArrayList", name := "add", desc := "(Ljava/lang/Object;)Z" } : Jvm.MethodName)) ∈ lw_all := lw_g (lw_at lw_m6 166 rfl) rfl
theorem q1490 : (Jvm.Cond.instanceMethod ({ cls := "TrunkLitters", name := "untell", desc := "(I)Z" } : Jvm.MethodName)) ∈ lw_all := lw_g (lw_at lw_m6 168 rfl) rfl
theorem q1491 : (Jvm.Cond.selects "TrunkLitters" ({ cls := "TrunkLitters", name := "untell", desc := "(I)Z" } : Jvm.MethodName) ({ cls := "TrunkLitters", name := "untell", desc := "(I)Z" } : Jvm.MethodName)) ∈ lw_all := lw_g (lw_at lw_m6 169 rfl) rfl
theorem q1492 : (Jvm.Cond.code ({ cls := "TrunkLitters", name := "untell", desc := "(I)Z" } : Jvm.MethodName) prog_1_method_60_code (2 : Nat) (Option.some Jvm.ClassFile.FieldType.boolean)) ∈ lw_all := lw_g (lw_at lw_m6 170 rfl) rfl
theorem q1493 : (Jvm.Cond.methodLink "TrunkLitters" (329 : Nat) ({ cls := "TrunkLitters$Tale", name := "ends", desc := "()Z" } : Jvm.MethodName)) ∈ lw_all := lw_g (lw_at lw_m6 171 rfl) rfl
theorem q1498 : (Jvm.Cond.instanceMethod ({ cls := "TrunkLitters", name := "later", desc := "(I)I" } : Jvm.MethodName)) ∈ lw_all := lw_g (lw_at lw_m6 176 rfl) rfl
theorem q1499 : (Jvm.Cond.selects "TrunkLitters" ({ cls := "TrunkLitters", name := "later", desc := "(I)I" } : Jvm.MethodName) ({ cls := "TrunkLitters", name := "later", desc := "(I)I" } : Jvm.MethodName)) ∈ lw_all := lw_g (lw_at lw_m6 177 rfl) rfl
theorem q1500 : (Jvm.Cond.code ({ cls := "TrunkLitters", name := "later", desc := "(I)I" } : Jvm.MethodName) prog_1_method_61_code (2 : Nat) (Option.some Jvm.ClassFile.FieldType.int)) ∈ lw_all := lw_g (lw_at lw_m6 178 rfl) rfl
theorem q1501 : (Jvm.Cond.constant "TrunkLitters" (336 : Nat) (100000 : Int32)) ∈ lw_all := lw_g (lw_at lw_m6 179 rfl) rfl
theorem q1503 : (Jvm.Cond.instanceMethod ({ cls := "TrunkLitters", name := "fits", desc := "(I)I" } : Jvm.MethodName)) ∈ lw_all := lw_g (lw_at lw_m6 181 rfl) rfl
theorem q1504 : (Jvm.Cond.selects "TrunkLitters" ({ cls := "TrunkLitters", name := "fits", desc := "(I)I" } : Jvm.MethodName) ({ cls := "TrunkLitters", name := "fits", desc := "(I)I" } : Jvm.MethodName)) ∈ lw_all := lw_g (lw_at lw_m6 182 rfl) rfl
theorem q1505 : (Jvm.Cond.code ({ cls := "TrunkLitters", name := "fits", desc := "(I)I" } : Jvm.MethodName) prog_1_method_63_code (2 : Nat) (Option.some Jvm.ClassFile.FieldType.int)) ∈ lw_all := lw_g (lw_at lw_m6 183 rfl) rfl
theorem q1506 : (Jvm.Cond.methodLink "TrunkLitters" (340 : Nat) ({ cls := "TrunkLitters", name := "layFits", desc := "(I)I" } : Jvm.MethodName)) ∈ lw_all := lw_g (lw_at lw_m6 184 rfl) rfl
theorem q1507 : (Jvm.Cond.privateMethod ({ cls := "TrunkLitters", name := "layFits", desc := "(I)I" } : Jvm.MethodName)) ∈ lw_tbl := lw_at lw_m6 185 rfl
theorem q1508 : (Jvm.Cond.instanceMethod ({ cls := "TrunkLitters", name := "layFits", desc := "(I)I" } : Jvm.MethodName)) ∈ lw_all := lw_g (lw_at lw_m6 186 rfl) rfl
theorem q1509 : (Jvm.Cond.code ({ cls := "TrunkLitters", name := "layFits", desc := "(I)I" } : Jvm.MethodName) prog_1_method_62_code (5 : Nat) (Option.some Jvm.ClassFile.FieldType.int)) ∈ lw_all := lw_g (lw_at lw_m6 187 rfl) rfl
theorem q1510 : (Jvm.Cond.methodLink "TrunkLitters" (337 : Nat) ({ cls := "TrunkLitters$Tale", name := "allows", desc := "(II)Z" } : Jvm.MethodName)) ∈ lw_all := lw_g (lw_at lw_m6 188 rfl) rfl
theorem q1515 : (Jvm.Cond.privateMethod ({ cls := "TrunkLitters", name := "sharedAsTold", desc := "(II)I" } : Jvm.MethodName)) ∈ lw_tbl := lw_at lw_m6 193 rfl
theorem q1516 : (Jvm.Cond.instanceMethod ({ cls := "TrunkLitters", name := "sharedAsTold", desc := "(II)I" } : Jvm.MethodName)) ∈ lw_all := lw_g (lw_at lw_m6 194 rfl) rfl
theorem q1517 : (Jvm.Cond.code ({ cls := "TrunkLitters", name := "sharedAsTold", desc := "(II)I" } : Jvm.MethodName) prog_1_method_57_code (3 : Nat) (Option.some Jvm.ClassFile.FieldType.int)) ∈ lw_all := lw_g (lw_at lw_m6 195 rfl) rfl
theorem q1518 : (Jvm.Cond.classLink "TrunkLitters" (314 : Nat) "TrunkLitters$Trunk") ∈ lw_all := lw_g (lw_at lw_m6 196 rfl) rfl
theorem q1520 : (Jvm.Cond.instanceMethod ({ cls := "TrunkLitters", name := "sure", desc := "(II)I" } : Jvm.MethodName)) ∈ lw_all := lw_g (lw_at lw_m6 198 rfl) rfl
theorem q1521 : (Jvm.Cond.selects "TrunkLitters" ({ cls := "TrunkLitters", name := "sure", desc := "(II)I" } : Jvm.MethodName) ({ cls := "TrunkLitters", name := "sure", desc := "(II)I" } : Jvm.MethodName)) ∈ lw_all := lw_g (lw_at lw_m6 199 rfl) rfl
theorem q1522 : (Jvm.Cond.code ({ cls := "TrunkLitters", name := "sure", desc := "(II)I" } : Jvm.MethodName) prog_1_method_64_code (6 : Nat) (Option.some Jvm.ClassFile.FieldType.int)) ∈ lw_all := lw_g (lw_at lw_m6 200 rfl) rfl
theorem q1524 : (Jvm.Cond.instanceMethod ({ cls := "TrunkLitters", name := "ask", desc := "(II)I" } : Jvm.MethodName)) ∈ lw_all := lw_g (lw_at lw_m6 202 rfl) rfl
theorem q1525 : (Jvm.Cond.selects "TrunkLitters" ({ cls := "TrunkLitters", name := "ask", desc := "(II)I" } : Jvm.MethodName) ({ cls := "TrunkLitters", name := "ask", desc := "(II)I" } : Jvm.MethodName)) ∈ lw_all := lw_g (lw_at lw_m6 203 rfl) rfl
theorem q1526 : (Jvm.Cond.code ({ cls := "TrunkLitters", name := "ask", desc := "(II)I" } : Jvm.MethodName) prog_1_method_66_code (5 : Nat) (Option.some Jvm.ClassFile.FieldType.int)) ∈ lw_all := lw_g (lw_at lw_m6 204 rfl) rfl
theorem q1527 : (Jvm.Cond.methodLink "TrunkLitters" (346 : Nat) ({ cls := "TrunkLitters", name := "leftBy", desc := "(I)I" } : Jvm.MethodName)) ∈ lw_all := lw_g (lw_at lw_m6 205 rfl) rfl
theorem q1528 : (Jvm.Cond.privateMethod ({ cls := "TrunkLitters", name := "leftBy", desc := "(I)I" } : Jvm.MethodName)) ∈ lw_tbl := lw_at lw_m6 206 rfl
theorem q1529 : (Jvm.Cond.instanceMethod ({ cls := "TrunkLitters", name := "leftBy", desc := "(I)I" } : Jvm.MethodName)) ∈ lw_all := lw_g (lw_at lw_m6 207 rfl) rfl
theorem q1530 : (Jvm.Cond.code ({ cls := "TrunkLitters", name := "leftBy", desc := "(I)I" } : Jvm.MethodName) prog_1_method_65_code (5 : Nat) (Option.some Jvm.ClassFile.FieldType.int)) ∈ lw_all := lw_g (lw_at lw_m6 208 rfl) rfl
theorem q1531 : (Jvm.Cond.methodLink "TrunkLitters" (343 : Nat) ({ cls := "TrunkLitters", name := "sharedAsTold", desc := "(II)I" } : Jvm.MethodName)) ∈ lw_all := lw_g (lw_at lw_m6 209 rfl) rfl
theorem q1533 : (Jvm.Cond.instanceMethod ({ cls := "TrunkLitters", name := "image", desc := "(I)I" } : Jvm.MethodName)) ∈ lw_all := lw_g (lw_at lw_m6 211 rfl) rfl
theorem q1534 : (Jvm.Cond.selects "TrunkLitters" ({ cls := "TrunkLitters", name := "image", desc := "(I)I" } : Jvm.MethodName) ({ cls := "TrunkLitters", name := "image", desc := "(I)I" } : Jvm.MethodName)) ∈ lw_all := lw_g (lw_at lw_m6 212 rfl) rfl
theorem q1535 : (Jvm.Cond.code ({ cls := "TrunkLitters", name := "image", desc := "(I)I" } : Jvm.MethodName) prog_1_method_68_code (2 : Nat) (Option.some Jvm.ClassFile.FieldType.int)) ∈ lw_all := lw_g (lw_at lw_m6 213 rfl) rfl
theorem q1536 : (Jvm.Cond.methodLink "TrunkLitters" (349 : Nat) ({ cls := "TrunkLitters", name := "isBox", desc := "(I)Z" } : Jvm.MethodName)) ∈ lw_all := lw_g (lw_at lw_m6 214 rfl) rfl
theorem q1537 : (Jvm.Cond.static ({ cls := "TrunkLitters", name := "isBox", desc := "(I)Z" } : Jvm.MethodName)) ∈ lw_all := lw_g (lw_at lw_m6 215 rfl) rfl
theorem q1538 : (Jvm.Cond.code ({ cls := "TrunkLitters", name := "isBox", desc := "(I)Z" } : Jvm.MethodName) prog_1_method_67_code (1 : Nat) (Option.some Jvm.ClassFile.FieldType.boolean)) ∈ lw_all := lw_g (lw_at lw_m6 216 rfl) rfl
theorem q1540 : (Jvm.Cond.instanceMethod ({ cls := "TrunkLitters", name := "back", desc := "(I)I" } : Jvm.MethodName)) ∈ lw_all := lw_g (lw_at lw_m6 218 rfl) rfl
theorem q1541 : (Jvm.Cond.selects "TrunkLitters" ({ cls := "TrunkLitters", name := "back", desc := "(I)I" } : Jvm.MethodName) ({ cls := "TrunkLitters", name := "back", desc := "(I)I" } : Jvm.MethodName)) ∈ lw_all := lw_g (lw_at lw_m6 219 rfl) rfl
theorem q1542 : (Jvm.Cond.code ({ cls := "TrunkLitters", name := "back", desc := "(I)I" } : Jvm.MethodName) prog_1_method_69_code (2 : Nat) (Option.some Jvm.ClassFile.FieldType.int)) ∈ lw_all := lw_g (lw_at lw_m6 220 rfl) rfl
theorem q1544 : (Jvm.Cond.instanceMethod ({ cls := "TrunkLitters", name := "about", desc := "(I)I" } : Jvm.MethodName)) ∈ lw_all := lw_g (lw_at lw_m6 222 rfl) rfl
theorem q1545 : (Jvm.Cond.selects "TrunkLitters" ({ cls := "TrunkLitters", name := "about", desc := "(I)I" } : Jvm.MethodName) ({ cls := "TrunkLitters", name := "about", desc := "(I)I" } : Jvm.MethodName)) ∈ lw_all := lw_g (lw_at lw_m6 223 rfl) rfl
theorem q1546 : (Jvm.Cond.code ({ cls := "TrunkLitters", name := "about", desc := "(I)I" } : Jvm.MethodName) prog_1_method_70_code (2 : Nat) (Option.some Jvm.ClassFile.FieldType.int)) ∈ lw_all := lw_g (lw_at lw_m6 224 rfl) rfl
theorem q2261 : (Jvm.Cond.castable "TrunkLitters" "java/lang/Object") ∈ lw_tbl := lw_at lw_m9 219 rfl
theorem in_X0 : ∀ w ∈ wsX00, w ∈ lw_all := lw_in wsX00 [393, 395, 397, 399, 401, 403, 405, 407, 409, 411, 413, 415, 417, 419, 421, 423, 425, 427, 429, 431, 433, 435, 437, 439, 441, 443] (by decide +kernel) (by decide +kernel)
