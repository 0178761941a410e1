/-! TrunkLittersModel -/
set_option maxRecDepth 100000
def RX4 : String := "TrunkLittersModel"
def TX4 : u_T := fun k => match k with
  | 0 => ("TrunkLittersModel", "tape", "[B", true)
  | 1 => ("TrunkLittersModel", "text", "[B", true)
  | 2 => ("TrunkLittersModel", "taped", "I", false)
  | 3 => ("TrunkLittersModel", "size", "I", false)
  | 4 => ("TrunkLittersModel", "faultKind", "I", false)
  | 5 => ("TrunkLittersModel", "faultPlace", "I", false)
  | 6 => ("TrunkLittersModel", "at", "I", false)
  | 7 => ("TrunkLittersModel", "end", "I", false)
  | 8 => ("TrunkLittersModel", "token", "I", false)
  | 9 => ("TrunkLittersModel", "number", "I", false)
  | 10 => ("TrunkLittersModel", "name", "J", false)
  | 11 => ("TrunkLittersModel", "rooms", "[I", true)
  | 12 => ("TrunkLittersModel", "trunks", "[I", true)
  | 13 => ("TrunkLittersModel", "units", "[I", true)
  | 14 => ("TrunkLittersModel", "pines", "[I", true)
  | 15 => ("TrunkLittersModel", "tales", "[I", true)
  | 16 => ("TrunkLittersModel", "draw", "[I", true)
  | 17 => ("TrunkLittersModel", "told", "[I", true)
  | 18 => ("TrunkLittersModel", "holds", "[I", true)
  | 19 => ("TrunkLittersModel", "bulkTold", "[I", true)
  | 20 => ("TrunkLittersModel", "roomTold", "[I", true)
  | 21 => ("TrunkLittersModel", "marksTold", "[I", true)
  | 22 => ("TrunkLittersModel", "hasTold", "[I", true)
  | 23 => ("TrunkLittersModel", "ruleFrom", "[I", true)
  | 24 => ("TrunkLittersModel", "ruleTo", "[I", true)
  | 25 => ("TrunkLittersModel", "rName", "[J", true)
  | 26 => ("TrunkLittersModel", "tName", "[J", true)
  | 27 => ("TrunkLittersModel", "code", "[I", true)
  | 28 => ("TrunkLittersModel", "codeNumber", "[I", true)
  | 29 => ("TrunkLittersModel", "eWhat", "[I", true)
  | 30 => ("TrunkLittersModel", "eSign", "[I", true)
  | 31 => ("TrunkLittersModel", "pile", "[I", true)
  | 32 => ("TrunkLittersModel", "bank", "I", false)
  | 33 => ("TrunkLittersModel", "rb", "I", false)
  | 34 => ("TrunkLittersModel", "codes", "I", false)
  | 35 => ("TrunkLittersModel", "within", "I", false)
  | 36 => ("TrunkLittersModel", "piled", "I", false)
  | 37 => ("TrunkLittersModel", "unitsInRule", "I", false)
  | 38 => ("TrunkLittersModel", "askOne", "I", false)
  | 39 => ("TrunkLittersModel", "askOther", "I", false)
  | 40 => ("TrunkLittersModel", "all", "[I", true)
  | 41 => ("TrunkLittersModel", "kept", "[I", true)
  | 42 => ("TrunkLittersModel", "thoughtPines", "I", false)
  | 43 => ("TrunkLittersModel", "was", "[I", true)
  | 44 => ("TrunkLittersModel", "acts", "I", false)
  | 45 => ("TrunkLittersModel", "undone", "I", false)
  | 46 => ("TrunkLittersModel", "laidRow", "[I", true)
  | 47 => ("TrunkLittersModel", "laid", "I", false)
  | 48 => ("TrunkLittersModel", "sOther", "[I", true)
  | 49 => ("TrunkLittersModel", "sMany", "[I", true)
  | 50 => ("TrunkLittersModel", "sIs", "[I", true)
  | 51 => ("TrunkLittersModel", "sTold", "[I", true)
  | 52 => ("TrunkLittersModel", "sUntold", "[I", true)
  | 53 => ("TrunkLittersModel", "parts", "[I", true)
  | 54 => ("TrunkLittersModel", "isFit", "[Z", true)
  | 55 => ("TrunkLittersModel", "helds", "I", false)
  | 56 => ("TrunkLittersModel", "time", "I", false)
  | 57 => ("TrunkLittersModel", "fitting", "I", false)
  | 58 => ("TrunkLittersModel", "boxAll", "[I", true)
  | _ => ("TrunkLittersModel", "isBoxed", "[Z", true)
def tyX4 : Nat → FieldType := fun k => match k with
  | 0 => .array .byte
  | 1 => .array .byte
  | 2 => .int
  | 3 => .int
  | 4 => .int
  | 5 => .int
  | 6 => .int
  | 7 => .int
  | 8 => .int
  | 9 => .int
  | 10 => .long
  | 11 => .array .int
  | 12 => .array .int
  | 13 => .array .int
  | 14 => .array .int
  | 15 => .array .int
  | 16 => .array .int
  | 17 => .array .int
  | 18 => .array .int
  | 19 => .array .int
  | 20 => .array .int
  | 21 => .array .int
  | 22 => .array .int
  | 23 => .array .int
  | 24 => .array .int
  | 25 => .array .long
  | 26 => .array .long
  | 27 => .array .int
  | 28 => .array .int
  | 29 => .array .int
  | 30 => .array .int
  | 31 => .array .int
  | 32 => .int
  | 33 => .int
  | 34 => .int
  | 35 => .int
  | 36 => .int
  | 37 => .int
  | 38 => .int
  | 39 => .int
  | 40 => .array .int
  | 41 => .array .int
  | 42 => .int
  | 43 => .array .int
  | 44 => .int
  | 45 => .int
  | 46 => .array .int
  | 47 => .int
  | 48 => .array .int
  | 49 => .array .int
  | 50 => .array .int
  | 51 => .array .int
  | 52 => .array .int
  | 53 => .array .int
  | 54 => .array .boolean
  | 55 => .int
  | 56 => .int
  | 57 => .int
  | 58 => .array .int
  | _ => .array .boolean
abbrev wsX40 : List Cond := u_ws RX4 TX4 60
set_option maxRecDepth 100000 in
theorem nmX4 : ∀ a, a < 60 → ∀ b, b < 60 → a ≠ b → (TX4 a).2.1 ≠ (TX4 b).2.1 := by decide +kernel
set_option maxRecDepth 100000 in
theorem tyX4_ok : ∀ k, k < 60 → parseFieldDescriptor (TX4 k).2.2.1 = some (tyX4 k) := by decide +kernel
abbrev cX4_init : ByteArray := prog_22_method_1_code
def yX4_init : MethodName := ⟨RX4, "<init>", "()V"⟩
def dkwX4_init_12 : List UInt8 := [17, 0, 177, 188, 10, 181, 0, 122, 42, 6, 188, 4, 181, 0, 125, 42, 182, 0, 128, 42, 182, 0, 131, 177]
abbrev dktX4_init_12 : List UInt8 := dkwX4_init_12 ++ []
def dkwX4_init_11 : List UInt8 := [188, 10, 181, 0, 112, 42, 16, 7, 188, 10, 181, 0, 115, 42, 16, 64, 188, 4, 181, 0, 118, 42]
abbrev dktX4_init_11 : List UInt8 := dkwX4_init_11 ++ dktX4_init_12
def dkwX4_init_10 : List UInt8 := [188, 10, 181, 0, 103, 42, 16, 30, 188, 10, 181, 0, 106, 42, 16, 30, 188, 10, 181, 0, 109, 42, 16, 30]
abbrev dktX4_init_10 : List UInt8 := dkwX4_init_10 ++ dktX4_init_11
def dkwX4_init_9 : List UInt8 := [188, 10, 181, 0, 94, 42, 16, 8, 188, 10, 181, 0, 97, 42, 16, 30, 188, 10, 181, 0, 100, 42, 16, 30]
abbrev dktX4_init_9 : List UInt8 := dkwX4_init_9 ++ dktX4_init_10
def dkwX4_init_8 : List UInt8 := [16, 59, 188, 10, 181, 0, 85, 42, 16, 59, 188, 10, 181, 0, 88, 42, 2, 181, 0, 91, 42, 17, 9, 115]
abbrev dktX4_init_8 : List UInt8 := dkwX4_init_8 ++ dktX4_init_9
def dkwX4_init_7 : List UInt8 := [16, 90, 188, 10, 181, 0, 76, 42, 16, 90, 188, 10, 181, 0, 79, 42, 16, 60, 188, 10, 181, 0, 82, 42]
abbrev dktX4_init_7 : List UInt8 := dkwX4_init_7 ++ dktX4_init_8
def dkwX4_init_6 : List UInt8 := [188, 11, 181, 0, 67, 42, 17, 4, 96, 188, 10, 181, 0, 70, 42, 17, 4, 96, 188, 10, 181, 0, 73, 42]
abbrev dktX4_init_6 : List UInt8 := dkwX4_init_6 ++ dktX4_init_7
def dkwX4_init_5 : List UInt8 := [188, 10, 181, 0, 57, 42, 5, 188, 10, 181, 0, 60, 42, 16, 8, 188, 11, 181, 0, 63, 42, 16, 12]
abbrev dktX4_init_5 : List UInt8 := dkwX4_init_5 ++ dktX4_init_6
def dkwX4_init_4 : List UInt8 := [188, 10, 181, 0, 48, 42, 16, 12, 188, 10, 181, 0, 51, 42, 16, 12, 188, 10, 181, 0, 54, 42, 5]
abbrev dktX4_init_4 : List UInt8 := dkwX4_init_4 ++ dktX4_init_5
def dkwX4_init_3 : List UInt8 := [188, 10, 181, 0, 39, 42, 16, 8, 188, 10, 181, 0, 42, 42, 16, 12, 188, 10, 181, 0, 45, 42, 16, 12]
abbrev dktX4_init_3 : List UInt8 := dkwX4_init_3 ++ dktX4_init_4
def dkwX4_init_2 : List UInt8 := [42, 5, 188, 10, 181, 0, 30, 42, 5, 188, 10, 181, 0, 33, 42, 5, 188, 10, 181, 0, 36, 42, 5]
abbrev dktX4_init_2 : List UInt8 := dkwX4_init_2 ++ dktX4_init_3
def dkwX4_init_1 : List UInt8 := [181, 0, 16, 42, 5, 188, 10, 181, 0, 20, 42, 5, 188, 10, 181, 0, 24, 42, 5, 188, 10, 181, 0, 27]
abbrev dktX4_init_1 : List UInt8 := dkwX4_init_1 ++ dktX4_init_2
def dkwX4_init_0 : List UInt8 := [42, 183, 0, 1, 42, 17, 6, 84, 188, 8, 181, 0, 7, 42, 17, 6, 64, 188, 8, 181, 0, 13, 42, 2]
abbrev dktX4_init_0 : List UInt8 := dkwX4_init_0 ++ dktX4_init_1
theorem dksX4_init_0 : cX4_init.data.toList.drop 0 = dktX4_init_0 := by decide +kernel
theorem dksX4_init_1 : cX4_init.data.toList.drop 24 = dktX4_init_1 := dk_seg dksX4_init_0 24 rfl rfl
theorem dksX4_init_2 : cX4_init.data.toList.drop 48 = dktX4_init_2 := dk_seg dksX4_init_1 24 rfl rfl
theorem dksX4_init_3 : cX4_init.data.toList.drop 71 = dktX4_init_3 := dk_seg dksX4_init_2 23 rfl rfl
theorem dksX4_init_4 : cX4_init.data.toList.drop 95 = dktX4_init_4 := dk_seg dksX4_init_3 24 rfl rfl
theorem dksX4_init_5 : cX4_init.data.toList.drop 118 = dktX4_init_5 := dk_seg dksX4_init_4 23 rfl rfl
theorem dksX4_init_6 : cX4_init.data.toList.drop 141 = dktX4_init_6 := dk_seg dksX4_init_5 23 rfl rfl
theorem dksX4_init_7 : cX4_init.data.toList.drop 165 = dktX4_init_7 := dk_seg dksX4_init_6 24 rfl rfl
theorem dksX4_init_8 : cX4_init.data.toList.drop 189 = dktX4_init_8 := dk_seg dksX4_init_7 24 rfl rfl
theorem dksX4_init_9 : cX4_init.data.toList.drop 213 = dktX4_init_9 := dk_seg dksX4_init_8 24 rfl rfl
theorem dksX4_init_10 : cX4_init.data.toList.drop 237 = dktX4_init_10 := dk_seg dksX4_init_9 24 rfl rfl
theorem dksX4_init_11 : cX4_init.data.toList.drop 261 = dktX4_init_11 := dk_seg dksX4_init_10 24 rfl rfl
theorem dksX4_init_12 : cX4_init.data.toList.drop 283 = dktX4_init_12 := dk_seg dksX4_init_11 22 rfl rfl
theorem dX4_init_0 : decode cX4_init 0 = .ok (.aload_n 0, 1) := dk_42 (dk_at dksX4_init_0 0 rfl rfl)
theorem dX4_init_1 : decode cX4_init 1 = .ok (.invokespecial 1, 3) := dk_183 0 1 (dk_at dksX4_init_0 1 rfl rfl)
theorem dX4_init_4 : decode cX4_init 4 = .ok (.aload_n 0, 1) := dk_42 (dk_at dksX4_init_0 4 rfl rfl)
theorem dX4_init_5 : decode cX4_init 5 = .ok (.sipush 1620, 3) := dk_17 6 84 (dk_at dksX4_init_0 5 rfl rfl)
theorem dX4_init_8 : decode cX4_init 8 = .ok (.newarray .byte, 2) := dk_188_8 (dk_at dksX4_init_0 8 rfl rfl)
theorem dX4_init_10 : decode cX4_init 10 = .ok (.putfield 7, 3) := dk_181 0 7 (dk_at dksX4_init_0 10 rfl rfl)
theorem dX4_init_13 : decode cX4_init 13 = .ok (.aload_n 0, 1) := dk_42 (dk_at dksX4_init_0 13 rfl rfl)
theorem dX4_init_14 : decode cX4_init 14 = .ok (.sipush 1600, 3) := dk_17 6 64 (dk_at dksX4_init_0 14 rfl rfl)
theorem dX4_init_17 : decode cX4_init 17 = .ok (.newarray .byte, 2) := dk_188_8 (dk_at dksX4_init_0 17 rfl rfl)
theorem dX4_init_19 : decode cX4_init 19 = .ok (.putfield 13, 3) := dk_181 0 13 (dk_at dksX4_init_0 19 rfl rfl)
theorem dX4_init_22 : decode cX4_init 22 = .ok (.aload_n 0, 1) := dk_42 (dk_at dksX4_init_0 22 rfl rfl)
theorem dX4_init_23 : decode cX4_init 23 = .ok (.iconst (-1), 1) := dk_2 (dk_at dksX4_init_0 23 rfl rfl)
theorem dX4_init_24 : decode cX4_init 24 = .ok (.putfield 16, 3) := dk_181 0 16 (dk_at dksX4_init_1 0 rfl rfl)
theorem dX4_init_27 : decode cX4_init 27 = .ok (.aload_n 0, 1) := dk_42 (dk_at dksX4_init_1 3 rfl rfl)
theorem dX4_init_28 : decode cX4_init 28 = .ok (.iconst 2, 1) := dk_5 (dk_at dksX4_init_1 4 rfl rfl)
theorem dX4_init_29 : decode cX4_init 29 = .ok (.newarray .int, 2) := dk_188_10 (dk_at dksX4_init_1 5 rfl rfl)
theorem dX4_init_31 : decode cX4_init 31 = .ok (.putfield 20, 3) := dk_181 0 20 (dk_at dksX4_init_1 7 rfl rfl)
theorem dX4_init_34 : decode cX4_init 34 = .ok (.aload_n 0, 1) := dk_42 (dk_at dksX4_init_1 10 rfl rfl)
theorem dX4_init_35 : decode cX4_init 35 = .ok (.iconst 2, 1) := dk_5 (dk_at dksX4_init_1 11 rfl rfl)
theorem dX4_init_36 : decode cX4_init 36 = .ok (.newarray .int, 2) := dk_188_10 (dk_at dksX4_init_1 12 rfl rfl)
theorem dX4_init_38 : decode cX4_init 38 = .ok (.putfield 24, 3) := dk_181 0 24 (dk_at dksX4_init_1 14 rfl rfl)
theorem dX4_init_41 : decode cX4_init 41 = .ok (.aload_n 0, 1) := dk_42 (dk_at dksX4_init_1 17 rfl rfl)
theorem dX4_init_42 : decode cX4_init 42 = .ok (.iconst 2, 1) := dk_5 (dk_at dksX4_init_1 18 rfl rfl)
theorem dX4_init_43 : decode cX4_init 43 = .ok (.newarray .int, 2) := dk_188_10 (dk_at dksX4_init_1 19 rfl rfl)
theorem dX4_init_45 : decode cX4_init 45 = .ok (.putfield 27, 3) := dk_181 0 27 (dk_at dksX4_init_1 21 rfl rfl)
theorem dX4_init_48 : decode cX4_init 48 = .ok (.aload_n 0, 1) := dk_42 (dk_at dksX4_init_2 0 rfl rfl)
theorem dX4_init_49 : decode cX4_init 49 = .ok (.iconst 2, 1) := dk_5 (dk_at dksX4_init_2 1 rfl rfl)
theorem dX4_init_50 : decode cX4_init 50 = .ok (.newarray .int, 2) := dk_188_10 (dk_at dksX4_init_2 2 rfl rfl)
theorem dX4_init_52 : decode cX4_init 52 = .ok (.putfield 30, 3) := dk_181 0 30 (dk_at dksX4_init_2 4 rfl rfl)
theorem dX4_init_55 : decode cX4_init 55 = .ok (.aload_n 0, 1) := dk_42 (dk_at dksX4_init_2 7 rfl rfl)
theorem dX4_init_56 : decode cX4_init 56 = .ok (.iconst 2, 1) := dk_5 (dk_at dksX4_init_2 8 rfl rfl)
theorem dX4_init_57 : decode cX4_init 57 = .ok (.newarray .int, 2) := dk_188_10 (dk_at dksX4_init_2 9 rfl rfl)
theorem dX4_init_59 : decode cX4_init 59 = .ok (.putfield 33, 3) := dk_181 0 33 (dk_at dksX4_init_2 11 rfl rfl)
theorem dX4_init_62 : decode cX4_init 62 = .ok (.aload_n 0, 1) := dk_42 (dk_at dksX4_init_2 14 rfl rfl)
theorem dX4_init_63 : decode cX4_init 63 = .ok (.iconst 2, 1) := dk_5 (dk_at dksX4_init_2 15 rfl rfl)
theorem dX4_init_64 : decode cX4_init 64 = .ok (.newarray .int, 2) := dk_188_10 (dk_at dksX4_init_2 16 rfl rfl)
theorem dX4_init_66 : decode cX4_init 66 = .ok (.putfield 36, 3) := dk_181 0 36 (dk_at dksX4_init_2 18 rfl rfl)
theorem dX4_init_69 : decode cX4_init 69 = .ok (.aload_n 0, 1) := dk_42 (dk_at dksX4_init_2 21 rfl rfl)
theorem dX4_init_70 : decode cX4_init 70 = .ok (.iconst 2, 1) := dk_5 (dk_at dksX4_init_2 22 rfl rfl)
theorem dX4_init_71 : decode cX4_init 71 = .ok (.newarray .int, 2) := dk_188_10 (dk_at dksX4_init_3 0 rfl rfl)
theorem dX4_init_73 : decode cX4_init 73 = .ok (.putfield 39, 3) := dk_181 0 39 (dk_at dksX4_init_3 2 rfl rfl)
theorem dX4_init_76 : decode cX4_init 76 = .ok (.aload_n 0, 1) := dk_42 (dk_at dksX4_init_3 5 rfl rfl)
theorem dX4_init_77 : decode cX4_init 77 = .ok (.bipush 8, 2) := dk_16 8 (dk_at dksX4_init_3 6 rfl rfl)
theorem dX4_init_79 : decode cX4_init 79 = .ok (.newarray .int, 2) := dk_188_10 (dk_at dksX4_init_3 8 rfl rfl)
theorem dX4_init_81 : decode cX4_init 81 = .ok (.putfield 42, 3) := dk_181 0 42 (dk_at dksX4_init_3 10 rfl rfl)
theorem dX4_init_84 : decode cX4_init 84 = .ok (.aload_n 0, 1) := dk_42 (dk_at dksX4_init_3 13 rfl rfl)
theorem dX4_init_85 : decode cX4_init 85 = .ok (.bipush 12, 2) := dk_16 12 (dk_at dksX4_init_3 14 rfl rfl)
theorem dX4_init_87 : decode cX4_init 87 = .ok (.newarray .int, 2) := dk_188_10 (dk_at dksX4_init_3 16 rfl rfl)
theorem dX4_init_89 : decode cX4_init 89 = .ok (.putfield 45, 3) := dk_181 0 45 (dk_at dksX4_init_3 18 rfl rfl)
theorem dX4_init_92 : decode cX4_init 92 = .ok (.aload_n 0, 1) := dk_42 (dk_at dksX4_init_3 21 rfl rfl)
theorem dX4_init_93 : decode cX4_init 93 = .ok (.bipush 12, 2) := dk_16 12 (dk_at dksX4_init_3 22 rfl rfl)
theorem dX4_init_95 : decode cX4_init 95 = .ok (.newarray .int, 2) := dk_188_10 (dk_at dksX4_init_4 0 rfl rfl)
theorem dX4_init_97 : decode cX4_init 97 = .ok (.putfield 48, 3) := dk_181 0 48 (dk_at dksX4_init_4 2 rfl rfl)
theorem dX4_init_100 : decode cX4_init 100 = .ok (.aload_n 0, 1) := dk_42 (dk_at dksX4_init_4 5 rfl rfl)
theorem dX4_init_101 : decode cX4_init 101 = .ok (.bipush 12, 2) := dk_16 12 (dk_at dksX4_init_4 6 rfl rfl)
theorem dX4_init_103 : decode cX4_init 103 = .ok (.newarray .int, 2) := dk_188_10 (dk_at dksX4_init_4 8 rfl rfl)
theorem dX4_init_105 : decode cX4_init 105 = .ok (.putfield 51, 3) := dk_181 0 51 (dk_at dksX4_init_4 10 rfl rfl)
theorem dX4_init_108 : decode cX4_init 108 = .ok (.aload_n 0, 1) := dk_42 (dk_at dksX4_init_4 13 rfl rfl)
theorem dX4_init_109 : decode cX4_init 109 = .ok (.bipush 12, 2) := dk_16 12 (dk_at dksX4_init_4 14 rfl rfl)
theorem dX4_init_111 : decode cX4_init 111 = .ok (.newarray .int, 2) := dk_188_10 (dk_at dksX4_init_4 16 rfl rfl)
theorem dX4_init_113 : decode cX4_init 113 = .ok (.putfield 54, 3) := dk_181 0 54 (dk_at dksX4_init_4 18 rfl rfl)
theorem dX4_init_116 : decode cX4_init 116 = .ok (.aload_n 0, 1) := dk_42 (dk_at dksX4_init_4 21 rfl rfl)
theorem dX4_init_117 : decode cX4_init 117 = .ok (.iconst 2, 1) := dk_5 (dk_at dksX4_init_4 22 rfl rfl)
theorem dX4_init_118 : decode cX4_init 118 = .ok (.newarray .int, 2) := dk_188_10 (dk_at dksX4_init_5 0 rfl rfl)
theorem dX4_init_120 : decode cX4_init 120 = .ok (.putfield 57, 3) := dk_181 0 57 (dk_at dksX4_init_5 2 rfl rfl)
theorem dX4_init_123 : decode cX4_init 123 = .ok (.aload_n 0, 1) := dk_42 (dk_at dksX4_init_5 5 rfl rfl)
theorem dX4_init_124 : decode cX4_init 124 = .ok (.iconst 2, 1) := dk_5 (dk_at dksX4_init_5 6 rfl rfl)
theorem dX4_init_125 : decode cX4_init 125 = .ok (.newarray .int, 2) := dk_188_10 (dk_at dksX4_init_5 7 rfl rfl)
theorem dX4_init_127 : decode cX4_init 127 = .ok (.putfield 60, 3) := dk_181 0 60 (dk_at dksX4_init_5 9 rfl rfl)
theorem dX4_init_130 : decode cX4_init 130 = .ok (.aload_n 0, 1) := dk_42 (dk_at dksX4_init_5 12 rfl rfl)
theorem dX4_init_131 : decode cX4_init 131 = .ok (.bipush 8, 2) := dk_16 8 (dk_at dksX4_init_5 13 rfl rfl)
theorem dX4_init_133 : decode cX4_init 133 = .ok (.newarray .long, 2) := dk_188_11 (dk_at dksX4_init_5 15 rfl rfl)
theorem dX4_init_135 : decode cX4_init 135 = .ok (.putfield 63, 3) := dk_181 0 63 (dk_at dksX4_init_5 17 rfl rfl)
theorem dX4_init_138 : decode cX4_init 138 = .ok (.aload_n 0, 1) := dk_42 (dk_at dksX4_init_5 20 rfl rfl)
theorem dX4_init_139 : decode cX4_init 139 = .ok (.bipush 12, 2) := dk_16 12 (dk_at dksX4_init_5 21 rfl rfl)
theorem dX4_init_141 : decode cX4_init 141 = .ok (.newarray .long, 2) := dk_188_11 (dk_at dksX4_init_6 0 rfl rfl)
theorem dX4_init_143 : decode cX4_init 143 = .ok (.putfield 67, 3) := dk_181 0 67 (dk_at dksX4_init_6 2 rfl rfl)
theorem dX4_init_146 : decode cX4_init 146 = .ok (.aload_n 0, 1) := dk_42 (dk_at dksX4_init_6 5 rfl rfl)
theorem dX4_init_147 : decode cX4_init 147 = .ok (.sipush 1120, 3) := dk_17 4 96 (dk_at dksX4_init_6 6 rfl rfl)
theorem dX4_init_150 : decode cX4_init 150 = .ok (.newarray .int, 2) := dk_188_10 (dk_at dksX4_init_6 9 rfl rfl)
theorem dX4_init_152 : decode cX4_init 152 = .ok (.putfield 70, 3) := dk_181 0 70 (dk_at dksX4_init_6 11 rfl rfl)
theorem dX4_init_155 : decode cX4_init 155 = .ok (.aload_n 0, 1) := dk_42 (dk_at dksX4_init_6 14 rfl rfl)
theorem dX4_init_156 : decode cX4_init 156 = .ok (.sipush 1120, 3) := dk_17 4 96 (dk_at dksX4_init_6 15 rfl rfl)
theorem dX4_init_159 : decode cX4_init 159 = .ok (.newarray .int, 2) := dk_188_10 (dk_at dksX4_init_6 18 rfl rfl)
theorem dX4_init_161 : decode cX4_init 161 = .ok (.putfield 73, 3) := dk_181 0 73 (dk_at dksX4_init_6 20 rfl rfl)
theorem dX4_init_164 : decode cX4_init 164 = .ok (.aload_n 0, 1) := dk_42 (dk_at dksX4_init_6 23 rfl rfl)
theorem dX4_init_165 : decode cX4_init 165 = .ok (.bipush 90, 2) := dk_16 90 (dk_at dksX4_init_7 0 rfl rfl)
theorem dX4_init_167 : decode cX4_init 167 = .ok (.newarray .int, 2) := dk_188_10 (dk_at dksX4_init_7 2 rfl rfl)
theorem dX4_init_169 : decode cX4_init 169 = .ok (.putfield 76, 3) := dk_181 0 76 (dk_at dksX4_init_7 4 rfl rfl)
theorem dX4_init_172 : decode cX4_init 172 = .ok (.aload_n 0, 1) := dk_42 (dk_at dksX4_init_7 7 rfl rfl)
theorem dX4_init_173 : decode cX4_init 173 = .ok (.bipush 90, 2) := dk_16 90 (dk_at dksX4_init_7 8 rfl rfl)
theorem dX4_init_175 : decode cX4_init 175 = .ok (.newarray .int, 2) := dk_188_10 (dk_at dksX4_init_7 10 rfl rfl)
theorem dX4_init_177 : decode cX4_init 177 = .ok (.putfield 79, 3) := dk_181 0 79 (dk_at dksX4_init_7 12 rfl rfl)
theorem dX4_init_180 : decode cX4_init 180 = .ok (.aload_n 0, 1) := dk_42 (dk_at dksX4_init_7 15 rfl rfl)
theorem dX4_init_181 : decode cX4_init 181 = .ok (.bipush 60, 2) := dk_16 60 (dk_at dksX4_init_7 16 rfl rfl)
theorem dX4_init_183 : decode cX4_init 183 = .ok (.newarray .int, 2) := dk_188_10 (dk_at dksX4_init_7 18 rfl rfl)
theorem dX4_init_185 : decode cX4_init 185 = .ok (.putfield 82, 3) := dk_181 0 82 (dk_at dksX4_init_7 20 rfl rfl)
theorem dX4_init_188 : decode cX4_init 188 = .ok (.aload_n 0, 1) := dk_42 (dk_at dksX4_init_7 23 rfl rfl)
theorem dX4_init_189 : decode cX4_init 189 = .ok (.bipush 59, 2) := dk_16 59 (dk_at dksX4_init_8 0 rfl rfl)
theorem dX4_init_191 : decode cX4_init 191 = .ok (.newarray .int, 2) := dk_188_10 (dk_at dksX4_init_8 2 rfl rfl)
theorem dX4_init_193 : decode cX4_init 193 = .ok (.putfield 85, 3) := dk_181 0 85 (dk_at dksX4_init_8 4 rfl rfl)
theorem dX4_init_196 : decode cX4_init 196 = .ok (.aload_n 0, 1) := dk_42 (dk_at dksX4_init_8 7 rfl rfl)
theorem dX4_init_197 : decode cX4_init 197 = .ok (.bipush 59, 2) := dk_16 59 (dk_at dksX4_init_8 8 rfl rfl)
theorem dX4_init_199 : decode cX4_init 199 = .ok (.newarray .int, 2) := dk_188_10 (dk_at dksX4_init_8 10 rfl rfl)
theorem dX4_init_201 : decode cX4_init 201 = .ok (.putfield 88, 3) := dk_181 0 88 (dk_at dksX4_init_8 12 rfl rfl)
theorem dX4_init_204 : decode cX4_init 204 = .ok (.aload_n 0, 1) := dk_42 (dk_at dksX4_init_8 15 rfl rfl)
theorem dX4_init_205 : decode cX4_init 205 = .ok (.iconst (-1), 1) := dk_2 (dk_at dksX4_init_8 16 rfl rfl)
theorem dX4_init_206 : decode cX4_init 206 = .ok (.putfield 91, 3) := dk_181 0 91 (dk_at dksX4_init_8 17 rfl rfl)
theorem dX4_init_209 : decode cX4_init 209 = .ok (.aload_n 0, 1) := dk_42 (dk_at dksX4_init_8 20 rfl rfl)
theorem dX4_init_210 : decode cX4_init 210 = .ok (.sipush 2419, 3) := dk_17 9 115 (dk_at dksX4_init_8 21 rfl rfl)
theorem dX4_init_213 : decode cX4_init 213 = .ok (.newarray .int, 2) := dk_188_10 (dk_at dksX4_init_9 0 rfl rfl)
theorem dX4_init_215 : decode cX4_init 215 = .ok (.putfield 94, 3) := dk_181 0 94 (dk_at dksX4_init_9 2 rfl rfl)
theorem dX4_init_218 : decode cX4_init 218 = .ok (.aload_n 0, 1) := dk_42 (dk_at dksX4_init_9 5 rfl rfl)
theorem dX4_init_219 : decode cX4_init 219 = .ok (.bipush 8, 2) := dk_16 8 (dk_at dksX4_init_9 6 rfl rfl)
theorem dX4_init_221 : decode cX4_init 221 = .ok (.newarray .int, 2) := dk_188_10 (dk_at dksX4_init_9 8 rfl rfl)
theorem dX4_init_223 : decode cX4_init 223 = .ok (.putfield 97, 3) := dk_181 0 97 (dk_at dksX4_init_9 10 rfl rfl)
theorem dX4_init_226 : decode cX4_init 226 = .ok (.aload_n 0, 1) := dk_42 (dk_at dksX4_init_9 13 rfl rfl)
theorem dX4_init_227 : decode cX4_init 227 = .ok (.bipush 30, 2) := dk_16 30 (dk_at dksX4_init_9 14 rfl rfl)
theorem dX4_init_229 : decode cX4_init 229 = .ok (.newarray .int, 2) := dk_188_10 (dk_at dksX4_init_9 16 rfl rfl)
theorem dX4_init_231 : decode cX4_init 231 = .ok (.putfield 100, 3) := dk_181 0 100 (dk_at dksX4_init_9 18 rfl rfl)
theorem dX4_init_234 : decode cX4_init 234 = .ok (.aload_n 0, 1) := dk_42 (dk_at dksX4_init_9 21 rfl rfl)
theorem dX4_init_235 : decode cX4_init 235 = .ok (.bipush 30, 2) := dk_16 30 (dk_at dksX4_init_9 22 rfl rfl)
theorem dX4_init_237 : decode cX4_init 237 = .ok (.newarray .int, 2) := dk_188_10 (dk_at dksX4_init_10 0 rfl rfl)
theorem dX4_init_239 : decode cX4_init 239 = .ok (.putfield 103, 3) := dk_181 0 103 (dk_at dksX4_init_10 2 rfl rfl)
theorem dX4_init_242 : decode cX4_init 242 = .ok (.aload_n 0, 1) := dk_42 (dk_at dksX4_init_10 5 rfl rfl)
theorem dX4_init_243 : decode cX4_init 243 = .ok (.bipush 30, 2) := dk_16 30 (dk_at dksX4_init_10 6 rfl rfl)
theorem dX4_init_245 : decode cX4_init 245 = .ok (.newarray .int, 2) := dk_188_10 (dk_at dksX4_init_10 8 rfl rfl)
theorem dX4_init_247 : decode cX4_init 247 = .ok (.putfield 106, 3) := dk_181 0 106 (dk_at dksX4_init_10 10 rfl rfl)
theorem dX4_init_250 : decode cX4_init 250 = .ok (.aload_n 0, 1) := dk_42 (dk_at dksX4_init_10 13 rfl rfl)
theorem dX4_init_251 : decode cX4_init 251 = .ok (.bipush 30, 2) := dk_16 30 (dk_at dksX4_init_10 14 rfl rfl)
theorem dX4_init_253 : decode cX4_init 253 = .ok (.newarray .int, 2) := dk_188_10 (dk_at dksX4_init_10 16 rfl rfl)
theorem dX4_init_255 : decode cX4_init 255 = .ok (.putfield 109, 3) := dk_181 0 109 (dk_at dksX4_init_10 18 rfl rfl)
theorem dX4_init_258 : decode cX4_init 258 = .ok (.aload_n 0, 1) := dk_42 (dk_at dksX4_init_10 21 rfl rfl)
theorem dX4_init_259 : decode cX4_init 259 = .ok (.bipush 30, 2) := dk_16 30 (dk_at dksX4_init_10 22 rfl rfl)
theorem dX4_init_261 : decode cX4_init 261 = .ok (.newarray .int, 2) := dk_188_10 (dk_at dksX4_init_11 0 rfl rfl)
theorem dX4_init_263 : decode cX4_init 263 = .ok (.putfield 112, 3) := dk_181 0 112 (dk_at dksX4_init_11 2 rfl rfl)
theorem dX4_init_266 : decode cX4_init 266 = .ok (.aload_n 0, 1) := dk_42 (dk_at dksX4_init_11 5 rfl rfl)
theorem dX4_init_267 : decode cX4_init 267 = .ok (.bipush 7, 2) := dk_16 7 (dk_at dksX4_init_11 6 rfl rfl)
theorem dX4_init_269 : decode cX4_init 269 = .ok (.newarray .int, 2) := dk_188_10 (dk_at dksX4_init_11 8 rfl rfl)
theorem dX4_init_271 : decode cX4_init 271 = .ok (.putfield 115, 3) := dk_181 0 115 (dk_at dksX4_init_11 10 rfl rfl)
theorem dX4_init_274 : decode cX4_init 274 = .ok (.aload_n 0, 1) := dk_42 (dk_at dksX4_init_11 13 rfl rfl)
theorem dX4_init_275 : decode cX4_init 275 = .ok (.bipush 64, 2) := dk_16 64 (dk_at dksX4_init_11 14 rfl rfl)
theorem dX4_init_277 : decode cX4_init 277 = .ok (.newarray .boolean, 2) := dk_188_4 (dk_at dksX4_init_11 16 rfl rfl)
theorem dX4_init_279 : decode cX4_init 279 = .ok (.putfield 118, 3) := dk_181 0 118 (dk_at dksX4_init_11 18 rfl rfl)
theorem dX4_init_282 : decode cX4_init 282 = .ok (.aload_n 0, 1) := dk_42 (dk_at dksX4_init_11 21 rfl rfl)
theorem dX4_init_283 : decode cX4_init 283 = .ok (.sipush 177, 3) := dk_17 0 177 (dk_at dksX4_init_12 0 rfl rfl)
theorem dX4_init_286 : decode cX4_init 286 = .ok (.newarray .int, 2) := dk_188_10 (dk_at dksX4_init_12 3 rfl rfl)
theorem dX4_init_288 : decode cX4_init 288 = .ok (.putfield 122, 3) := dk_181 0 122 (dk_at dksX4_init_12 5 rfl rfl)
theorem dX4_init_291 : decode cX4_init 291 = .ok (.aload_n 0, 1) := dk_42 (dk_at dksX4_init_12 8 rfl rfl)
theorem dX4_init_292 : decode cX4_init 292 = .ok (.iconst 3, 1) := dk_6 (dk_at dksX4_init_12 9 rfl rfl)
theorem dX4_init_293 : decode cX4_init 293 = .ok (.newarray .boolean, 2) := dk_188_4 (dk_at dksX4_init_12 10 rfl rfl)
theorem dX4_init_295 : decode cX4_init 295 = .ok (.putfield 125, 3) := dk_181 0 125 (dk_at dksX4_init_12 12 rfl rfl)
theorem dX4_init_298 : decode cX4_init 298 = .ok (.aload_n 0, 1) := dk_42 (dk_at dksX4_init_12 15 rfl rfl)
theorem dX4_init_299 : decode cX4_init 299 = .ok (.invokevirtual 128, 3) := dk_182 0 128 (dk_at dksX4_init_12 16 rfl rfl)
theorem dX4_init_302 : decode cX4_init 302 = .ok (.aload_n 0, 1) := dk_42 (dk_at dksX4_init_12 19 rfl rfl)
theorem dX4_init_303 : decode cX4_init 303 = .ok (.invokevirtual 131, 3) := dk_182 0 131 (dk_at dksX4_init_12 20 rfl rfl)
theorem dX4_init_306 : decode cX4_init 306 = .ok (.return_, 1) := dk_177 (dk_at dksX4_init_12 23 rfl rfl)
abbrev cX4_clearBank : ByteArray := prog_22_method_16_code
def yX4_clearBank : MethodName := ⟨RX4, "clearBank", "()V"⟩
def dkwX4_clearBank_3 : List UInt8 := [17, 2, 48, 42, 180, 0, 235, 104, 181, 0, 238, 177]
abbrev dktX4_clearBank_3 : List UInt8 := dkwX4_clearBank_3 ++ []
def dkwX4_clearBank_2 : List UInt8 := [3, 79, 42, 180, 0, 36, 42, 180, 0, 235, 3, 79, 42, 180, 0, 39, 42, 180, 0, 235, 3, 79, 42]
abbrev dktX4_clearBank_2 : List UInt8 := dkwX4_clearBank_2 ++ dktX4_clearBank_3
def dkwX4_clearBank_1 : List UInt8 := [42, 180, 0, 235, 3, 79, 42, 180, 0, 30, 42, 180, 0, 235, 6, 79, 42, 180, 0, 33, 42, 180, 0, 235]
abbrev dktX4_clearBank_1 : List UInt8 := dkwX4_clearBank_1 ++ dktX4_clearBank_2
def dkwX4_clearBank_0 : List UInt8 := [42, 180, 0, 20, 42, 180, 0, 235, 3, 79, 42, 180, 0, 24, 42, 180, 0, 235, 3, 79, 42, 180, 0, 27]
abbrev dktX4_clearBank_0 : List UInt8 := dkwX4_clearBank_0 ++ dktX4_clearBank_1
theorem dksX4_clearBank_0 : cX4_clearBank.data.toList.drop 0 = dktX4_clearBank_0 := by decide +kernel
theorem dksX4_clearBank_1 : cX4_clearBank.data.toList.drop 24 = dktX4_clearBank_1 := dk_seg dksX4_clearBank_0 24 rfl rfl
theorem dksX4_clearBank_2 : cX4_clearBank.data.toList.drop 48 = dktX4_clearBank_2 := dk_seg dksX4_clearBank_1 24 rfl rfl
theorem dksX4_clearBank_3 : cX4_clearBank.data.toList.drop 71 = dktX4_clearBank_3 := dk_seg dksX4_clearBank_2 23 rfl rfl
theorem dX4_clearBank_0 : decode cX4_clearBank 0 = .ok (.aload_n 0, 1) := dk_42 (dk_at dksX4_clearBank_0 0 rfl rfl)
theorem dX4_clearBank_1 : decode cX4_clearBank 1 = .ok (.getfield 20, 3) := dk_180 0 20 (dk_at dksX4_clearBank_0 1 rfl rfl)
theorem dX4_clearBank_4 : decode cX4_clearBank 4 = .ok (.aload_n 0, 1) := dk_42 (dk_at dksX4_clearBank_0 4 rfl rfl)
theorem dX4_clearBank_5 : decode cX4_clearBank 5 = .ok (.getfield 235, 3) := dk_180 0 235 (dk_at dksX4_clearBank_0 5 rfl rfl)
theorem dX4_clearBank_8 : decode cX4_clearBank 8 = .ok (.iconst 0, 1) := dk_3 (dk_at dksX4_clearBank_0 8 rfl rfl)
theorem dX4_clearBank_9 : decode cX4_clearBank 9 = .ok (.iastore, 1) := dk_79 (dk_at dksX4_clearBank_0 9 rfl rfl)
theorem dX4_clearBank_10 : decode cX4_clearBank 10 = .ok (.aload_n 0, 1) := dk_42 (dk_at dksX4_clearBank_0 10 rfl rfl)
theorem dX4_clearBank_11 : decode cX4_clearBank 11 = .ok (.getfield 24, 3) := dk_180 0 24 (dk_at dksX4_clearBank_0 11 rfl rfl)
theorem dX4_clearBank_14 : decode cX4_clearBank 14 = .ok (.aload_n 0, 1) := dk_42 (dk_at dksX4_clearBank_0 14 rfl rfl)
theorem dX4_clearBank_15 : decode cX4_clearBank 15 = .ok (.getfield 235, 3) := dk_180 0 235 (dk_at dksX4_clearBank_0 15 rfl rfl)
theorem dX4_clearBank_18 : decode cX4_clearBank 18 = .ok (.iconst 0, 1) := dk_3 (dk_at dksX4_clearBank_0 18 rfl rfl)
theorem dX4_clearBank_19 : decode cX4_clearBank 19 = .ok (.iastore, 1) := dk_79 (dk_at dksX4_clearBank_0 19 rfl rfl)
theorem dX4_clearBank_20 : decode cX4_clearBank 20 = .ok (.aload_n 0, 1) := dk_42 (dk_at dksX4_clearBank_0 20 rfl rfl)
theorem dX4_clearBank_21 : decode cX4_clearBank 21 = .ok (.getfield 27, 3) := dk_180 0 27 (dk_at dksX4_clearBank_0 21 rfl rfl)
theorem dX4_clearBank_24 : decode cX4_clearBank 24 = .ok (.aload_n 0, 1) := dk_42 (dk_at dksX4_clearBank_1 0 rfl rfl)
theorem dX4_clearBank_25 : decode cX4_clearBank 25 = .ok (.getfield 235, 3) := dk_180 0 235 (dk_at dksX4_clearBank_1 1 rfl rfl)
theorem dX4_clearBank_28 : decode cX4_clearBank 28 = .ok (.iconst 0, 1) := dk_3 (dk_at dksX4_clearBank_1 4 rfl rfl)
theorem dX4_clearBank_29 : decode cX4_clearBank 29 = .ok (.iastore, 1) := dk_79 (dk_at dksX4_clearBank_1 5 rfl rfl)
theorem dX4_clearBank_30 : decode cX4_clearBank 30 = .ok (.aload_n 0, 1) := dk_42 (dk_at dksX4_clearBank_1 6 rfl rfl)
theorem dX4_clearBank_31 : decode cX4_clearBank 31 = .ok (.getfield 30, 3) := dk_180 0 30 (dk_at dksX4_clearBank_1 7 rfl rfl)
theorem dX4_clearBank_34 : decode cX4_clearBank 34 = .ok (.aload_n 0, 1) := dk_42 (dk_at dksX4_clearBank_1 10 rfl rfl)
theorem dX4_clearBank_35 : decode cX4_clearBank 35 = .ok (.getfield 235, 3) := dk_180 0 235 (dk_at dksX4_clearBank_1 11 rfl rfl)
theorem dX4_clearBank_38 : decode cX4_clearBank 38 = .ok (.iconst 3, 1) := dk_6 (dk_at dksX4_clearBank_1 14 rfl rfl)
theorem dX4_clearBank_39 : decode cX4_clearBank 39 = .ok (.iastore, 1) := dk_79 (dk_at dksX4_clearBank_1 15 rfl rfl)
theorem dX4_clearBank_40 : decode cX4_clearBank 40 = .ok (.aload_n 0, 1) := dk_42 (dk_at dksX4_clearBank_1 16 rfl rfl)
theorem dX4_clearBank_41 : decode cX4_clearBank 41 = .ok (.getfield 33, 3) := dk_180 0 33 (dk_at dksX4_clearBank_1 17 rfl rfl)
theorem dX4_clearBank_44 : decode cX4_clearBank 44 = .ok (.aload_n 0, 1) := dk_42 (dk_at dksX4_clearBank_1 20 rfl rfl)
theorem dX4_clearBank_45 : decode cX4_clearBank 45 = .ok (.getfield 235, 3) := dk_180 0 235 (dk_at dksX4_clearBank_1 21 rfl rfl)
theorem dX4_clearBank_48 : decode cX4_clearBank 48 = .ok (.iconst 0, 1) := dk_3 (dk_at dksX4_clearBank_2 0 rfl rfl)
theorem dX4_clearBank_49 : decode cX4_clearBank 49 = .ok (.iastore, 1) := dk_79 (dk_at dksX4_clearBank_2 1 rfl rfl)
theorem dX4_clearBank_50 : decode cX4_clearBank 50 = .ok (.aload_n 0, 1) := dk_42 (dk_at dksX4_clearBank_2 2 rfl rfl)
theorem dX4_clearBank_51 : decode cX4_clearBank 51 = .ok (.getfield 36, 3) := dk_180 0 36 (dk_at dksX4_clearBank_2 3 rfl rfl)
theorem dX4_clearBank_54 : decode cX4_clearBank 54 = .ok (.aload_n 0, 1) := dk_42 (dk_at dksX4_clearBank_2 6 rfl rfl)
theorem dX4_clearBank_55 : decode cX4_clearBank 55 = .ok (.getfield 235, 3) := dk_180 0 235 (dk_at dksX4_clearBank_2 7 rfl rfl)
theorem dX4_clearBank_58 : decode cX4_clearBank 58 = .ok (.iconst 0, 1) := dk_3 (dk_at dksX4_clearBank_2 10 rfl rfl)
theorem dX4_clearBank_59 : decode cX4_clearBank 59 = .ok (.iastore, 1) := dk_79 (dk_at dksX4_clearBank_2 11 rfl rfl)
theorem dX4_clearBank_60 : decode cX4_clearBank 60 = .ok (.aload_n 0, 1) := dk_42 (dk_at dksX4_clearBank_2 12 rfl rfl)
theorem dX4_clearBank_61 : decode cX4_clearBank 61 = .ok (.getfield 39, 3) := dk_180 0 39 (dk_at dksX4_clearBank_2 13 rfl rfl)
theorem dX4_clearBank_64 : decode cX4_clearBank 64 = .ok (.aload_n 0, 1) := dk_42 (dk_at dksX4_clearBank_2 16 rfl rfl)
theorem dX4_clearBank_65 : decode cX4_clearBank 65 = .ok (.getfield 235, 3) := dk_180 0 235 (dk_at dksX4_clearBank_2 17 rfl rfl)
theorem dX4_clearBank_68 : decode cX4_clearBank 68 = .ok (.iconst 0, 1) := dk_3 (dk_at dksX4_clearBank_2 20 rfl rfl)
theorem dX4_clearBank_69 : decode cX4_clearBank 69 = .ok (.iastore, 1) := dk_79 (dk_at dksX4_clearBank_2 21 rfl rfl)
theorem dX4_clearBank_70 : decode cX4_clearBank 70 = .ok (.aload_n 0, 1) := dk_42 (dk_at dksX4_clearBank_2 22 rfl rfl)
theorem dX4_clearBank_71 : decode cX4_clearBank 71 = .ok (.sipush 560, 3) := dk_17 2 48 (dk_at dksX4_clearBank_3 0 rfl rfl)
theorem dX4_clearBank_74 : decode cX4_clearBank 74 = .ok (.aload_n 0, 1) := dk_42 (dk_at dksX4_clearBank_3 3 rfl rfl)
theorem dX4_clearBank_75 : decode cX4_clearBank 75 = .ok (.getfield 235, 3) := dk_180 0 235 (dk_at dksX4_clearBank_3 4 rfl rfl)
theorem dX4_clearBank_78 : decode cX4_clearBank 78 = .ok (.imul, 1) := dk_104 (dk_at dksX4_clearBank_3 7 rfl rfl)
theorem dX4_clearBank_79 : decode cX4_clearBank 79 = .ok (.putfield 238, 3) := dk_181 0 238 (dk_at dksX4_clearBank_3 8 rfl rfl)
theorem dX4_clearBank_82 : decode cX4_clearBank 82 = .ok (.return_, 1) := dk_177 (dk_at dksX4_clearBank_3 11 rfl rfl)
abbrev cX4_startAnew : ByteArray := prog_22_method_51_code
def yX4_startAnew : MethodName := ⟨RX4, "startAnew", "()V"⟩
def dkwX4_startAnew_8 : List UInt8 := [162, 0, 16, 42, 180, 0, 125, 27, 3, 84, 132, 1, 1, 167, 255, 241, 177]
abbrev dktX4_startAnew_8 : List UInt8 := dkwX4_startAnew_8 ++ []
def dkwX4_startAnew_7 : List UInt8 := [181, 1, 107, 42, 3, 181, 1, 110, 42, 3, 181, 1, 113, 42, 3, 181, 1, 116, 3, 60, 27, 6]
abbrev dktX4_startAnew_7 : List UInt8 := dkwX4_startAnew_7 ++ dktX4_startAnew_8
def dkwX4_startAnew_6 : List UInt8 := [180, 0, 244, 46, 79, 42, 180, 0, 85, 16, 58, 42, 180, 0, 36, 42, 180, 0, 244, 46, 79, 42, 3]
abbrev dktX4_startAnew_6 : List UInt8 := dkwX4_startAnew_6 ++ dktX4_startAnew_7
def dkwX4_startAnew_5 : List UInt8 := [180, 0, 54, 28, 46, 79, 132, 1, 1, 167, 255, 171, 42, 180, 0, 85, 16, 56, 42, 180, 0, 33, 42]
abbrev dktX4_startAnew_5 : List UInt8 := dkwX4_startAnew_5 ++ dktX4_startAnew_6
def dkwX4_startAnew_4 : List UInt8 := [180, 0, 85, 16, 16, 27, 96, 42, 180, 0, 51, 28, 46, 79, 42, 180, 0, 85, 16, 24, 27, 96, 42]
abbrev dktX4_startAnew_4 : List UInt8 := dkwX4_startAnew_4 ++ dktX4_startAnew_5
def dkwX4_startAnew_3 : List UInt8 := [42, 180, 0, 45, 28, 46, 79, 42, 180, 0, 85, 16, 8, 27, 96, 42, 180, 0, 48, 28, 46, 79, 42]
abbrev dktX4_startAnew_3 : List UInt8 := dkwX4_startAnew_3 ++ dktX4_startAnew_4
def dkwX4_startAnew_2 : List UInt8 := [180, 0, 244, 46, 162, 0, 78, 16, 6, 42, 180, 0, 244, 104, 27, 96, 61, 42, 180, 0, 85, 3, 27, 96]
abbrev dktX4_startAnew_2 : List UInt8 := dkwX4_startAnew_2 ++ dktX4_startAnew_3
def dkwX4_startAnew_1 : List UInt8 := [16, 8, 162, 0, 14, 42, 27, 182, 1, 103, 132, 1, 1, 167, 255, 242, 3, 60, 27, 42, 180, 0, 24, 42]
abbrev dktX4_startAnew_1 : List UInt8 := dkwX4_startAnew_1 ++ dktX4_startAnew_2
def dkwX4_startAnew_0 : List UInt8 := [3, 60, 27, 16, 59, 162, 0, 16, 42, 180, 0, 85, 27, 3, 79, 132, 1, 1, 167, 255, 240, 3, 60, 27]
abbrev dktX4_startAnew_0 : List UInt8 := dkwX4_startAnew_0 ++ dktX4_startAnew_1
theorem dksX4_startAnew_0 : cX4_startAnew.data.toList.drop 0 = dktX4_startAnew_0 := by decide +kernel
theorem dksX4_startAnew_1 : cX4_startAnew.data.toList.drop 24 = dktX4_startAnew_1 := dk_seg dksX4_startAnew_0 24 rfl rfl
theorem dksX4_startAnew_2 : cX4_startAnew.data.toList.drop 48 = dktX4_startAnew_2 := dk_seg dksX4_startAnew_1 24 rfl rfl
theorem dksX4_startAnew_3 : cX4_startAnew.data.toList.drop 72 = dktX4_startAnew_3 := dk_seg dksX4_startAnew_2 24 rfl rfl
theorem dksX4_startAnew_4 : cX4_startAnew.data.toList.drop 95 = dktX4_startAnew_4 := dk_seg dksX4_startAnew_3 23 rfl rfl
theorem dksX4_startAnew_5 : cX4_startAnew.data.toList.drop 118 = dktX4_startAnew_5 := dk_seg dksX4_startAnew_4 23 rfl rfl
theorem dksX4_startAnew_6 : cX4_startAnew.data.toList.drop 141 = dktX4_startAnew_6 := dk_seg dksX4_startAnew_5 23 rfl rfl
theorem dksX4_startAnew_7 : cX4_startAnew.data.toList.drop 164 = dktX4_startAnew_7 := dk_seg dksX4_startAnew_6 23 rfl rfl
theorem dksX4_startAnew_8 : cX4_startAnew.data.toList.drop 186 = dktX4_startAnew_8 := dk_seg dksX4_startAnew_7 22 rfl rfl
theorem dX4_startAnew_0 : decode cX4_startAnew 0 = .ok (.iconst 0, 1) := dk_3 (dk_at dksX4_startAnew_0 0 rfl rfl)
theorem dX4_startAnew_1 : decode cX4_startAnew 1 = .ok (.istore_n 1, 1) := dk_60 (dk_at dksX4_startAnew_0 1 rfl rfl)
theorem dX4_startAnew_2 : decode cX4_startAnew 2 = .ok (.iload_n 1, 1) := dk_27 (dk_at dksX4_startAnew_0 2 rfl rfl)
theorem dX4_startAnew_3 : decode cX4_startAnew 3 = .ok (.bipush 59, 2) := dk_16 59 (dk_at dksX4_startAnew_0 3 rfl rfl)
theorem dX4_startAnew_5 : decode cX4_startAnew 5 = .ok (.if_icmp .ge 16, 3) := dk_162 0 16 (dk_at dksX4_startAnew_0 5 rfl rfl)
theorem dX4_startAnew_8 : decode cX4_startAnew 8 = .ok (.aload_n 0, 1) := dk_42 (dk_at dksX4_startAnew_0 8 rfl rfl)
theorem dX4_startAnew_9 : decode cX4_startAnew 9 = .ok (.getfield 85, 3) := dk_180 0 85 (dk_at dksX4_startAnew_0 9 rfl rfl)
theorem dX4_startAnew_12 : decode cX4_startAnew 12 = .ok (.iload_n 1, 1) := dk_27 (dk_at dksX4_startAnew_0 12 rfl rfl)
theorem dX4_startAnew_13 : decode cX4_startAnew 13 = .ok (.iconst 0, 1) := dk_3 (dk_at dksX4_startAnew_0 13 rfl rfl)
theorem dX4_startAnew_14 : decode cX4_startAnew 14 = .ok (.iastore, 1) := dk_79 (dk_at dksX4_startAnew_0 14 rfl rfl)
theorem dX4_startAnew_15 : decode cX4_startAnew 15 = .ok (.iinc 1 1, 3) := dk_132 1 1 (dk_at dksX4_startAnew_0 15 rfl rfl)
theorem dX4_startAnew_18 : decode cX4_startAnew 18 = .ok (.goto (-16), 3) := dk_167 255 240 (dk_at dksX4_startAnew_0 18 rfl rfl)
theorem dX4_startAnew_21 : decode cX4_startAnew 21 = .ok (.iconst 0, 1) := dk_3 (dk_at dksX4_startAnew_0 21 rfl rfl)
theorem dX4_startAnew_22 : decode cX4_startAnew 22 = .ok (.istore_n 1, 1) := dk_60 (dk_at dksX4_startAnew_0 22 rfl rfl)
theorem dX4_startAnew_23 : decode cX4_startAnew 23 = .ok (.iload_n 1, 1) := dk_27 (dk_at dksX4_startAnew_0 23 rfl rfl)
theorem dX4_startAnew_24 : decode cX4_startAnew 24 = .ok (.bipush 8, 2) := dk_16 8 (dk_at dksX4_startAnew_1 0 rfl rfl)
theorem dX4_startAnew_26 : decode cX4_startAnew 26 = .ok (.if_icmp .ge 14, 3) := dk_162 0 14 (dk_at dksX4_startAnew_1 2 rfl rfl)
theorem dX4_startAnew_29 : decode cX4_startAnew 29 = .ok (.aload_n 0, 1) := dk_42 (dk_at dksX4_startAnew_1 5 rfl rfl)
theorem dX4_startAnew_30 : decode cX4_startAnew 30 = .ok (.iload_n 1, 1) := dk_27 (dk_at dksX4_startAnew_1 6 rfl rfl)
theorem dX4_startAnew_31 : decode cX4_startAnew 31 = .ok (.invokevirtual 359, 3) := dk_182 1 103 (dk_at dksX4_startAnew_1 7 rfl rfl)
theorem dX4_startAnew_34 : decode cX4_startAnew 34 = .ok (.iinc 1 1, 3) := dk_132 1 1 (dk_at dksX4_startAnew_1 10 rfl rfl)
theorem dX4_startAnew_37 : decode cX4_startAnew 37 = .ok (.goto (-14), 3) := dk_167 255 242 (dk_at dksX4_startAnew_1 13 rfl rfl)
theorem dX4_startAnew_40 : decode cX4_startAnew 40 = .ok (.iconst 0, 1) := dk_3 (dk_at dksX4_startAnew_1 16 rfl rfl)
theorem dX4_startAnew_41 : decode cX4_startAnew 41 = .ok (.istore_n 1, 1) := dk_60 (dk_at dksX4_startAnew_1 17 rfl rfl)
theorem dX4_startAnew_42 : decode cX4_startAnew 42 = .ok (.iload_n 1, 1) := dk_27 (dk_at dksX4_startAnew_1 18 rfl rfl)
theorem dX4_startAnew_43 : decode cX4_startAnew 43 = .ok (.aload_n 0, 1) := dk_42 (dk_at dksX4_startAnew_1 19 rfl rfl)
theorem dX4_startAnew_44 : decode cX4_startAnew 44 = .ok (.getfield 24, 3) := dk_180 0 24 (dk_at dksX4_startAnew_1 20 rfl rfl)
theorem dX4_startAnew_47 : decode cX4_startAnew 47 = .ok (.aload_n 0, 1) := dk_42 (dk_at dksX4_startAnew_1 23 rfl rfl)
theorem dX4_startAnew_48 : decode cX4_startAnew 48 = .ok (.getfield 244, 3) := dk_180 0 244 (dk_at dksX4_startAnew_2 0 rfl rfl)
theorem dX4_startAnew_51 : decode cX4_startAnew 51 = .ok (.iaload, 1) := dk_46 (dk_at dksX4_startAnew_2 3 rfl rfl)
theorem dX4_startAnew_52 : decode cX4_startAnew 52 = .ok (.if_icmp .ge 78, 3) := dk_162 0 78 (dk_at dksX4_startAnew_2 4 rfl rfl)
theorem dX4_startAnew_55 : decode cX4_startAnew 55 = .ok (.bipush 6, 2) := dk_16 6 (dk_at dksX4_startAnew_2 7 rfl rfl)
theorem dX4_startAnew_57 : decode cX4_startAnew 57 = .ok (.aload_n 0, 1) := dk_42 (dk_at dksX4_startAnew_2 9 rfl rfl)
theorem dX4_startAnew_58 : decode cX4_startAnew 58 = .ok (.getfield 244, 3) := dk_180 0 244 (dk_at dksX4_startAnew_2 10 rfl rfl)
theorem dX4_startAnew_61 : decode cX4_startAnew 61 = .ok (.imul, 1) := dk_104 (dk_at dksX4_startAnew_2 13 rfl rfl)
theorem dX4_startAnew_62 : decode cX4_startAnew 62 = .ok (.iload_n 1, 1) := dk_27 (dk_at dksX4_startAnew_2 14 rfl rfl)
theorem dX4_startAnew_63 : decode cX4_startAnew 63 = .ok (.iadd, 1) := dk_96 (dk_at dksX4_startAnew_2 15 rfl rfl)
theorem dX4_startAnew_64 : decode cX4_startAnew 64 = .ok (.istore_n 2, 1) := dk_61 (dk_at dksX4_startAnew_2 16 rfl rfl)
theorem dX4_startAnew_65 : decode cX4_startAnew 65 = .ok (.aload_n 0, 1) := dk_42 (dk_at dksX4_startAnew_2 17 rfl rfl)
theorem dX4_startAnew_66 : decode cX4_startAnew 66 = .ok (.getfield 85, 3) := dk_180 0 85 (dk_at dksX4_startAnew_2 18 rfl rfl)
theorem dX4_startAnew_69 : decode cX4_startAnew 69 = .ok (.iconst 0, 1) := dk_3 (dk_at dksX4_startAnew_2 21 rfl rfl)
theorem dX4_startAnew_70 : decode cX4_startAnew 70 = .ok (.iload_n 1, 1) := dk_27 (dk_at dksX4_startAnew_2 22 rfl rfl)
theorem dX4_startAnew_71 : decode cX4_startAnew 71 = .ok (.iadd, 1) := dk_96 (dk_at dksX4_startAnew_2 23 rfl rfl)
theorem dX4_startAnew_72 : decode cX4_startAnew 72 = .ok (.aload_n 0, 1) := dk_42 (dk_at dksX4_startAnew_3 0 rfl rfl)
theorem dX4_startAnew_73 : decode cX4_startAnew 73 = .ok (.getfield 45, 3) := dk_180 0 45 (dk_at dksX4_startAnew_3 1 rfl rfl)
theorem dX4_startAnew_76 : decode cX4_startAnew 76 = .ok (.iload_n 2, 1) := dk_28 (dk_at dksX4_startAnew_3 4 rfl rfl)
theorem dX4_startAnew_77 : decode cX4_startAnew 77 = .ok (.iaload, 1) := dk_46 (dk_at dksX4_startAnew_3 5 rfl rfl)
theorem dX4_startAnew_78 : decode cX4_startAnew 78 = .ok (.iastore, 1) := dk_79 (dk_at dksX4_startAnew_3 6 rfl rfl)
theorem dX4_startAnew_79 : decode cX4_startAnew 79 = .ok (.aload_n 0, 1) := dk_42 (dk_at dksX4_startAnew_3 7 rfl rfl)
theorem dX4_startAnew_80 : decode cX4_startAnew 80 = .ok (.getfield 85, 3) := dk_180 0 85 (dk_at dksX4_startAnew_3 8 rfl rfl)
theorem dX4_startAnew_83 : decode cX4_startAnew 83 = .ok (.bipush 8, 2) := dk_16 8 (dk_at dksX4_startAnew_3 11 rfl rfl)
theorem dX4_startAnew_85 : decode cX4_startAnew 85 = .ok (.iload_n 1, 1) := dk_27 (dk_at dksX4_startAnew_3 13 rfl rfl)
theorem dX4_startAnew_86 : decode cX4_startAnew 86 = .ok (.iadd, 1) := dk_96 (dk_at dksX4_startAnew_3 14 rfl rfl)
theorem dX4_startAnew_87 : decode cX4_startAnew 87 = .ok (.aload_n 0, 1) := dk_42 (dk_at dksX4_startAnew_3 15 rfl rfl)
theorem dX4_startAnew_88 : decode cX4_startAnew 88 = .ok (.getfield 48, 3) := dk_180 0 48 (dk_at dksX4_startAnew_3 16 rfl rfl)
theorem dX4_startAnew_91 : decode cX4_startAnew 91 = .ok (.iload_n 2, 1) := dk_28 (dk_at dksX4_startAnew_3 19 rfl rfl)
theorem dX4_startAnew_92 : decode cX4_startAnew 92 = .ok (.iaload, 1) := dk_46 (dk_at dksX4_startAnew_3 20 rfl rfl)
theorem dX4_startAnew_93 : decode cX4_startAnew 93 = .ok (.iastore, 1) := dk_79 (dk_at dksX4_startAnew_3 21 rfl rfl)
theorem dX4_startAnew_94 : decode cX4_startAnew 94 = .ok (.aload_n 0, 1) := dk_42 (dk_at dksX4_startAnew_3 22 rfl rfl)
theorem dX4_startAnew_95 : decode cX4_startAnew 95 = .ok (.getfield 85, 3) := dk_180 0 85 (dk_at dksX4_startAnew_4 0 rfl rfl)
theorem dX4_startAnew_98 : decode cX4_startAnew 98 = .ok (.bipush 16, 2) := dk_16 16 (dk_at dksX4_startAnew_4 3 rfl rfl)
theorem dX4_startAnew_100 : decode cX4_startAnew 100 = .ok (.iload_n 1, 1) := dk_27 (dk_at dksX4_startAnew_4 5 rfl rfl)
theorem dX4_startAnew_101 : decode cX4_startAnew 101 = .ok (.iadd, 1) := dk_96 (dk_at dksX4_startAnew_4 6 rfl rfl)
theorem dX4_startAnew_102 : decode cX4_startAnew 102 = .ok (.aload_n 0, 1) := dk_42 (dk_at dksX4_startAnew_4 7 rfl rfl)
theorem dX4_startAnew_103 : decode cX4_startAnew 103 = .ok (.getfield 51, 3) := dk_180 0 51 (dk_at dksX4_startAnew_4 8 rfl rfl)
theorem dX4_startAnew_106 : decode cX4_startAnew 106 = .ok (.iload_n 2, 1) := dk_28 (dk_at dksX4_startAnew_4 11 rfl rfl)
theorem dX4_startAnew_107 : decode cX4_startAnew 107 = .ok (.iaload, 1) := dk_46 (dk_at dksX4_startAnew_4 12 rfl rfl)
theorem dX4_startAnew_108 : decode cX4_startAnew 108 = .ok (.iastore, 1) := dk_79 (dk_at dksX4_startAnew_4 13 rfl rfl)
theorem dX4_startAnew_109 : decode cX4_startAnew 109 = .ok (.aload_n 0, 1) := dk_42 (dk_at dksX4_startAnew_4 14 rfl rfl)
theorem dX4_startAnew_110 : decode cX4_startAnew 110 = .ok (.getfield 85, 3) := dk_180 0 85 (dk_at dksX4_startAnew_4 15 rfl rfl)
theorem dX4_startAnew_113 : decode cX4_startAnew 113 = .ok (.bipush 24, 2) := dk_16 24 (dk_at dksX4_startAnew_4 18 rfl rfl)
theorem dX4_startAnew_115 : decode cX4_startAnew 115 = .ok (.iload_n 1, 1) := dk_27 (dk_at dksX4_startAnew_4 20 rfl rfl)
theorem dX4_startAnew_116 : decode cX4_startAnew 116 = .ok (.iadd, 1) := dk_96 (dk_at dksX4_startAnew_4 21 rfl rfl)
theorem dX4_startAnew_117 : decode cX4_startAnew 117 = .ok (.aload_n 0, 1) := dk_42 (dk_at dksX4_startAnew_4 22 rfl rfl)
theorem dX4_startAnew_118 : decode cX4_startAnew 118 = .ok (.getfield 54, 3) := dk_180 0 54 (dk_at dksX4_startAnew_5 0 rfl rfl)
theorem dX4_startAnew_121 : decode cX4_startAnew 121 = .ok (.iload_n 2, 1) := dk_28 (dk_at dksX4_startAnew_5 3 rfl rfl)
theorem dX4_startAnew_122 : decode cX4_startAnew 122 = .ok (.iaload, 1) := dk_46 (dk_at dksX4_startAnew_5 4 rfl rfl)
theorem dX4_startAnew_123 : decode cX4_startAnew 123 = .ok (.iastore, 1) := dk_79 (dk_at dksX4_startAnew_5 5 rfl rfl)
theorem dX4_startAnew_124 : decode cX4_startAnew 124 = .ok (.iinc 1 1, 3) := dk_132 1 1 (dk_at dksX4_startAnew_5 6 rfl rfl)
theorem dX4_startAnew_127 : decode cX4_startAnew 127 = .ok (.goto (-85), 3) := dk_167 255 171 (dk_at dksX4_startAnew_5 9 rfl rfl)
theorem dX4_startAnew_130 : decode cX4_startAnew 130 = .ok (.aload_n 0, 1) := dk_42 (dk_at dksX4_startAnew_5 12 rfl rfl)
theorem dX4_startAnew_131 : decode cX4_startAnew 131 = .ok (.getfield 85, 3) := dk_180 0 85 (dk_at dksX4_startAnew_5 13 rfl rfl)
theorem dX4_startAnew_134 : decode cX4_startAnew 134 = .ok (.bipush 56, 2) := dk_16 56 (dk_at dksX4_startAnew_5 16 rfl rfl)
theorem dX4_startAnew_136 : decode cX4_startAnew 136 = .ok (.aload_n 0, 1) := dk_42 (dk_at dksX4_startAnew_5 18 rfl rfl)
theorem dX4_startAnew_137 : decode cX4_startAnew 137 = .ok (.getfield 33, 3) := dk_180 0 33 (dk_at dksX4_startAnew_5 19 rfl rfl)
theorem dX4_startAnew_140 : decode cX4_startAnew 140 = .ok (.aload_n 0, 1) := dk_42 (dk_at dksX4_startAnew_5 22 rfl rfl)
theorem dX4_startAnew_141 : decode cX4_startAnew 141 = .ok (.getfield 244, 3) := dk_180 0 244 (dk_at dksX4_startAnew_6 0 rfl rfl)
theorem dX4_startAnew_144 : decode cX4_startAnew 144 = .ok (.iaload, 1) := dk_46 (dk_at dksX4_startAnew_6 3 rfl rfl)
theorem dX4_startAnew_145 : decode cX4_startAnew 145 = .ok (.iastore, 1) := dk_79 (dk_at dksX4_startAnew_6 4 rfl rfl)
theorem dX4_startAnew_146 : decode cX4_startAnew 146 = .ok (.aload_n 0, 1) := dk_42 (dk_at dksX4_startAnew_6 5 rfl rfl)
theorem dX4_startAnew_147 : decode cX4_startAnew 147 = .ok (.getfield 85, 3) := dk_180 0 85 (dk_at dksX4_startAnew_6 6 rfl rfl)
theorem dX4_startAnew_150 : decode cX4_startAnew 150 = .ok (.bipush 58, 2) := dk_16 58 (dk_at dksX4_startAnew_6 9 rfl rfl)
theorem dX4_startAnew_152 : decode cX4_startAnew 152 = .ok (.aload_n 0, 1) := dk_42 (dk_at dksX4_startAnew_6 11 rfl rfl)
theorem dX4_startAnew_153 : decode cX4_startAnew 153 = .ok (.getfield 36, 3) := dk_180 0 36 (dk_at dksX4_startAnew_6 12 rfl rfl)
theorem dX4_startAnew_156 : decode cX4_startAnew 156 = .ok (.aload_n 0, 1) := dk_42 (dk_at dksX4_startAnew_6 15 rfl rfl)
theorem dX4_startAnew_157 : decode cX4_startAnew 157 = .ok (.getfield 244, 3) := dk_180 0 244 (dk_at dksX4_startAnew_6 16 rfl rfl)
theorem dX4_startAnew_160 : decode cX4_startAnew 160 = .ok (.iaload, 1) := dk_46 (dk_at dksX4_startAnew_6 19 rfl rfl)
theorem dX4_startAnew_161 : decode cX4_startAnew 161 = .ok (.iastore, 1) := dk_79 (dk_at dksX4_startAnew_6 20 rfl rfl)
theorem dX4_startAnew_162 : decode cX4_startAnew 162 = .ok (.aload_n 0, 1) := dk_42 (dk_at dksX4_startAnew_6 21 rfl rfl)
theorem dX4_startAnew_163 : decode cX4_startAnew 163 = .ok (.iconst 0, 1) := dk_3 (dk_at dksX4_startAnew_6 22 rfl rfl)
theorem dX4_startAnew_164 : decode cX4_startAnew 164 = .ok (.putfield 363, 3) := dk_181 1 107 (dk_at dksX4_startAnew_7 0 rfl rfl)
theorem dX4_startAnew_167 : decode cX4_startAnew 167 = .ok (.aload_n 0, 1) := dk_42 (dk_at dksX4_startAnew_7 3 rfl rfl)
theorem dX4_startAnew_168 : decode cX4_startAnew 168 = .ok (.iconst 0, 1) := dk_3 (dk_at dksX4_startAnew_7 4 rfl rfl)
theorem dX4_startAnew_169 : decode cX4_startAnew 169 = .ok (.putfield 366, 3) := dk_181 1 110 (dk_at dksX4_startAnew_7 5 rfl rfl)
theorem dX4_startAnew_172 : decode cX4_startAnew 172 = .ok (.aload_n 0, 1) := dk_42 (dk_at dksX4_startAnew_7 8 rfl rfl)
theorem dX4_startAnew_173 : decode cX4_startAnew 173 = .ok (.iconst 0, 1) := dk_3 (dk_at dksX4_startAnew_7 9 rfl rfl)
theorem dX4_startAnew_174 : decode cX4_startAnew 174 = .ok (.putfield 369, 3) := dk_181 1 113 (dk_at dksX4_startAnew_7 10 rfl rfl)
theorem dX4_startAnew_177 : decode cX4_startAnew 177 = .ok (.aload_n 0, 1) := dk_42 (dk_at dksX4_startAnew_7 13 rfl rfl)
theorem dX4_startAnew_178 : decode cX4_startAnew 178 = .ok (.iconst 0, 1) := dk_3 (dk_at dksX4_startAnew_7 14 rfl rfl)
theorem dX4_startAnew_179 : decode cX4_startAnew 179 = .ok (.putfield 372, 3) := dk_181 1 116 (dk_at dksX4_startAnew_7 15 rfl rfl)
theorem dX4_startAnew_182 : decode cX4_startAnew 182 = .ok (.iconst 0, 1) := dk_3 (dk_at dksX4_startAnew_7 18 rfl rfl)
theorem dX4_startAnew_183 : decode cX4_startAnew 183 = .ok (.istore_n 1, 1) := dk_60 (dk_at dksX4_startAnew_7 19 rfl rfl)
theorem dX4_startAnew_184 : decode cX4_startAnew 184 = .ok (.iload_n 1, 1) := dk_27 (dk_at dksX4_startAnew_7 20 rfl rfl)
theorem dX4_startAnew_185 : decode cX4_startAnew 185 = .ok (.iconst 3, 1) := dk_6 (dk_at dksX4_startAnew_7 21 rfl rfl)
theorem dX4_startAnew_186 : decode cX4_startAnew 186 = .ok (.if_icmp .ge 16, 3) := dk_162 0 16 (dk_at dksX4_startAnew_8 0 rfl rfl)
theorem dX4_startAnew_189 : decode cX4_startAnew 189 = .ok (.aload_n 0, 1) := dk_42 (dk_at dksX4_startAnew_8 3 rfl rfl)
theorem dX4_startAnew_190 : decode cX4_startAnew 190 = .ok (.getfield 125, 3) := dk_180 0 125 (dk_at dksX4_startAnew_8 4 rfl rfl)
theorem dX4_startAnew_193 : decode cX4_startAnew 193 = .ok (.iload_n 1, 1) := dk_27 (dk_at dksX4_startAnew_8 7 rfl rfl)
theorem dX4_startAnew_194 : decode cX4_startAnew 194 = .ok (.iconst 0, 1) := dk_3 (dk_at dksX4_startAnew_8 8 rfl rfl)
theorem dX4_startAnew_195 : decode cX4_startAnew 195 = .ok (.bastore, 1) := dk_84 (dk_at dksX4_startAnew_8 9 rfl rfl)
theorem dX4_startAnew_196 : decode cX4_startAnew 196 = .ok (.iinc 1 1, 3) := dk_132 1 1 (dk_at dksX4_startAnew_8 10 rfl rfl)
theorem dX4_startAnew_199 : decode cX4_startAnew 199 = .ok (.goto (-15), 3) := dk_167 255 241 (dk_at dksX4_startAnew_8 13 rfl rfl)
theorem dX4_startAnew_202 : decode cX4_startAnew 202 = .ok (.return_, 1) := dk_177 (dk_at dksX4_startAnew_8 16 rfl rfl)
abbrev cX4_clearPlace : ByteArray := prog_22_method_52_code
def yX4_clearPlace : MethodName := ⟨RX4, "clearPlace", "(I)V"⟩
def dkwX4_clearPlace_2 : List UInt8 := [3, 79, 42, 180, 0, 85, 16, 40, 27, 96, 2, 79, 42, 180, 0, 85, 16, 48, 27, 96, 2, 79, 177]
abbrev dktX4_clearPlace_2 : List UInt8 := dkwX4_clearPlace_2 ++ []
def dkwX4_clearPlace_1 : List UInt8 := [16, 16, 27, 96, 3, 79, 42, 180, 0, 85, 16, 24, 27, 96, 3, 79, 42, 180, 0, 85, 16, 32, 27, 96]
abbrev dktX4_clearPlace_1 : List UInt8 := dkwX4_clearPlace_1 ++ dktX4_clearPlace_2
def dkwX4_clearPlace_0 : List UInt8 := [42, 180, 0, 85, 3, 27, 96, 3, 79, 42, 180, 0, 85, 16, 8, 27, 96, 3, 79, 42, 180, 0, 85]
abbrev dktX4_clearPlace_0 : List UInt8 := dkwX4_clearPlace_0 ++ dktX4_clearPlace_1
theorem dksX4_clearPlace_0 : cX4_clearPlace.data.toList.drop 0 = dktX4_clearPlace_0 := by decide +kernel
theorem dksX4_clearPlace_1 : cX4_clearPlace.data.toList.drop 23 = dktX4_clearPlace_1 := dk_seg dksX4_clearPlace_0 23 rfl rfl
theorem dksX4_clearPlace_2 : cX4_clearPlace.data.toList.drop 47 = dktX4_clearPlace_2 := dk_seg dksX4_clearPlace_1 24 rfl rfl
theorem dX4_clearPlace_0 : decode cX4_clearPlace 0 = .ok (.aload_n 0, 1) := dk_42 (dk_at dksX4_clearPlace_0 0 rfl rfl)
theorem dX4_clearPlace_1 : decode cX4_clearPlace 1 = .ok (.getfield 85, 3) := dk_180 0 85 (dk_at dksX4_clearPlace_0 1 rfl rfl)
theorem dX4_clearPlace_4 : decode cX4_clearPlace 4 = .ok (.iconst 0, 1) := dk_3 (dk_at dksX4_clearPlace_0 4 rfl rfl)
theorem dX4_clearPlace_5 : decode cX4_clearPlace 5 = .ok (.iload_n 1, 1) := dk_27 (dk_at dksX4_clearPlace_0 5 rfl rfl)
theorem dX4_clearPlace_6 : decode cX4_clearPlace 6 = .ok (.iadd, 1) := dk_96 (dk_at dksX4_clearPlace_0 6 rfl rfl)
theorem dX4_clearPlace_7 : decode cX4_clearPlace 7 = .ok (.iconst 0, 1) := dk_3 (dk_at dksX4_clearPlace_0 7 rfl rfl)
theorem dX4_clearPlace_8 : decode cX4_clearPlace 8 = .ok (.iastore, 1) := dk_79 (dk_at dksX4_clearPlace_0 8 rfl rfl)
theorem dX4_clearPlace_9 : decode cX4_clearPlace 9 = .ok (.aload_n 0, 1) := dk_42 (dk_at dksX4_clearPlace_0 9 rfl rfl)
theorem dX4_clearPlace_10 : decode cX4_clearPlace 10 = .ok (.getfield 85, 3) := dk_180 0 85 (dk_at dksX4_clearPlace_0 10 rfl rfl)
theorem dX4_clearPlace_13 : decode cX4_clearPlace 13 = .ok (.bipush 8, 2) := dk_16 8 (dk_at dksX4_clearPlace_0 13 rfl rfl)
theorem dX4_clearPlace_15 : decode cX4_clearPlace 15 = .ok (.iload_n 1, 1) := dk_27 (dk_at dksX4_clearPlace_0 15 rfl rfl)
theorem dX4_clearPlace_16 : decode cX4_clearPlace 16 = .ok (.iadd, 1) := dk_96 (dk_at dksX4_clearPlace_0 16 rfl rfl)
theorem dX4_clearPlace_17 : decode cX4_clearPlace 17 = .ok (.iconst 0, 1) := dk_3 (dk_at dksX4_clearPlace_0 17 rfl rfl)
theorem dX4_clearPlace_18 : decode cX4_clearPlace 18 = .ok (.iastore, 1) := dk_79 (dk_at dksX4_clearPlace_0 18 rfl rfl)
theorem dX4_clearPlace_19 : decode cX4_clearPlace 19 = .ok (.aload_n 0, 1) := dk_42 (dk_at dksX4_clearPlace_0 19 rfl rfl)
theorem dX4_clearPlace_20 : decode cX4_clearPlace 20 = .ok (.getfield 85, 3) := dk_180 0 85 (dk_at dksX4_clearPlace_0 20 rfl rfl)
theorem dX4_clearPlace_23 : decode cX4_clearPlace 23 = .ok (.bipush 16, 2) := dk_16 16 (dk_at dksX4_clearPlace_1 0 rfl rfl)
theorem dX4_clearPlace_25 : decode cX4_clearPlace 25 = .ok (.iload_n 1, 1) := dk_27 (dk_at dksX4_clearPlace_1 2 rfl rfl)
theorem dX4_clearPlace_26 : decode cX4_clearPlace 26 = .ok (.iadd, 1) := dk_96 (dk_at dksX4_clearPlace_1 3 rfl rfl)
theorem dX4_clearPlace_27 : decode cX4_clearPlace 27 = .ok (.iconst 0, 1) := dk_3 (dk_at dksX4_clearPlace_1 4 rfl rfl)
theorem dX4_clearPlace_28 : decode cX4_clearPlace 28 = .ok (.iastore, 1) := dk_79 (dk_at dksX4_clearPlace_1 5 rfl rfl)
theorem dX4_clearPlace_29 : decode cX4_clearPlace 29 = .ok (.aload_n 0, 1) := dk_42 (dk_at dksX4_clearPlace_1 6 rfl rfl)
theorem dX4_clearPlace_30 : decode cX4_clearPlace 30 = .ok (.getfield 85, 3) := dk_180 0 85 (dk_at dksX4_clearPlace_1 7 rfl rfl)
theorem dX4_clearPlace_33 : decode cX4_clearPlace 33 = .ok (.bipush 24, 2) := dk_16 24 (dk_at dksX4_clearPlace_1 10 rfl rfl)
theorem dX4_clearPlace_35 : decode cX4_clearPlace 35 = .ok (.iload_n 1, 1) := dk_27 (dk_at dksX4_clearPlace_1 12 rfl rfl)
theorem dX4_clearPlace_36 : decode cX4_clearPlace 36 = .ok (.iadd, 1) := dk_96 (dk_at dksX4_clearPlace_1 13 rfl rfl)
theorem dX4_clearPlace_37 : decode cX4_clearPlace 37 = .ok (.iconst 0, 1) := dk_3 (dk_at dksX4_clearPlace_1 14 rfl rfl)
theorem dX4_clearPlace_38 : decode cX4_clearPlace 38 = .ok (.iastore, 1) := dk_79 (dk_at dksX4_clearPlace_1 15 rfl rfl)
theorem dX4_clearPlace_39 : decode cX4_clearPlace 39 = .ok (.aload_n 0, 1) := dk_42 (dk_at dksX4_clearPlace_1 16 rfl rfl)
theorem dX4_clearPlace_40 : decode cX4_clearPlace 40 = .ok (.getfield 85, 3) := dk_180 0 85 (dk_at dksX4_clearPlace_1 17 rfl rfl)
theorem dX4_clearPlace_43 : decode cX4_clearPlace 43 = .ok (.bipush 32, 2) := dk_16 32 (dk_at dksX4_clearPlace_1 20 rfl rfl)
theorem dX4_clearPlace_45 : decode cX4_clearPlace 45 = .ok (.iload_n 1, 1) := dk_27 (dk_at dksX4_clearPlace_1 22 rfl rfl)
theorem dX4_clearPlace_46 : decode cX4_clearPlace 46 = .ok (.iadd, 1) := dk_96 (dk_at dksX4_clearPlace_1 23 rfl rfl)
theorem dX4_clearPlace_47 : decode cX4_clearPlace 47 = .ok (.iconst 0, 1) := dk_3 (dk_at dksX4_clearPlace_2 0 rfl rfl)
theorem dX4_clearPlace_48 : decode cX4_clearPlace 48 = .ok (.iastore, 1) := dk_79 (dk_at dksX4_clearPlace_2 1 rfl rfl)
theorem dX4_clearPlace_49 : decode cX4_clearPlace 49 = .ok (.aload_n 0, 1) := dk_42 (dk_at dksX4_clearPlace_2 2 rfl rfl)
theorem dX4_clearPlace_50 : decode cX4_clearPlace 50 = .ok (.getfield 85, 3) := dk_180 0 85 (dk_at dksX4_clearPlace_2 3 rfl rfl)
theorem dX4_clearPlace_53 : decode cX4_clearPlace 53 = .ok (.bipush 40, 2) := dk_16 40 (dk_at dksX4_clearPlace_2 6 rfl rfl)
theorem dX4_clearPlace_55 : decode cX4_clearPlace 55 = .ok (.iload_n 1, 1) := dk_27 (dk_at dksX4_clearPlace_2 8 rfl rfl)
theorem dX4_clearPlace_56 : decode cX4_clearPlace 56 = .ok (.iadd, 1) := dk_96 (dk_at dksX4_clearPlace_2 9 rfl rfl)
theorem dX4_clearPlace_57 : decode cX4_clearPlace 57 = .ok (.iconst (-1), 1) := dk_2 (dk_at dksX4_clearPlace_2 10 rfl rfl)
theorem dX4_clearPlace_58 : decode cX4_clearPlace 58 = .ok (.iastore, 1) := dk_79 (dk_at dksX4_clearPlace_2 11 rfl rfl)
theorem dX4_clearPlace_59 : decode cX4_clearPlace 59 = .ok (.aload_n 0, 1) := dk_42 (dk_at dksX4_clearPlace_2 12 rfl rfl)
theorem dX4_clearPlace_60 : decode cX4_clearPlace 60 = .ok (.getfield 85, 3) := dk_180 0 85 (dk_at dksX4_clearPlace_2 13 rfl rfl)
theorem dX4_clearPlace_63 : decode cX4_clearPlace 63 = .ok (.bipush 48, 2) := dk_16 48 (dk_at dksX4_clearPlace_2 16 rfl rfl)
theorem dX4_clearPlace_65 : decode cX4_clearPlace 65 = .ok (.iload_n 1, 1) := dk_27 (dk_at dksX4_clearPlace_2 18 rfl rfl)
theorem dX4_clearPlace_66 : decode cX4_clearPlace 66 = .ok (.iadd, 1) := dk_96 (dk_at dksX4_clearPlace_2 19 rfl rfl)
theorem dX4_clearPlace_67 : decode cX4_clearPlace 67 = .ok (.iconst (-1), 1) := dk_2 (dk_at dksX4_clearPlace_2 20 rfl rfl)
theorem dX4_clearPlace_68 : decode cX4_clearPlace 68 = .ok (.iastore, 1) := dk_79 (dk_at dksX4_clearPlace_2 21 rfl rfl)
theorem dX4_clearPlace_69 : decode cX4_clearPlace 69 = .ok (.return_, 1) := dk_177 (dk_at dksX4_clearPlace_2 22 rfl rfl)
abbrev cX4_house : ByteArray := prog_22_method_17_code
def yX4_house : MethodName := ⟨RX4, "house", "()I"⟩
def dkwX4_house_5 : List UInt8 := [42, 180, 0, 24, 42, 180, 0, 244, 46, 172]
abbrev dktX4_house_5 : List UInt8 := dkwX4_house_5 ++ []
def dkwX4_house_4 : List UInt8 := [167, 255, 238, 42, 182, 0, 214, 154, 0, 5, 2, 172, 42, 42, 180, 0, 235, 181, 0, 244, 42, 182, 0, 131]
abbrev dktX4_house_4 : List UInt8 := dkwX4_house_4 ++ dktX4_house_5
def dkwX4_house_3 : List UInt8 := [42, 182, 0, 218, 42, 182, 0, 214, 153, 0, 17, 42, 180, 0, 186, 153, 0, 10, 42, 182, 0, 247]
abbrev dktX4_house_3 : List UInt8 := dkwX4_house_3 ++ dktX4_house_4
def dkwX4_house_2 : List UInt8 := [42, 3, 181, 0, 241, 42, 3, 181, 0, 176, 42, 4, 42, 180, 0, 244, 100, 181, 0, 235, 42, 182, 0, 128]
abbrev dktX4_house_2 : List UInt8 := dkwX4_house_2 ++ dktX4_house_3
def dkwX4_house_1 : List UInt8 := [180, 0, 134, 162, 0, 21, 42, 180, 0, 13, 27, 42, 180, 0, 7, 27, 51, 84, 132, 1, 1, 167, 255, 233]
abbrev dktX4_house_1 : List UInt8 := dkwX4_house_1 ++ dktX4_house_2
def dkwX4_house_0 : List UInt8 := [42, 3, 181, 0, 137, 42, 2, 181, 0, 16, 42, 42, 180, 0, 241, 181, 0, 134, 3, 60, 27, 42]
abbrev dktX4_house_0 : List UInt8 := dkwX4_house_0 ++ dktX4_house_1
theorem dksX4_house_0 : cX4_house.data.toList.drop 0 = dktX4_house_0 := by decide +kernel
theorem dksX4_house_1 : cX4_house.data.toList.drop 22 = dktX4_house_1 := dk_seg dksX4_house_0 22 rfl rfl
theorem dksX4_house_2 : cX4_house.data.toList.drop 46 = dktX4_house_2 := dk_seg dksX4_house_1 24 rfl rfl
theorem dksX4_house_3 : cX4_house.data.toList.drop 70 = dktX4_house_3 := dk_seg dksX4_house_2 24 rfl rfl
theorem dksX4_house_4 : cX4_house.data.toList.drop 92 = dktX4_house_4 := dk_seg dksX4_house_3 22 rfl rfl
theorem dksX4_house_5 : cX4_house.data.toList.drop 116 = dktX4_house_5 := dk_seg dksX4_house_4 24 rfl rfl
theorem dX4_house_0 : decode cX4_house 0 = .ok (.aload_n 0, 1) := dk_42 (dk_at dksX4_house_0 0 rfl rfl)
theorem dX4_house_1 : decode cX4_house 1 = .ok (.iconst 0, 1) := dk_3 (dk_at dksX4_house_0 1 rfl rfl)
theorem dX4_house_2 : decode cX4_house 2 = .ok (.putfield 137, 3) := dk_181 0 137 (dk_at dksX4_house_0 2 rfl rfl)
theorem dX4_house_5 : decode cX4_house 5 = .ok (.aload_n 0, 1) := dk_42 (dk_at dksX4_house_0 5 rfl rfl)
theorem dX4_house_6 : decode cX4_house 6 = .ok (.iconst (-1), 1) := dk_2 (dk_at dksX4_house_0 6 rfl rfl)
theorem dX4_house_7 : decode cX4_house 7 = .ok (.putfield 16, 3) := dk_181 0 16 (dk_at dksX4_house_0 7 rfl rfl)
theorem dX4_house_10 : decode cX4_house 10 = .ok (.aload_n 0, 1) := dk_42 (dk_at dksX4_house_0 10 rfl rfl)
theorem dX4_house_11 : decode cX4_house 11 = .ok (.aload_n 0, 1) := dk_42 (dk_at dksX4_house_0 11 rfl rfl)
theorem dX4_house_12 : decode cX4_house 12 = .ok (.getfield 241, 3) := dk_180 0 241 (dk_at dksX4_house_0 12 rfl rfl)
theorem dX4_house_15 : decode cX4_house 15 = .ok (.putfield 134, 3) := dk_181 0 134 (dk_at dksX4_house_0 15 rfl rfl)
theorem dX4_house_18 : decode cX4_house 18 = .ok (.iconst 0, 1) := dk_3 (dk_at dksX4_house_0 18 rfl rfl)
theorem dX4_house_19 : decode cX4_house 19 = .ok (.istore_n 1, 1) := dk_60 (dk_at dksX4_house_0 19 rfl rfl)
theorem dX4_house_20 : decode cX4_house 20 = .ok (.iload_n 1, 1) := dk_27 (dk_at dksX4_house_0 20 rfl rfl)
theorem dX4_house_21 : decode cX4_house 21 = .ok (.aload_n 0, 1) := dk_42 (dk_at dksX4_house_0 21 rfl rfl)
theorem dX4_house_22 : decode cX4_house 22 = .ok (.getfield 134, 3) := dk_180 0 134 (dk_at dksX4_house_1 0 rfl rfl)
theorem dX4_house_25 : decode cX4_house 25 = .ok (.if_icmp .ge 21, 3) := dk_162 0 21 (dk_at dksX4_house_1 3 rfl rfl)
theorem dX4_house_28 : decode cX4_house 28 = .ok (.aload_n 0, 1) := dk_42 (dk_at dksX4_house_1 6 rfl rfl)
theorem dX4_house_29 : decode cX4_house 29 = .ok (.getfield 13, 3) := dk_180 0 13 (dk_at dksX4_house_1 7 rfl rfl)
theorem dX4_house_32 : decode cX4_house 32 = .ok (.iload_n 1, 1) := dk_27 (dk_at dksX4_house_1 10 rfl rfl)
theorem dX4_house_33 : decode cX4_house 33 = .ok (.aload_n 0, 1) := dk_42 (dk_at dksX4_house_1 11 rfl rfl)
theorem dX4_house_34 : decode cX4_house 34 = .ok (.getfield 7, 3) := dk_180 0 7 (dk_at dksX4_house_1 12 rfl rfl)
theorem dX4_house_37 : decode cX4_house 37 = .ok (.iload_n 1, 1) := dk_27 (dk_at dksX4_house_1 15 rfl rfl)
theorem dX4_house_38 : decode cX4_house 38 = .ok (.baload, 1) := dk_51 (dk_at dksX4_house_1 16 rfl rfl)
theorem dX4_house_39 : decode cX4_house 39 = .ok (.bastore, 1) := dk_84 (dk_at dksX4_house_1 17 rfl rfl)
theorem dX4_house_40 : decode cX4_house 40 = .ok (.iinc 1 1, 3) := dk_132 1 1 (dk_at dksX4_house_1 18 rfl rfl)
theorem dX4_house_43 : decode cX4_house 43 = .ok (.goto (-23), 3) := dk_167 255 233 (dk_at dksX4_house_1 21 rfl rfl)
theorem dX4_house_46 : decode cX4_house 46 = .ok (.aload_n 0, 1) := dk_42 (dk_at dksX4_house_2 0 rfl rfl)
theorem dX4_house_47 : decode cX4_house 47 = .ok (.iconst 0, 1) := dk_3 (dk_at dksX4_house_2 1 rfl rfl)
theorem dX4_house_48 : decode cX4_house 48 = .ok (.putfield 241, 3) := dk_181 0 241 (dk_at dksX4_house_2 2 rfl rfl)
theorem dX4_house_51 : decode cX4_house 51 = .ok (.aload_n 0, 1) := dk_42 (dk_at dksX4_house_2 5 rfl rfl)
theorem dX4_house_52 : decode cX4_house 52 = .ok (.iconst 0, 1) := dk_3 (dk_at dksX4_house_2 6 rfl rfl)
theorem dX4_house_53 : decode cX4_house 53 = .ok (.putfield 176, 3) := dk_181 0 176 (dk_at dksX4_house_2 7 rfl rfl)
theorem dX4_house_56 : decode cX4_house 56 = .ok (.aload_n 0, 1) := dk_42 (dk_at dksX4_house_2 10 rfl rfl)
theorem dX4_house_57 : decode cX4_house 57 = .ok (.iconst 1, 1) := dk_4 (dk_at dksX4_house_2 11 rfl rfl)
theorem dX4_house_58 : decode cX4_house 58 = .ok (.aload_n 0, 1) := dk_42 (dk_at dksX4_house_2 12 rfl rfl)
theorem dX4_house_59 : decode cX4_house 59 = .ok (.getfield 244, 3) := dk_180 0 244 (dk_at dksX4_house_2 13 rfl rfl)
theorem dX4_house_62 : decode cX4_house 62 = .ok (.isub, 1) := dk_100 (dk_at dksX4_house_2 16 rfl rfl)
theorem dX4_house_63 : decode cX4_house 63 = .ok (.putfield 235, 3) := dk_181 0 235 (dk_at dksX4_house_2 17 rfl rfl)
theorem dX4_house_66 : decode cX4_house 66 = .ok (.aload_n 0, 1) := dk_42 (dk_at dksX4_house_2 20 rfl rfl)
theorem dX4_house_67 : decode cX4_house 67 = .ok (.invokevirtual 128, 3) := dk_182 0 128 (dk_at dksX4_house_2 21 rfl rfl)
theorem dX4_house_70 : decode cX4_house 70 = .ok (.aload_n 0, 1) := dk_42 (dk_at dksX4_house_3 0 rfl rfl)
theorem dX4_house_71 : decode cX4_house 71 = .ok (.invokevirtual 218, 3) := dk_182 0 218 (dk_at dksX4_house_3 1 rfl rfl)
theorem dX4_house_74 : decode cX4_house 74 = .ok (.aload_n 0, 1) := dk_42 (dk_at dksX4_house_3 4 rfl rfl)
theorem dX4_house_75 : decode cX4_house 75 = .ok (.invokevirtual 214, 3) := dk_182 0 214 (dk_at dksX4_house_3 5 rfl rfl)
theorem dX4_house_78 : decode cX4_house 78 = .ok (.ifCond .eq 17, 3) := dk_153 0 17 (dk_at dksX4_house_3 8 rfl rfl)
theorem dX4_house_81 : decode cX4_house 81 = .ok (.aload_n 0, 1) := dk_42 (dk_at dksX4_house_3 11 rfl rfl)
theorem dX4_house_82 : decode cX4_house 82 = .ok (.getfield 186, 3) := dk_180 0 186 (dk_at dksX4_house_3 12 rfl rfl)
theorem dX4_house_85 : decode cX4_house 85 = .ok (.ifCond .eq 10, 3) := dk_153 0 10 (dk_at dksX4_house_3 15 rfl rfl)
theorem dX4_house_88 : decode cX4_house 88 = .ok (.aload_n 0, 1) := dk_42 (dk_at dksX4_house_3 18 rfl rfl)
theorem dX4_house_89 : decode cX4_house 89 = .ok (.invokevirtual 247, 3) := dk_182 0 247 (dk_at dksX4_house_3 19 rfl rfl)
theorem dX4_house_92 : decode cX4_house 92 = .ok (.goto (-18), 3) := dk_167 255 238 (dk_at dksX4_house_4 0 rfl rfl)
theorem dX4_house_95 : decode cX4_house 95 = .ok (.aload_n 0, 1) := dk_42 (dk_at dksX4_house_4 3 rfl rfl)
theorem dX4_house_96 : decode cX4_house 96 = .ok (.invokevirtual 214, 3) := dk_182 0 214 (dk_at dksX4_house_4 4 rfl rfl)
theorem dX4_house_99 : decode cX4_house 99 = .ok (.ifCond .ne 5, 3) := dk_154 0 5 (dk_at dksX4_house_4 7 rfl rfl)
theorem dX4_house_102 : decode cX4_house 102 = .ok (.iconst (-1), 1) := dk_2 (dk_at dksX4_house_4 10 rfl rfl)
theorem dX4_house_103 : decode cX4_house 103 = .ok (.ireturn, 1) := dk_172 (dk_at dksX4_house_4 11 rfl rfl)
theorem dX4_house_104 : decode cX4_house 104 = .ok (.aload_n 0, 1) := dk_42 (dk_at dksX4_house_4 12 rfl rfl)
theorem dX4_house_105 : decode cX4_house 105 = .ok (.aload_n 0, 1) := dk_42 (dk_at dksX4_house_4 13 rfl rfl)
theorem dX4_house_106 : decode cX4_house 106 = .ok (.getfield 235, 3) := dk_180 0 235 (dk_at dksX4_house_4 14 rfl rfl)
theorem dX4_house_109 : decode cX4_house 109 = .ok (.putfield 244, 3) := dk_181 0 244 (dk_at dksX4_house_4 17 rfl rfl)
theorem dX4_house_112 : decode cX4_house 112 = .ok (.aload_n 0, 1) := dk_42 (dk_at dksX4_house_4 20 rfl rfl)
theorem dX4_house_113 : decode cX4_house 113 = .ok (.invokevirtual 131, 3) := dk_182 0 131 (dk_at dksX4_house_4 21 rfl rfl)
theorem dX4_house_116 : decode cX4_house 116 = .ok (.aload_n 0, 1) := dk_42 (dk_at dksX4_house_5 0 rfl rfl)
theorem dX4_house_117 : decode cX4_house 117 = .ok (.getfield 24, 3) := dk_180 0 24 (dk_at dksX4_house_5 1 rfl rfl)
theorem dX4_house_120 : decode cX4_house 120 = .ok (.aload_n 0, 1) := dk_42 (dk_at dksX4_house_5 4 rfl rfl)
theorem dX4_house_121 : decode cX4_house 121 = .ok (.getfield 244, 3) := dk_180 0 244 (dk_at dksX4_house_5 5 rfl rfl)
theorem dX4_house_124 : decode cX4_house 124 = .ok (.iaload, 1) := dk_46 (dk_at dksX4_house_5 8 rfl rfl)
theorem dX4_house_125 : decode cX4_house 125 = .ok (.ireturn, 1) := dk_172 (dk_at dksX4_house_5 9 rfl rfl)
abbrev cX4_goOn : ByteArray := prog_22_method_9_code
def yX4_goOn : MethodName := ⟨RX4, "goOn", "()V"⟩
def dkwX4_goOn_16 : List UInt8 := [167, 0, 4, 4, 181, 0, 186, 177]
abbrev dktX4_goOn_16 : List UInt8 := dkwX4_goOn_16 ++ []
def dkwX4_goOn_15 : List UInt8 := [153, 0, 7, 4, 167, 0, 4, 7, 181, 0, 186, 167, 0, 19, 42, 27, 184, 0, 207, 153, 0, 7, 8]
abbrev dktX4_goOn_15 : List UInt8 := dkwX4_goOn_15 ++ dktX4_goOn_16
def dkwX4_goOn_14 : List UInt8 := [180, 0, 176, 42, 180, 0, 179, 100, 7, 163, 0, 17, 42, 42, 180, 0, 176, 182, 0, 182, 184, 0, 189]
abbrev dktX4_goOn_14 : List UInt8 := dkwX4_goOn_14 ++ dktX4_goOn_15
def dkwX4_goOn_13 : List UInt8 := [96, 16, 48, 100, 181, 0, 204, 42, 89, 180, 0, 176, 4, 96, 181, 0, 176, 167, 255, 196, 42, 42]
abbrev dktX4_goOn_13 : List UInt8 := dkwX4_goOn_13 ++ dktX4_goOn_14
def dkwX4_goOn_12 : List UInt8 := [180, 0, 179, 100, 7, 162, 0, 26, 42, 16, 10, 42, 180, 0, 204, 104, 42, 42, 180, 0, 176, 182, 0, 182]
abbrev dktX4_goOn_12 : List UInt8 := dkwX4_goOn_12 ++ dktX4_goOn_13
def dkwX4_goOn_11 : List UInt8 := [181, 0, 176, 42, 42, 180, 0, 176, 182, 0, 182, 184, 0, 201, 153, 0, 52, 42, 180, 0, 176, 42]
abbrev dktX4_goOn_11 : List UInt8 := dkwX4_goOn_11 ++ dktX4_goOn_12
def dkwX4_goOn_10 : List UInt8 := [181, 0, 186, 167, 0, 141, 27, 184, 0, 201, 153, 0, 118, 42, 3, 181, 0, 204, 42, 42, 180, 0, 179]
abbrev dktX4_goOn_10 : List UInt8 := dkwX4_goOn_10 ++ dktX4_goOn_11
def dkwX4_goOn_9 : List UInt8 := [164, 0, 7, 4, 167, 0, 18, 42, 180, 0, 193, 184, 0, 197, 153, 0, 7, 6, 167, 0, 4, 5]
abbrev dktX4_goOn_9 : List UInt8 := dkwX4_goOn_9 ++ dktX4_goOn_10
def dkwX4_goOn_8 : List UInt8 := [133, 129, 181, 0, 193, 132, 2, 1, 167, 255, 216, 42, 42, 180, 0, 176, 42, 180, 0, 179, 100, 16, 8]
abbrev dktX4_goOn_8 : List UInt8 := dkwX4_goOn_8 ++ dktX4_goOn_9
def dkwX4_goOn_7 : List UInt8 := [28, 42, 180, 0, 179, 16, 8, 96, 162, 0, 27, 42, 42, 180, 0, 193, 16, 8, 121, 42, 28, 182, 0, 182]
abbrev dktX4_goOn_7 : List UInt8 := dkwX4_goOn_7 ++ dktX4_goOn_8
def dkwX4_goOn_6 : List UInt8 := [181, 0, 176, 167, 255, 232, 42, 9, 181, 0, 193, 42, 180, 0, 179, 61, 28, 42, 180, 0, 176, 162, 0, 38]
abbrev dktX4_goOn_6 : List UInt8 := dkwX4_goOn_6 ++ dktX4_goOn_7
def dkwX4_goOn_5 : List UInt8 := [153, 0, 123, 42, 42, 180, 0, 176, 182, 0, 182, 184, 0, 189, 153, 0, 16, 42, 89, 180, 0, 176, 4, 96]
abbrev dktX4_goOn_5 : List UInt8 := dkwX4_goOn_5 ++ dktX4_goOn_6
def dkwX4_goOn_4 : List UInt8 := [42, 42, 180, 0, 134, 181, 0, 179, 42, 42, 180, 0, 134, 181, 0, 176, 167, 1, 12, 27, 184, 0, 189]
abbrev dktX4_goOn_4 : List UInt8 := dkwX4_goOn_4 ++ dktX4_goOn_5
def dkwX4_goOn_3 : List UInt8 := [180, 0, 179, 4, 96, 181, 0, 176, 42, 180, 0, 179, 42, 180, 0, 134, 161, 0, 27, 42, 3, 181, 0, 186]
abbrev dktX4_goOn_3 : List UInt8 := dkwX4_goOn_3 ++ dktX4_goOn_4
def dkwX4_goOn_2 : List UInt8 := [180, 0, 179, 4, 96, 181, 0, 179, 167, 255, 209, 42, 42, 180, 0, 179, 182, 0, 182, 60, 42, 42]
abbrev dktX4_goOn_2 : List UInt8 := dkwX4_goOn_2 ++ dktX4_goOn_3
def dkwX4_goOn_1 : List UInt8 := [182, 0, 182, 16, 32, 159, 0, 16, 42, 42, 180, 0, 179, 182, 0, 182, 16, 10, 160, 0, 16, 42, 89]
abbrev dktX4_goOn_1 : List UInt8 := dkwX4_goOn_1 ++ dktX4_goOn_2
def dkwX4_goOn_0 : List UInt8 := [42, 42, 180, 0, 176, 181, 0, 179, 42, 180, 0, 179, 42, 180, 0, 134, 162, 0, 42, 42, 42, 180, 0, 179]
abbrev dktX4_goOn_0 : List UInt8 := dkwX4_goOn_0 ++ dktX4_goOn_1
theorem dksX4_goOn_0 : cX4_goOn.data.toList.drop 0 = dktX4_goOn_0 := by decide +kernel
theorem dksX4_goOn_1 : cX4_goOn.data.toList.drop 24 = dktX4_goOn_1 := dk_seg dksX4_goOn_0 24 rfl rfl
theorem dksX4_goOn_2 : cX4_goOn.data.toList.drop 47 = dktX4_goOn_2 := dk_seg dksX4_goOn_1 23 rfl rfl
theorem dksX4_goOn_3 : cX4_goOn.data.toList.drop 69 = dktX4_goOn_3 := dk_seg dksX4_goOn_2 22 rfl rfl
theorem dksX4_goOn_4 : cX4_goOn.data.toList.drop 93 = dktX4_goOn_4 := dk_seg dksX4_goOn_3 24 rfl rfl
theorem dksX4_goOn_5 : cX4_goOn.data.toList.drop 116 = dktX4_goOn_5 := dk_seg dksX4_goOn_4 23 rfl rfl
theorem dksX4_goOn_6 : cX4_goOn.data.toList.drop 140 = dktX4_goOn_6 := dk_seg dksX4_goOn_5 24 rfl rfl
theorem dksX4_goOn_7 : cX4_goOn.data.toList.drop 164 = dktX4_goOn_7 := dk_seg dksX4_goOn_6 24 rfl rfl
theorem dksX4_goOn_8 : cX4_goOn.data.toList.drop 188 = dktX4_goOn_8 := dk_seg dksX4_goOn_7 24 rfl rfl
theorem dksX4_goOn_9 : cX4_goOn.data.toList.drop 211 = dktX4_goOn_9 := dk_seg dksX4_goOn_8 23 rfl rfl
theorem dksX4_goOn_10 : cX4_goOn.data.toList.drop 233 = dktX4_goOn_10 := dk_seg dksX4_goOn_9 22 rfl rfl
theorem dksX4_goOn_11 : cX4_goOn.data.toList.drop 256 = dktX4_goOn_11 := dk_seg dksX4_goOn_10 23 rfl rfl
theorem dksX4_goOn_12 : cX4_goOn.data.toList.drop 278 = dktX4_goOn_12 := dk_seg dksX4_goOn_11 22 rfl rfl
theorem dksX4_goOn_13 : cX4_goOn.data.toList.drop 302 = dktX4_goOn_13 := dk_seg dksX4_goOn_12 24 rfl rfl
theorem dksX4_goOn_14 : cX4_goOn.data.toList.drop 324 = dktX4_goOn_14 := dk_seg dksX4_goOn_13 22 rfl rfl
theorem dksX4_goOn_15 : cX4_goOn.data.toList.drop 347 = dktX4_goOn_15 := dk_seg dksX4_goOn_14 23 rfl rfl
theorem dksX4_goOn_16 : cX4_goOn.data.toList.drop 370 = dktX4_goOn_16 := dk_seg dksX4_goOn_15 23 rfl rfl
theorem dX4_goOn_0 : decode cX4_goOn 0 = .ok (.aload_n 0, 1) := dk_42 (dk_at dksX4_goOn_0 0 rfl rfl)
theorem dX4_goOn_1 : decode cX4_goOn 1 = .ok (.aload_n 0, 1) := dk_42 (dk_at dksX4_goOn_0 1 rfl rfl)
theorem dX4_goOn_2 : decode cX4_goOn 2 = .ok (.getfield 176, 3) := dk_180 0 176 (dk_at dksX4_goOn_0 2 rfl rfl)
theorem dX4_goOn_5 : decode cX4_goOn 5 = .ok (.putfield 179, 3) := dk_181 0 179 (dk_at dksX4_goOn_0 5 rfl rfl)
theorem dX4_goOn_8 : decode cX4_goOn 8 = .ok (.aload_n 0, 1) := dk_42 (dk_at dksX4_goOn_0 8 rfl rfl)
theorem dX4_goOn_9 : decode cX4_goOn 9 = .ok (.getfield 179, 3) := dk_180 0 179 (dk_at dksX4_goOn_0 9 rfl rfl)
theorem dX4_goOn_12 : decode cX4_goOn 12 = .ok (.aload_n 0, 1) := dk_42 (dk_at dksX4_goOn_0 12 rfl rfl)
theorem dX4_goOn_13 : decode cX4_goOn 13 = .ok (.getfield 134, 3) := dk_180 0 134 (dk_at dksX4_goOn_0 13 rfl rfl)
theorem dX4_goOn_16 : decode cX4_goOn 16 = .ok (.if_icmp .ge 42, 3) := dk_162 0 42 (dk_at dksX4_goOn_0 16 rfl rfl)
theorem dX4_goOn_19 : decode cX4_goOn 19 = .ok (.aload_n 0, 1) := dk_42 (dk_at dksX4_goOn_0 19 rfl rfl)
theorem dX4_goOn_20 : decode cX4_goOn 20 = .ok (.aload_n 0, 1) := dk_42 (dk_at dksX4_goOn_0 20 rfl rfl)
theorem dX4_goOn_21 : decode cX4_goOn 21 = .ok (.getfield 179, 3) := dk_180 0 179 (dk_at dksX4_goOn_0 21 rfl rfl)
theorem dX4_goOn_24 : decode cX4_goOn 24 = .ok (.invokevirtual 182, 3) := dk_182 0 182 (dk_at dksX4_goOn_1 0 rfl rfl)
theorem dX4_goOn_27 : decode cX4_goOn 27 = .ok (.bipush 32, 2) := dk_16 32 (dk_at dksX4_goOn_1 3 rfl rfl)
theorem dX4_goOn_29 : decode cX4_goOn 29 = .ok (.if_icmp .eq 16, 3) := dk_159 0 16 (dk_at dksX4_goOn_1 5 rfl rfl)
theorem dX4_goOn_32 : decode cX4_goOn 32 = .ok (.aload_n 0, 1) := dk_42 (dk_at dksX4_goOn_1 8 rfl rfl)
theorem dX4_goOn_33 : decode cX4_goOn 33 = .ok (.aload_n 0, 1) := dk_42 (dk_at dksX4_goOn_1 9 rfl rfl)
theorem dX4_goOn_34 : decode cX4_goOn 34 = .ok (.getfield 179, 3) := dk_180 0 179 (dk_at dksX4_goOn_1 10 rfl rfl)
theorem dX4_goOn_37 : decode cX4_goOn 37 = .ok (.invokevirtual 182, 3) := dk_182 0 182 (dk_at dksX4_goOn_1 13 rfl rfl)
theorem dX4_goOn_40 : decode cX4_goOn 40 = .ok (.bipush 10, 2) := dk_16 10 (dk_at dksX4_goOn_1 16 rfl rfl)
theorem dX4_goOn_42 : decode cX4_goOn 42 = .ok (.if_icmp .ne 16, 3) := dk_160 0 16 (dk_at dksX4_goOn_1 18 rfl rfl)
theorem dX4_goOn_45 : decode cX4_goOn 45 = .ok (.aload_n 0, 1) := dk_42 (dk_at dksX4_goOn_1 21 rfl rfl)
theorem dX4_goOn_46 : decode cX4_goOn 46 = .ok (.dup, 1) := dk_89 (dk_at dksX4_goOn_1 22 rfl rfl)
theorem dX4_goOn_47 : decode cX4_goOn 47 = .ok (.getfield 179, 3) := dk_180 0 179 (dk_at dksX4_goOn_2 0 rfl rfl)
theorem dX4_goOn_50 : decode cX4_goOn 50 = .ok (.iconst 1, 1) := dk_4 (dk_at dksX4_goOn_2 3 rfl rfl)
theorem dX4_goOn_51 : decode cX4_goOn 51 = .ok (.iadd, 1) := dk_96 (dk_at dksX4_goOn_2 4 rfl rfl)
theorem dX4_goOn_52 : decode cX4_goOn 52 = .ok (.putfield 179, 3) := dk_181 0 179 (dk_at dksX4_goOn_2 5 rfl rfl)
theorem dX4_goOn_55 : decode cX4_goOn 55 = .ok (.goto (-47), 3) := dk_167 255 209 (dk_at dksX4_goOn_2 8 rfl rfl)
theorem dX4_goOn_58 : decode cX4_goOn 58 = .ok (.aload_n 0, 1) := dk_42 (dk_at dksX4_goOn_2 11 rfl rfl)
theorem dX4_goOn_59 : decode cX4_goOn 59 = .ok (.aload_n 0, 1) := dk_42 (dk_at dksX4_goOn_2 12 rfl rfl)
theorem dX4_goOn_60 : decode cX4_goOn 60 = .ok (.getfield 179, 3) := dk_180 0 179 (dk_at dksX4_goOn_2 13 rfl rfl)
theorem dX4_goOn_63 : decode cX4_goOn 63 = .ok (.invokevirtual 182, 3) := dk_182 0 182 (dk_at dksX4_goOn_2 16 rfl rfl)
theorem dX4_goOn_66 : decode cX4_goOn 66 = .ok (.istore_n 1, 1) := dk_60 (dk_at dksX4_goOn_2 19 rfl rfl)
theorem dX4_goOn_67 : decode cX4_goOn 67 = .ok (.aload_n 0, 1) := dk_42 (dk_at dksX4_goOn_2 20 rfl rfl)
theorem dX4_goOn_68 : decode cX4_goOn 68 = .ok (.aload_n 0, 1) := dk_42 (dk_at dksX4_goOn_2 21 rfl rfl)
theorem dX4_goOn_69 : decode cX4_goOn 69 = .ok (.getfield 179, 3) := dk_180 0 179 (dk_at dksX4_goOn_3 0 rfl rfl)
theorem dX4_goOn_72 : decode cX4_goOn 72 = .ok (.iconst 1, 1) := dk_4 (dk_at dksX4_goOn_3 3 rfl rfl)
theorem dX4_goOn_73 : decode cX4_goOn 73 = .ok (.iadd, 1) := dk_96 (dk_at dksX4_goOn_3 4 rfl rfl)
theorem dX4_goOn_74 : decode cX4_goOn 74 = .ok (.putfield 176, 3) := dk_181 0 176 (dk_at dksX4_goOn_3 5 rfl rfl)
theorem dX4_goOn_77 : decode cX4_goOn 77 = .ok (.aload_n 0, 1) := dk_42 (dk_at dksX4_goOn_3 8 rfl rfl)
theorem dX4_goOn_78 : decode cX4_goOn 78 = .ok (.getfield 179, 3) := dk_180 0 179 (dk_at dksX4_goOn_3 9 rfl rfl)
theorem dX4_goOn_81 : decode cX4_goOn 81 = .ok (.aload_n 0, 1) := dk_42 (dk_at dksX4_goOn_3 12 rfl rfl)
theorem dX4_goOn_82 : decode cX4_goOn 82 = .ok (.getfield 134, 3) := dk_180 0 134 (dk_at dksX4_goOn_3 13 rfl rfl)
theorem dX4_goOn_85 : decode cX4_goOn 85 = .ok (.if_icmp .lt 27, 3) := dk_161 0 27 (dk_at dksX4_goOn_3 16 rfl rfl)
theorem dX4_goOn_88 : decode cX4_goOn 88 = .ok (.aload_n 0, 1) := dk_42 (dk_at dksX4_goOn_3 19 rfl rfl)
theorem dX4_goOn_89 : decode cX4_goOn 89 = .ok (.iconst 0, 1) := dk_3 (dk_at dksX4_goOn_3 20 rfl rfl)
theorem dX4_goOn_90 : decode cX4_goOn 90 = .ok (.putfield 186, 3) := dk_181 0 186 (dk_at dksX4_goOn_3 21 rfl rfl)
theorem dX4_goOn_93 : decode cX4_goOn 93 = .ok (.aload_n 0, 1) := dk_42 (dk_at dksX4_goOn_4 0 rfl rfl)
theorem dX4_goOn_94 : decode cX4_goOn 94 = .ok (.aload_n 0, 1) := dk_42 (dk_at dksX4_goOn_4 1 rfl rfl)
theorem dX4_goOn_95 : decode cX4_goOn 95 = .ok (.getfield 134, 3) := dk_180 0 134 (dk_at dksX4_goOn_4 2 rfl rfl)
theorem dX4_goOn_98 : decode cX4_goOn 98 = .ok (.putfield 179, 3) := dk_181 0 179 (dk_at dksX4_goOn_4 5 rfl rfl)
theorem dX4_goOn_101 : decode cX4_goOn 101 = .ok (.aload_n 0, 1) := dk_42 (dk_at dksX4_goOn_4 8 rfl rfl)
theorem dX4_goOn_102 : decode cX4_goOn 102 = .ok (.aload_n 0, 1) := dk_42 (dk_at dksX4_goOn_4 9 rfl rfl)
theorem dX4_goOn_103 : decode cX4_goOn 103 = .ok (.getfield 134, 3) := dk_180 0 134 (dk_at dksX4_goOn_4 10 rfl rfl)
theorem dX4_goOn_106 : decode cX4_goOn 106 = .ok (.putfield 176, 3) := dk_181 0 176 (dk_at dksX4_goOn_4 13 rfl rfl)
theorem dX4_goOn_109 : decode cX4_goOn 109 = .ok (.goto 268, 3) := dk_167 1 12 (dk_at dksX4_goOn_4 16 rfl rfl)
theorem dX4_goOn_112 : decode cX4_goOn 112 = .ok (.iload_n 1, 1) := dk_27 (dk_at dksX4_goOn_4 19 rfl rfl)
theorem dX4_goOn_113 : decode cX4_goOn 113 = .ok (.invokestatic 189, 3) := dk_184 0 189 (dk_at dksX4_goOn_4 20 rfl rfl)
theorem dX4_goOn_116 : decode cX4_goOn 116 = .ok (.ifCond .eq 123, 3) := dk_153 0 123 (dk_at dksX4_goOn_5 0 rfl rfl)
theorem dX4_goOn_119 : decode cX4_goOn 119 = .ok (.aload_n 0, 1) := dk_42 (dk_at dksX4_goOn_5 3 rfl rfl)
theorem dX4_goOn_120 : decode cX4_goOn 120 = .ok (.aload_n 0, 1) := dk_42 (dk_at dksX4_goOn_5 4 rfl rfl)
theorem dX4_goOn_121 : decode cX4_goOn 121 = .ok (.getfield 176, 3) := dk_180 0 176 (dk_at dksX4_goOn_5 5 rfl rfl)
theorem dX4_goOn_124 : decode cX4_goOn 124 = .ok (.invokevirtual 182, 3) := dk_182 0 182 (dk_at dksX4_goOn_5 8 rfl rfl)
theorem dX4_goOn_127 : decode cX4_goOn 127 = .ok (.invokestatic 189, 3) := dk_184 0 189 (dk_at dksX4_goOn_5 11 rfl rfl)
theorem dX4_goOn_130 : decode cX4_goOn 130 = .ok (.ifCond .eq 16, 3) := dk_153 0 16 (dk_at dksX4_goOn_5 14 rfl rfl)
theorem dX4_goOn_133 : decode cX4_goOn 133 = .ok (.aload_n 0, 1) := dk_42 (dk_at dksX4_goOn_5 17 rfl rfl)
theorem dX4_goOn_134 : decode cX4_goOn 134 = .ok (.dup, 1) := dk_89 (dk_at dksX4_goOn_5 18 rfl rfl)
theorem dX4_goOn_135 : decode cX4_goOn 135 = .ok (.getfield 176, 3) := dk_180 0 176 (dk_at dksX4_goOn_5 19 rfl rfl)
theorem dX4_goOn_138 : decode cX4_goOn 138 = .ok (.iconst 1, 1) := dk_4 (dk_at dksX4_goOn_5 22 rfl rfl)
theorem dX4_goOn_139 : decode cX4_goOn 139 = .ok (.iadd, 1) := dk_96 (dk_at dksX4_goOn_5 23 rfl rfl)
theorem dX4_goOn_140 : decode cX4_goOn 140 = .ok (.putfield 176, 3) := dk_181 0 176 (dk_at dksX4_goOn_6 0 rfl rfl)
theorem dX4_goOn_143 : decode cX4_goOn 143 = .ok (.goto (-24), 3) := dk_167 255 232 (dk_at dksX4_goOn_6 3 rfl rfl)
theorem dX4_goOn_146 : decode cX4_goOn 146 = .ok (.aload_n 0, 1) := dk_42 (dk_at dksX4_goOn_6 6 rfl rfl)
theorem dX4_goOn_147 : decode cX4_goOn 147 = .ok (.lconst 0, 1) := dk_9 (dk_at dksX4_goOn_6 7 rfl rfl)
theorem dX4_goOn_148 : decode cX4_goOn 148 = .ok (.putfield 193, 3) := dk_181 0 193 (dk_at dksX4_goOn_6 8 rfl rfl)
theorem dX4_goOn_151 : decode cX4_goOn 151 = .ok (.aload_n 0, 1) := dk_42 (dk_at dksX4_goOn_6 11 rfl rfl)
theorem dX4_goOn_152 : decode cX4_goOn 152 = .ok (.getfield 179, 3) := dk_180 0 179 (dk_at dksX4_goOn_6 12 rfl rfl)
theorem dX4_goOn_155 : decode cX4_goOn 155 = .ok (.istore_n 2, 1) := dk_61 (dk_at dksX4_goOn_6 15 rfl rfl)
theorem dX4_goOn_156 : decode cX4_goOn 156 = .ok (.iload_n 2, 1) := dk_28 (dk_at dksX4_goOn_6 16 rfl rfl)
theorem dX4_goOn_157 : decode cX4_goOn 157 = .ok (.aload_n 0, 1) := dk_42 (dk_at dksX4_goOn_6 17 rfl rfl)
theorem dX4_goOn_158 : decode cX4_goOn 158 = .ok (.getfield 176, 3) := dk_180 0 176 (dk_at dksX4_goOn_6 18 rfl rfl)
theorem dX4_goOn_161 : decode cX4_goOn 161 = .ok (.if_icmp .ge 38, 3) := dk_162 0 38 (dk_at dksX4_goOn_6 21 rfl rfl)
theorem dX4_goOn_164 : decode cX4_goOn 164 = .ok (.iload_n 2, 1) := dk_28 (dk_at dksX4_goOn_7 0 rfl rfl)
theorem dX4_goOn_165 : decode cX4_goOn 165 = .ok (.aload_n 0, 1) := dk_42 (dk_at dksX4_goOn_7 1 rfl rfl)
theorem dX4_goOn_166 : decode cX4_goOn 166 = .ok (.getfield 179, 3) := dk_180 0 179 (dk_at dksX4_goOn_7 2 rfl rfl)
theorem dX4_goOn_169 : decode cX4_goOn 169 = .ok (.bipush 8, 2) := dk_16 8 (dk_at dksX4_goOn_7 5 rfl rfl)
theorem dX4_goOn_171 : decode cX4_goOn 171 = .ok (.iadd, 1) := dk_96 (dk_at dksX4_goOn_7 7 rfl rfl)
theorem dX4_goOn_172 : decode cX4_goOn 172 = .ok (.if_icmp .ge 27, 3) := dk_162 0 27 (dk_at dksX4_goOn_7 8 rfl rfl)
theorem dX4_goOn_175 : decode cX4_goOn 175 = .ok (.aload_n 0, 1) := dk_42 (dk_at dksX4_goOn_7 11 rfl rfl)
theorem dX4_goOn_176 : decode cX4_goOn 176 = .ok (.aload_n 0, 1) := dk_42 (dk_at dksX4_goOn_7 12 rfl rfl)
theorem dX4_goOn_177 : decode cX4_goOn 177 = .ok (.getfield 193, 3) := dk_180 0 193 (dk_at dksX4_goOn_7 13 rfl rfl)
theorem dX4_goOn_180 : decode cX4_goOn 180 = .ok (.bipush 8, 2) := dk_16 8 (dk_at dksX4_goOn_7 16 rfl rfl)
theorem dX4_goOn_182 : decode cX4_goOn 182 = .ok (.lshl, 1) := dk_121 (dk_at dksX4_goOn_7 18 rfl rfl)
theorem dX4_goOn_183 : decode cX4_goOn 183 = .ok (.aload_n 0, 1) := dk_42 (dk_at dksX4_goOn_7 19 rfl rfl)
theorem dX4_goOn_184 : decode cX4_goOn 184 = .ok (.iload_n 2, 1) := dk_28 (dk_at dksX4_goOn_7 20 rfl rfl)
theorem dX4_goOn_185 : decode cX4_goOn 185 = .ok (.invokevirtual 182, 3) := dk_182 0 182 (dk_at dksX4_goOn_7 21 rfl rfl)
theorem dX4_goOn_188 : decode cX4_goOn 188 = .ok (.i2l, 1) := dk_133 (dk_at dksX4_goOn_8 0 rfl rfl)
theorem dX4_goOn_189 : decode cX4_goOn 189 = .ok (.lor, 1) := dk_129 (dk_at dksX4_goOn_8 1 rfl rfl)
theorem dX4_goOn_190 : decode cX4_goOn 190 = .ok (.putfield 193, 3) := dk_181 0 193 (dk_at dksX4_goOn_8 2 rfl rfl)
theorem dX4_goOn_193 : decode cX4_goOn 193 = .ok (.iinc 2 1, 3) := dk_132 2 1 (dk_at dksX4_goOn_8 5 rfl rfl)
theorem dX4_goOn_196 : decode cX4_goOn 196 = .ok (.goto (-40), 3) := dk_167 255 216 (dk_at dksX4_goOn_8 8 rfl rfl)
theorem dX4_goOn_199 : decode cX4_goOn 199 = .ok (.aload_n 0, 1) := dk_42 (dk_at dksX4_goOn_8 11 rfl rfl)
theorem dX4_goOn_200 : decode cX4_goOn 200 = .ok (.aload_n 0, 1) := dk_42 (dk_at dksX4_goOn_8 12 rfl rfl)
theorem dX4_goOn_201 : decode cX4_goOn 201 = .ok (.getfield 176, 3) := dk_180 0 176 (dk_at dksX4_goOn_8 13 rfl rfl)
theorem dX4_goOn_204 : decode cX4_goOn 204 = .ok (.aload_n 0, 1) := dk_42 (dk_at dksX4_goOn_8 16 rfl rfl)
theorem dX4_goOn_205 : decode cX4_goOn 205 = .ok (.getfield 179, 3) := dk_180 0 179 (dk_at dksX4_goOn_8 17 rfl rfl)
theorem dX4_goOn_208 : decode cX4_goOn 208 = .ok (.isub, 1) := dk_100 (dk_at dksX4_goOn_8 20 rfl rfl)
theorem dX4_goOn_209 : decode cX4_goOn 209 = .ok (.bipush 8, 2) := dk_16 8 (dk_at dksX4_goOn_8 21 rfl rfl)
theorem dX4_goOn_211 : decode cX4_goOn 211 = .ok (.if_icmp .le 7, 3) := dk_164 0 7 (dk_at dksX4_goOn_9 0 rfl rfl)
theorem dX4_goOn_214 : decode cX4_goOn 214 = .ok (.iconst 1, 1) := dk_4 (dk_at dksX4_goOn_9 3 rfl rfl)
theorem dX4_goOn_215 : decode cX4_goOn 215 = .ok (.goto 18, 3) := dk_167 0 18 (dk_at dksX4_goOn_9 4 rfl rfl)
theorem dX4_goOn_218 : decode cX4_goOn 218 = .ok (.aload_n 0, 1) := dk_42 (dk_at dksX4_goOn_9 7 rfl rfl)
theorem dX4_goOn_219 : decode cX4_goOn 219 = .ok (.getfield 193, 3) := dk_180 0 193 (dk_at dksX4_goOn_9 8 rfl rfl)
theorem dX4_goOn_222 : decode cX4_goOn 222 = .ok (.invokestatic 197, 3) := dk_184 0 197 (dk_at dksX4_goOn_9 11 rfl rfl)
theorem dX4_goOn_225 : decode cX4_goOn 225 = .ok (.ifCond .eq 7, 3) := dk_153 0 7 (dk_at dksX4_goOn_9 14 rfl rfl)
theorem dX4_goOn_228 : decode cX4_goOn 228 = .ok (.iconst 3, 1) := dk_6 (dk_at dksX4_goOn_9 17 rfl rfl)
theorem dX4_goOn_229 : decode cX4_goOn 229 = .ok (.goto 4, 3) := dk_167 0 4 (dk_at dksX4_goOn_9 18 rfl rfl)
theorem dX4_goOn_232 : decode cX4_goOn 232 = .ok (.iconst 2, 1) := dk_5 (dk_at dksX4_goOn_9 21 rfl rfl)
theorem dX4_goOn_233 : decode cX4_goOn 233 = .ok (.putfield 186, 3) := dk_181 0 186 (dk_at dksX4_goOn_10 0 rfl rfl)
theorem dX4_goOn_236 : decode cX4_goOn 236 = .ok (.goto 141, 3) := dk_167 0 141 (dk_at dksX4_goOn_10 3 rfl rfl)
theorem dX4_goOn_239 : decode cX4_goOn 239 = .ok (.iload_n 1, 1) := dk_27 (dk_at dksX4_goOn_10 6 rfl rfl)
theorem dX4_goOn_240 : decode cX4_goOn 240 = .ok (.invokestatic 201, 3) := dk_184 0 201 (dk_at dksX4_goOn_10 7 rfl rfl)
theorem dX4_goOn_243 : decode cX4_goOn 243 = .ok (.ifCond .eq 118, 3) := dk_153 0 118 (dk_at dksX4_goOn_10 10 rfl rfl)
theorem dX4_goOn_246 : decode cX4_goOn 246 = .ok (.aload_n 0, 1) := dk_42 (dk_at dksX4_goOn_10 13 rfl rfl)
theorem dX4_goOn_247 : decode cX4_goOn 247 = .ok (.iconst 0, 1) := dk_3 (dk_at dksX4_goOn_10 14 rfl rfl)
theorem dX4_goOn_248 : decode cX4_goOn 248 = .ok (.putfield 204, 3) := dk_181 0 204 (dk_at dksX4_goOn_10 15 rfl rfl)
theorem dX4_goOn_251 : decode cX4_goOn 251 = .ok (.aload_n 0, 1) := dk_42 (dk_at dksX4_goOn_10 18 rfl rfl)
theorem dX4_goOn_252 : decode cX4_goOn 252 = .ok (.aload_n 0, 1) := dk_42 (dk_at dksX4_goOn_10 19 rfl rfl)
theorem dX4_goOn_253 : decode cX4_goOn 253 = .ok (.getfield 179, 3) := dk_180 0 179 (dk_at dksX4_goOn_10 20 rfl rfl)
theorem dX4_goOn_256 : decode cX4_goOn 256 = .ok (.putfield 176, 3) := dk_181 0 176 (dk_at dksX4_goOn_11 0 rfl rfl)
theorem dX4_goOn_259 : decode cX4_goOn 259 = .ok (.aload_n 0, 1) := dk_42 (dk_at dksX4_goOn_11 3 rfl rfl)
theorem dX4_goOn_260 : decode cX4_goOn 260 = .ok (.aload_n 0, 1) := dk_42 (dk_at dksX4_goOn_11 4 rfl rfl)
theorem dX4_goOn_261 : decode cX4_goOn 261 = .ok (.getfield 176, 3) := dk_180 0 176 (dk_at dksX4_goOn_11 5 rfl rfl)
theorem dX4_goOn_264 : decode cX4_goOn 264 = .ok (.invokevirtual 182, 3) := dk_182 0 182 (dk_at dksX4_goOn_11 8 rfl rfl)
theorem dX4_goOn_267 : decode cX4_goOn 267 = .ok (.invokestatic 201, 3) := dk_184 0 201 (dk_at dksX4_goOn_11 11 rfl rfl)
theorem dX4_goOn_270 : decode cX4_goOn 270 = .ok (.ifCond .eq 52, 3) := dk_153 0 52 (dk_at dksX4_goOn_11 14 rfl rfl)
theorem dX4_goOn_273 : decode cX4_goOn 273 = .ok (.aload_n 0, 1) := dk_42 (dk_at dksX4_goOn_11 17 rfl rfl)
theorem dX4_goOn_274 : decode cX4_goOn 274 = .ok (.getfield 176, 3) := dk_180 0 176 (dk_at dksX4_goOn_11 18 rfl rfl)
theorem dX4_goOn_277 : decode cX4_goOn 277 = .ok (.aload_n 0, 1) := dk_42 (dk_at dksX4_goOn_11 21 rfl rfl)
theorem dX4_goOn_278 : decode cX4_goOn 278 = .ok (.getfield 179, 3) := dk_180 0 179 (dk_at dksX4_goOn_12 0 rfl rfl)
theorem dX4_goOn_281 : decode cX4_goOn 281 = .ok (.isub, 1) := dk_100 (dk_at dksX4_goOn_12 3 rfl rfl)
theorem dX4_goOn_282 : decode cX4_goOn 282 = .ok (.iconst 4, 1) := dk_7 (dk_at dksX4_goOn_12 4 rfl rfl)
theorem dX4_goOn_283 : decode cX4_goOn 283 = .ok (.if_icmp .ge 26, 3) := dk_162 0 26 (dk_at dksX4_goOn_12 5 rfl rfl)
theorem dX4_goOn_286 : decode cX4_goOn 286 = .ok (.aload_n 0, 1) := dk_42 (dk_at dksX4_goOn_12 8 rfl rfl)
theorem dX4_goOn_287 : decode cX4_goOn 287 = .ok (.bipush 10, 2) := dk_16 10 (dk_at dksX4_goOn_12 9 rfl rfl)
theorem dX4_goOn_289 : decode cX4_goOn 289 = .ok (.aload_n 0, 1) := dk_42 (dk_at dksX4_goOn_12 11 rfl rfl)
theorem dX4_goOn_290 : decode cX4_goOn 290 = .ok (.getfield 204, 3) := dk_180 0 204 (dk_at dksX4_goOn_12 12 rfl rfl)
theorem dX4_goOn_293 : decode cX4_goOn 293 = .ok (.imul, 1) := dk_104 (dk_at dksX4_goOn_12 15 rfl rfl)
theorem dX4_goOn_294 : decode cX4_goOn 294 = .ok (.aload_n 0, 1) := dk_42 (dk_at dksX4_goOn_12 16 rfl rfl)
theorem dX4_goOn_295 : decode cX4_goOn 295 = .ok (.aload_n 0, 1) := dk_42 (dk_at dksX4_goOn_12 17 rfl rfl)
theorem dX4_goOn_296 : decode cX4_goOn 296 = .ok (.getfield 176, 3) := dk_180 0 176 (dk_at dksX4_goOn_12 18 rfl rfl)
theorem dX4_goOn_299 : decode cX4_goOn 299 = .ok (.invokevirtual 182, 3) := dk_182 0 182 (dk_at dksX4_goOn_12 21 rfl rfl)
theorem dX4_goOn_302 : decode cX4_goOn 302 = .ok (.iadd, 1) := dk_96 (dk_at dksX4_goOn_13 0 rfl rfl)
theorem dX4_goOn_303 : decode cX4_goOn 303 = .ok (.bipush 48, 2) := dk_16 48 (dk_at dksX4_goOn_13 1 rfl rfl)
theorem dX4_goOn_305 : decode cX4_goOn 305 = .ok (.isub, 1) := dk_100 (dk_at dksX4_goOn_13 3 rfl rfl)
theorem dX4_goOn_306 : decode cX4_goOn 306 = .ok (.putfield 204, 3) := dk_181 0 204 (dk_at dksX4_goOn_13 4 rfl rfl)
theorem dX4_goOn_309 : decode cX4_goOn 309 = .ok (.aload_n 0, 1) := dk_42 (dk_at dksX4_goOn_13 7 rfl rfl)
theorem dX4_goOn_310 : decode cX4_goOn 310 = .ok (.dup, 1) := dk_89 (dk_at dksX4_goOn_13 8 rfl rfl)
theorem dX4_goOn_311 : decode cX4_goOn 311 = .ok (.getfield 176, 3) := dk_180 0 176 (dk_at dksX4_goOn_13 9 rfl rfl)
theorem dX4_goOn_314 : decode cX4_goOn 314 = .ok (.iconst 1, 1) := dk_4 (dk_at dksX4_goOn_13 12 rfl rfl)
theorem dX4_goOn_315 : decode cX4_goOn 315 = .ok (.iadd, 1) := dk_96 (dk_at dksX4_goOn_13 13 rfl rfl)
theorem dX4_goOn_316 : decode cX4_goOn 316 = .ok (.putfield 176, 3) := dk_181 0 176 (dk_at dksX4_goOn_13 14 rfl rfl)
theorem dX4_goOn_319 : decode cX4_goOn 319 = .ok (.goto (-60), 3) := dk_167 255 196 (dk_at dksX4_goOn_13 17 rfl rfl)
theorem dX4_goOn_322 : decode cX4_goOn 322 = .ok (.aload_n 0, 1) := dk_42 (dk_at dksX4_goOn_13 20 rfl rfl)
theorem dX4_goOn_323 : decode cX4_goOn 323 = .ok (.aload_n 0, 1) := dk_42 (dk_at dksX4_goOn_13 21 rfl rfl)
theorem dX4_goOn_324 : decode cX4_goOn 324 = .ok (.getfield 176, 3) := dk_180 0 176 (dk_at dksX4_goOn_14 0 rfl rfl)
theorem dX4_goOn_327 : decode cX4_goOn 327 = .ok (.aload_n 0, 1) := dk_42 (dk_at dksX4_goOn_14 3 rfl rfl)
theorem dX4_goOn_328 : decode cX4_goOn 328 = .ok (.getfield 179, 3) := dk_180 0 179 (dk_at dksX4_goOn_14 4 rfl rfl)
theorem dX4_goOn_331 : decode cX4_goOn 331 = .ok (.isub, 1) := dk_100 (dk_at dksX4_goOn_14 7 rfl rfl)
theorem dX4_goOn_332 : decode cX4_goOn 332 = .ok (.iconst 4, 1) := dk_7 (dk_at dksX4_goOn_14 8 rfl rfl)
theorem dX4_goOn_333 : decode cX4_goOn 333 = .ok (.if_icmp .gt 17, 3) := dk_163 0 17 (dk_at dksX4_goOn_14 9 rfl rfl)
theorem dX4_goOn_336 : decode cX4_goOn 336 = .ok (.aload_n 0, 1) := dk_42 (dk_at dksX4_goOn_14 12 rfl rfl)
theorem dX4_goOn_337 : decode cX4_goOn 337 = .ok (.aload_n 0, 1) := dk_42 (dk_at dksX4_goOn_14 13 rfl rfl)
theorem dX4_goOn_338 : decode cX4_goOn 338 = .ok (.getfield 176, 3) := dk_180 0 176 (dk_at dksX4_goOn_14 14 rfl rfl)
theorem dX4_goOn_341 : decode cX4_goOn 341 = .ok (.invokevirtual 182, 3) := dk_182 0 182 (dk_at dksX4_goOn_14 17 rfl rfl)
theorem dX4_goOn_344 : decode cX4_goOn 344 = .ok (.invokestatic 189, 3) := dk_184 0 189 (dk_at dksX4_goOn_14 20 rfl rfl)
theorem dX4_goOn_347 : decode cX4_goOn 347 = .ok (.ifCond .eq 7, 3) := dk_153 0 7 (dk_at dksX4_goOn_15 0 rfl rfl)
theorem dX4_goOn_350 : decode cX4_goOn 350 = .ok (.iconst 1, 1) := dk_4 (dk_at dksX4_goOn_15 3 rfl rfl)
theorem dX4_goOn_351 : decode cX4_goOn 351 = .ok (.goto 4, 3) := dk_167 0 4 (dk_at dksX4_goOn_15 4 rfl rfl)
theorem dX4_goOn_354 : decode cX4_goOn 354 = .ok (.iconst 4, 1) := dk_7 (dk_at dksX4_goOn_15 7 rfl rfl)
theorem dX4_goOn_355 : decode cX4_goOn 355 = .ok (.putfield 186, 3) := dk_181 0 186 (dk_at dksX4_goOn_15 8 rfl rfl)
theorem dX4_goOn_358 : decode cX4_goOn 358 = .ok (.goto 19, 3) := dk_167 0 19 (dk_at dksX4_goOn_15 11 rfl rfl)
theorem dX4_goOn_361 : decode cX4_goOn 361 = .ok (.aload_n 0, 1) := dk_42 (dk_at dksX4_goOn_15 14 rfl rfl)
theorem dX4_goOn_362 : decode cX4_goOn 362 = .ok (.iload_n 1, 1) := dk_27 (dk_at dksX4_goOn_15 15 rfl rfl)
theorem dX4_goOn_363 : decode cX4_goOn 363 = .ok (.invokestatic 207, 3) := dk_184 0 207 (dk_at dksX4_goOn_15 16 rfl rfl)
theorem dX4_goOn_366 : decode cX4_goOn 366 = .ok (.ifCond .eq 7, 3) := dk_153 0 7 (dk_at dksX4_goOn_15 19 rfl rfl)
theorem dX4_goOn_369 : decode cX4_goOn 369 = .ok (.iconst 5, 1) := dk_8 (dk_at dksX4_goOn_15 22 rfl rfl)
theorem dX4_goOn_370 : decode cX4_goOn 370 = .ok (.goto 4, 3) := dk_167 0 4 (dk_at dksX4_goOn_16 0 rfl rfl)
theorem dX4_goOn_373 : decode cX4_goOn 373 = .ok (.iconst 1, 1) := dk_4 (dk_at dksX4_goOn_16 3 rfl rfl)
theorem dX4_goOn_374 : decode cX4_goOn 374 = .ok (.putfield 186, 3) := dk_181 0 186 (dk_at dksX4_goOn_16 4 rfl rfl)
theorem dX4_goOn_377 : decode cX4_goOn 377 = .ok (.return_, 1) := dk_177 (dk_at dksX4_goOn_16 7 rfl rfl)
abbrev cX4_sign : ByteArray := prog_22_method_2_code
def yX4_sign : MethodName := ⟨RX4, "sign", "(I)I"⟩
def dkwX4_sign_0 : List UInt8 := [27, 42, 180, 0, 134, 162, 0, 16, 42, 180, 0, 13, 27, 51, 17, 0, 255, 126, 167, 0, 4, 3, 172]
abbrev dktX4_sign_0 : List UInt8 := dkwX4_sign_0 ++ []
theorem dksX4_sign_0 : cX4_sign.data.toList.drop 0 = dktX4_sign_0 := by decide +kernel
theorem dX4_sign_0 : decode cX4_sign 0 = .ok (.iload_n 1, 1) := dk_27 (dk_at dksX4_sign_0 0 rfl rfl)
theorem dX4_sign_1 : decode cX4_sign 1 = .ok (.aload_n 0, 1) := dk_42 (dk_at dksX4_sign_0 1 rfl rfl)
theorem dX4_sign_2 : decode cX4_sign 2 = .ok (.getfield 134, 3) := dk_180 0 134 (dk_at dksX4_sign_0 2 rfl rfl)
theorem dX4_sign_5 : decode cX4_sign 5 = .ok (.if_icmp .ge 16, 3) := dk_162 0 16 (dk_at dksX4_sign_0 5 rfl rfl)
theorem dX4_sign_8 : decode cX4_sign 8 = .ok (.aload_n 0, 1) := dk_42 (dk_at dksX4_sign_0 8 rfl rfl)
theorem dX4_sign_9 : decode cX4_sign 9 = .ok (.getfield 13, 3) := dk_180 0 13 (dk_at dksX4_sign_0 9 rfl rfl)
theorem dX4_sign_12 : decode cX4_sign 12 = .ok (.iload_n 1, 1) := dk_27 (dk_at dksX4_sign_0 12 rfl rfl)
theorem dX4_sign_13 : decode cX4_sign 13 = .ok (.baload, 1) := dk_51 (dk_at dksX4_sign_0 13 rfl rfl)
theorem dX4_sign_14 : decode cX4_sign 14 = .ok (.sipush 255, 3) := dk_17 0 255 (dk_at dksX4_sign_0 14 rfl rfl)
theorem dX4_sign_17 : decode cX4_sign 17 = .ok (.iand, 1) := dk_126 (dk_at dksX4_sign_0 17 rfl rfl)
theorem dX4_sign_18 : decode cX4_sign 18 = .ok (.goto 4, 3) := dk_167 0 4 (dk_at dksX4_sign_0 18 rfl rfl)
theorem dX4_sign_21 : decode cX4_sign 21 = .ok (.iconst 0, 1) := dk_3 (dk_at dksX4_sign_0 21 rfl rfl)
theorem dX4_sign_22 : decode cX4_sign 22 = .ok (.ireturn, 1) := dk_172 (dk_at dksX4_sign_0 22 rfl rfl)
abbrev cX4_isLetter : ByteArray := prog_22_method_3_code
def yX4_isLetter : MethodName := ⟨RX4, "isLetter", "(I)Z"⟩
def dkwX4_isLetter_0 : List UInt8 := [26, 16, 97, 161, 0, 13, 26, 16, 122, 163, 0, 7, 4, 167, 0, 4, 3, 172]
abbrev dktX4_isLetter_0 : List UInt8 := dkwX4_isLetter_0 ++ []
theorem dksX4_isLetter_0 : cX4_isLetter.data.toList.drop 0 = dktX4_isLetter_0 := by decide +kernel
theorem dX4_isLetter_0 : decode cX4_isLetter 0 = .ok (.iload_n 0, 1) := dk_26 (dk_at dksX4_isLetter_0 0 rfl rfl)
theorem dX4_isLetter_1 : decode cX4_isLetter 1 = .ok (.bipush 97, 2) := dk_16 97 (dk_at dksX4_isLetter_0 1 rfl rfl)
theorem dX4_isLetter_3 : decode cX4_isLetter 3 = .ok (.if_icmp .lt 13, 3) := dk_161 0 13 (dk_at dksX4_isLetter_0 3 rfl rfl)
theorem dX4_isLetter_6 : decode cX4_isLetter 6 = .ok (.iload_n 0, 1) := dk_26 (dk_at dksX4_isLetter_0 6 rfl rfl)
theorem dX4_isLetter_7 : decode cX4_isLetter 7 = .ok (.bipush 122, 2) := dk_16 122 (dk_at dksX4_isLetter_0 7 rfl rfl)
theorem dX4_isLetter_9 : decode cX4_isLetter 9 = .ok (.if_icmp .gt 7, 3) := dk_163 0 7 (dk_at dksX4_isLetter_0 9 rfl rfl)
theorem dX4_isLetter_12 : decode cX4_isLetter 12 = .ok (.iconst 1, 1) := dk_4 (dk_at dksX4_isLetter_0 12 rfl rfl)
theorem dX4_isLetter_13 : decode cX4_isLetter 13 = .ok (.goto 4, 3) := dk_167 0 4 (dk_at dksX4_isLetter_0 13 rfl rfl)
theorem dX4_isLetter_16 : decode cX4_isLetter 16 = .ok (.iconst 0, 1) := dk_3 (dk_at dksX4_isLetter_0 16 rfl rfl)
theorem dX4_isLetter_17 : decode cX4_isLetter 17 = .ok (.ireturn, 1) := dk_172 (dk_at dksX4_isLetter_0 17 rfl rfl)
abbrev cX4_isKept : ByteArray := prog_22_method_7_code
def yX4_isKept : MethodName := ⟨RX4, "isKept", "(J)Z"⟩
def dkwX4_isKept_6 : List UInt8 := [153, 0, 11, 30, 20, 0, 174, 148, 154, 0, 7, 4, 167, 0, 4, 3, 172]
abbrev dktX4_isKept_6 : List UInt8 := dkwX4_isKept_6 ++ []
def dkwX4_isKept_5 : List UInt8 := [153, 0, 35, 30, 20, 0, 168, 148, 153, 0, 27, 30, 20, 0, 170, 148, 153, 0, 19, 30, 20, 0, 172, 148]
abbrev dktX4_isKept_5 : List UInt8 := dkwX4_isKept_5 ++ dktX4_isKept_6
def dkwX4_isKept_4 : List UInt8 := [153, 0, 59, 30, 20, 0, 162, 148, 153, 0, 51, 30, 20, 0, 164, 148, 153, 0, 43, 30, 20, 0, 166, 148]
abbrev dktX4_isKept_4 : List UInt8 := dkwX4_isKept_4 ++ dktX4_isKept_5
def dkwX4_isKept_3 : List UInt8 := [4, 167, 0, 4, 3, 61, 28, 154, 0, 75, 30, 20, 0, 158, 148, 153, 0, 67, 30, 20, 0, 160, 148]
abbrev dktX4_isKept_3 : List UInt8 := dkwX4_isKept_3 ++ dktX4_isKept_4
def dkwX4_isKept_2 : List UInt8 := [30, 20, 0, 152, 148, 153, 0, 19, 30, 20, 0, 154, 148, 153, 0, 11, 30, 20, 0, 156, 148, 154, 0, 7]
abbrev dktX4_isKept_2 : List UInt8 := dkwX4_isKept_2 ++ dktX4_isKept_3
def dkwX4_isKept_1 : List UInt8 := [30, 20, 0, 146, 148, 153, 0, 43, 30, 20, 0, 148, 148, 153, 0, 35, 30, 20, 0, 150, 148, 153, 0, 27]
abbrev dktX4_isKept_1 : List UInt8 := dkwX4_isKept_1 ++ dktX4_isKept_2
def dkwX4_isKept_0 : List UInt8 := [30, 20, 0, 140, 148, 153, 0, 67, 30, 20, 0, 142, 148, 153, 0, 59, 30, 20, 0, 144, 148, 153, 0, 51]
abbrev dktX4_isKept_0 : List UInt8 := dkwX4_isKept_0 ++ dktX4_isKept_1
theorem dksX4_isKept_0 : cX4_isKept.data.toList.drop 0 = dktX4_isKept_0 := by decide +kernel
theorem dksX4_isKept_1 : cX4_isKept.data.toList.drop 24 = dktX4_isKept_1 := dk_seg dksX4_isKept_0 24 rfl rfl
theorem dksX4_isKept_2 : cX4_isKept.data.toList.drop 48 = dktX4_isKept_2 := dk_seg dksX4_isKept_1 24 rfl rfl
theorem dksX4_isKept_3 : cX4_isKept.data.toList.drop 72 = dktX4_isKept_3 := dk_seg dksX4_isKept_2 24 rfl rfl
theorem dksX4_isKept_4 : cX4_isKept.data.toList.drop 95 = dktX4_isKept_4 := dk_seg dksX4_isKept_3 23 rfl rfl
theorem dksX4_isKept_5 : cX4_isKept.data.toList.drop 119 = dktX4_isKept_5 := dk_seg dksX4_isKept_4 24 rfl rfl
theorem dksX4_isKept_6 : cX4_isKept.data.toList.drop 143 = dktX4_isKept_6 := dk_seg dksX4_isKept_5 24 rfl rfl
theorem dX4_isKept_0 : decode cX4_isKept 0 = .ok (.lload_n 0, 1) := dk_30 (dk_at dksX4_isKept_0 0 rfl rfl)
theorem dX4_isKept_1 : decode cX4_isKept 1 = .ok (.ldc2_w 140, 3) := dk_20 0 140 (dk_at dksX4_isKept_0 1 rfl rfl)
theorem dX4_isKept_4 : decode cX4_isKept 4 = .ok (.lcmp, 1) := dk_148 (dk_at dksX4_isKept_0 4 rfl rfl)
theorem dX4_isKept_5 : decode cX4_isKept 5 = .ok (.ifCond .eq 67, 3) := dk_153 0 67 (dk_at dksX4_isKept_0 5 rfl rfl)
theorem dX4_isKept_8 : decode cX4_isKept 8 = .ok (.lload_n 0, 1) := dk_30 (dk_at dksX4_isKept_0 8 rfl rfl)
theorem dX4_isKept_9 : decode cX4_isKept 9 = .ok (.ldc2_w 142, 3) := dk_20 0 142 (dk_at dksX4_isKept_0 9 rfl rfl)
theorem dX4_isKept_12 : decode cX4_isKept 12 = .ok (.lcmp, 1) := dk_148 (dk_at dksX4_isKept_0 12 rfl rfl)
theorem dX4_isKept_13 : decode cX4_isKept 13 = .ok (.ifCond .eq 59, 3) := dk_153 0 59 (dk_at dksX4_isKept_0 13 rfl rfl)
theorem dX4_isKept_16 : decode cX4_isKept 16 = .ok (.lload_n 0, 1) := dk_30 (dk_at dksX4_isKept_0 16 rfl rfl)
theorem dX4_isKept_17 : decode cX4_isKept 17 = .ok (.ldc2_w 144, 3) := dk_20 0 144 (dk_at dksX4_isKept_0 17 rfl rfl)
theorem dX4_isKept_20 : decode cX4_isKept 20 = .ok (.lcmp, 1) := dk_148 (dk_at dksX4_isKept_0 20 rfl rfl)
theorem dX4_isKept_21 : decode cX4_isKept 21 = .ok (.ifCond .eq 51, 3) := dk_153 0 51 (dk_at dksX4_isKept_0 21 rfl rfl)
theorem dX4_isKept_24 : decode cX4_isKept 24 = .ok (.lload_n 0, 1) := dk_30 (dk_at dksX4_isKept_1 0 rfl rfl)
theorem dX4_isKept_25 : decode cX4_isKept 25 = .ok (.ldc2_w 146, 3) := dk_20 0 146 (dk_at dksX4_isKept_1 1 rfl rfl)
theorem dX4_isKept_28 : decode cX4_isKept 28 = .ok (.lcmp, 1) := dk_148 (dk_at dksX4_isKept_1 4 rfl rfl)
theorem dX4_isKept_29 : decode cX4_isKept 29 = .ok (.ifCond .eq 43, 3) := dk_153 0 43 (dk_at dksX4_isKept_1 5 rfl rfl)
theorem dX4_isKept_32 : decode cX4_isKept 32 = .ok (.lload_n 0, 1) := dk_30 (dk_at dksX4_isKept_1 8 rfl rfl)
theorem dX4_isKept_33 : decode cX4_isKept 33 = .ok (.ldc2_w 148, 3) := dk_20 0 148 (dk_at dksX4_isKept_1 9 rfl rfl)
theorem dX4_isKept_36 : decode cX4_isKept 36 = .ok (.lcmp, 1) := dk_148 (dk_at dksX4_isKept_1 12 rfl rfl)
theorem dX4_isKept_37 : decode cX4_isKept 37 = .ok (.ifCond .eq 35, 3) := dk_153 0 35 (dk_at dksX4_isKept_1 13 rfl rfl)
theorem dX4_isKept_40 : decode cX4_isKept 40 = .ok (.lload_n 0, 1) := dk_30 (dk_at dksX4_isKept_1 16 rfl rfl)
theorem dX4_isKept_41 : decode cX4_isKept 41 = .ok (.ldc2_w 150, 3) := dk_20 0 150 (dk_at dksX4_isKept_1 17 rfl rfl)
theorem dX4_isKept_44 : decode cX4_isKept 44 = .ok (.lcmp, 1) := dk_148 (dk_at dksX4_isKept_1 20 rfl rfl)
theorem dX4_isKept_45 : decode cX4_isKept 45 = .ok (.ifCond .eq 27, 3) := dk_153 0 27 (dk_at dksX4_isKept_1 21 rfl rfl)
theorem dX4_isKept_48 : decode cX4_isKept 48 = .ok (.lload_n 0, 1) := dk_30 (dk_at dksX4_isKept_2 0 rfl rfl)
theorem dX4_isKept_49 : decode cX4_isKept 49 = .ok (.ldc2_w 152, 3) := dk_20 0 152 (dk_at dksX4_isKept_2 1 rfl rfl)
theorem dX4_isKept_52 : decode cX4_isKept 52 = .ok (.lcmp, 1) := dk_148 (dk_at dksX4_isKept_2 4 rfl rfl)
theorem dX4_isKept_53 : decode cX4_isKept 53 = .ok (.ifCond .eq 19, 3) := dk_153 0 19 (dk_at dksX4_isKept_2 5 rfl rfl)
theorem dX4_isKept_56 : decode cX4_isKept 56 = .ok (.lload_n 0, 1) := dk_30 (dk_at dksX4_isKept_2 8 rfl rfl)
theorem dX4_isKept_57 : decode cX4_isKept 57 = .ok (.ldc2_w 154, 3) := dk_20 0 154 (dk_at dksX4_isKept_2 9 rfl rfl)
theorem dX4_isKept_60 : decode cX4_isKept 60 = .ok (.lcmp, 1) := dk_148 (dk_at dksX4_isKept_2 12 rfl rfl)
theorem dX4_isKept_61 : decode cX4_isKept 61 = .ok (.ifCond .eq 11, 3) := dk_153 0 11 (dk_at dksX4_isKept_2 13 rfl rfl)
theorem dX4_isKept_64 : decode cX4_isKept 64 = .ok (.lload_n 0, 1) := dk_30 (dk_at dksX4_isKept_2 16 rfl rfl)
theorem dX4_isKept_65 : decode cX4_isKept 65 = .ok (.ldc2_w 156, 3) := dk_20 0 156 (dk_at dksX4_isKept_2 17 rfl rfl)
theorem dX4_isKept_68 : decode cX4_isKept 68 = .ok (.lcmp, 1) := dk_148 (dk_at dksX4_isKept_2 20 rfl rfl)
theorem dX4_isKept_69 : decode cX4_isKept 69 = .ok (.ifCond .ne 7, 3) := dk_154 0 7 (dk_at dksX4_isKept_2 21 rfl rfl)
theorem dX4_isKept_72 : decode cX4_isKept 72 = .ok (.iconst 1, 1) := dk_4 (dk_at dksX4_isKept_3 0 rfl rfl)
theorem dX4_isKept_73 : decode cX4_isKept 73 = .ok (.goto 4, 3) := dk_167 0 4 (dk_at dksX4_isKept_3 1 rfl rfl)
theorem dX4_isKept_76 : decode cX4_isKept 76 = .ok (.iconst 0, 1) := dk_3 (dk_at dksX4_isKept_3 4 rfl rfl)
theorem dX4_isKept_77 : decode cX4_isKept 77 = .ok (.istore_n 2, 1) := dk_61 (dk_at dksX4_isKept_3 5 rfl rfl)
theorem dX4_isKept_78 : decode cX4_isKept 78 = .ok (.iload_n 2, 1) := dk_28 (dk_at dksX4_isKept_3 6 rfl rfl)
theorem dX4_isKept_79 : decode cX4_isKept 79 = .ok (.ifCond .ne 75, 3) := dk_154 0 75 (dk_at dksX4_isKept_3 7 rfl rfl)
theorem dX4_isKept_82 : decode cX4_isKept 82 = .ok (.lload_n 0, 1) := dk_30 (dk_at dksX4_isKept_3 10 rfl rfl)
theorem dX4_isKept_83 : decode cX4_isKept 83 = .ok (.ldc2_w 158, 3) := dk_20 0 158 (dk_at dksX4_isKept_3 11 rfl rfl)
theorem dX4_isKept_86 : decode cX4_isKept 86 = .ok (.lcmp, 1) := dk_148 (dk_at dksX4_isKept_3 14 rfl rfl)
theorem dX4_isKept_87 : decode cX4_isKept 87 = .ok (.ifCond .eq 67, 3) := dk_153 0 67 (dk_at dksX4_isKept_3 15 rfl rfl)
theorem dX4_isKept_90 : decode cX4_isKept 90 = .ok (.lload_n 0, 1) := dk_30 (dk_at dksX4_isKept_3 18 rfl rfl)
theorem dX4_isKept_91 : decode cX4_isKept 91 = .ok (.ldc2_w 160, 3) := dk_20 0 160 (dk_at dksX4_isKept_3 19 rfl rfl)
theorem dX4_isKept_94 : decode cX4_isKept 94 = .ok (.lcmp, 1) := dk_148 (dk_at dksX4_isKept_3 22 rfl rfl)
theorem dX4_isKept_95 : decode cX4_isKept 95 = .ok (.ifCond .eq 59, 3) := dk_153 0 59 (dk_at dksX4_isKept_4 0 rfl rfl)
theorem dX4_isKept_98 : decode cX4_isKept 98 = .ok (.lload_n 0, 1) := dk_30 (dk_at dksX4_isKept_4 3 rfl rfl)
theorem dX4_isKept_99 : decode cX4_isKept 99 = .ok (.ldc2_w 162, 3) := dk_20 0 162 (dk_at dksX4_isKept_4 4 rfl rfl)
theorem dX4_isKept_102 : decode cX4_isKept 102 = .ok (.lcmp, 1) := dk_148 (dk_at dksX4_isKept_4 7 rfl rfl)
theorem dX4_isKept_103 : decode cX4_isKept 103 = .ok (.ifCond .eq 51, 3) := dk_153 0 51 (dk_at dksX4_isKept_4 8 rfl rfl)
theorem dX4_isKept_106 : decode cX4_isKept 106 = .ok (.lload_n 0, 1) := dk_30 (dk_at dksX4_isKept_4 11 rfl rfl)
theorem dX4_isKept_107 : decode cX4_isKept 107 = .ok (.ldc2_w 164, 3) := dk_20 0 164 (dk_at dksX4_isKept_4 12 rfl rfl)
theorem dX4_isKept_110 : decode cX4_isKept 110 = .ok (.lcmp, 1) := dk_148 (dk_at dksX4_isKept_4 15 rfl rfl)
theorem dX4_isKept_111 : decode cX4_isKept 111 = .ok (.ifCond .eq 43, 3) := dk_153 0 43 (dk_at dksX4_isKept_4 16 rfl rfl)
theorem dX4_isKept_114 : decode cX4_isKept 114 = .ok (.lload_n 0, 1) := dk_30 (dk_at dksX4_isKept_4 19 rfl rfl)
theorem dX4_isKept_115 : decode cX4_isKept 115 = .ok (.ldc2_w 166, 3) := dk_20 0 166 (dk_at dksX4_isKept_4 20 rfl rfl)
theorem dX4_isKept_118 : decode cX4_isKept 118 = .ok (.lcmp, 1) := dk_148 (dk_at dksX4_isKept_4 23 rfl rfl)
theorem dX4_isKept_119 : decode cX4_isKept 119 = .ok (.ifCond .eq 35, 3) := dk_153 0 35 (dk_at dksX4_isKept_5 0 rfl rfl)
theorem dX4_isKept_122 : decode cX4_isKept 122 = .ok (.lload_n 0, 1) := dk_30 (dk_at dksX4_isKept_5 3 rfl rfl)
theorem dX4_isKept_123 : decode cX4_isKept 123 = .ok (.ldc2_w 168, 3) := dk_20 0 168 (dk_at dksX4_isKept_5 4 rfl rfl)
theorem dX4_isKept_126 : decode cX4_isKept 126 = .ok (.lcmp, 1) := dk_148 (dk_at dksX4_isKept_5 7 rfl rfl)
theorem dX4_isKept_127 : decode cX4_isKept 127 = .ok (.ifCond .eq 27, 3) := dk_153 0 27 (dk_at dksX4_isKept_5 8 rfl rfl)
theorem dX4_isKept_130 : decode cX4_isKept 130 = .ok (.lload_n 0, 1) := dk_30 (dk_at dksX4_isKept_5 11 rfl rfl)
theorem dX4_isKept_131 : decode cX4_isKept 131 = .ok (.ldc2_w 170, 3) := dk_20 0 170 (dk_at dksX4_isKept_5 12 rfl rfl)
theorem dX4_isKept_134 : decode cX4_isKept 134 = .ok (.lcmp, 1) := dk_148 (dk_at dksX4_isKept_5 15 rfl rfl)
theorem dX4_isKept_135 : decode cX4_isKept 135 = .ok (.ifCond .eq 19, 3) := dk_153 0 19 (dk_at dksX4_isKept_5 16 rfl rfl)
theorem dX4_isKept_138 : decode cX4_isKept 138 = .ok (.lload_n 0, 1) := dk_30 (dk_at dksX4_isKept_5 19 rfl rfl)
theorem dX4_isKept_139 : decode cX4_isKept 139 = .ok (.ldc2_w 172, 3) := dk_20 0 172 (dk_at dksX4_isKept_5 20 rfl rfl)
theorem dX4_isKept_142 : decode cX4_isKept 142 = .ok (.lcmp, 1) := dk_148 (dk_at dksX4_isKept_5 23 rfl rfl)
theorem dX4_isKept_143 : decode cX4_isKept 143 = .ok (.ifCond .eq 11, 3) := dk_153 0 11 (dk_at dksX4_isKept_6 0 rfl rfl)
theorem dX4_isKept_146 : decode cX4_isKept 146 = .ok (.lload_n 0, 1) := dk_30 (dk_at dksX4_isKept_6 3 rfl rfl)
theorem dX4_isKept_147 : decode cX4_isKept 147 = .ok (.ldc2_w 174, 3) := dk_20 0 174 (dk_at dksX4_isKept_6 4 rfl rfl)
theorem dX4_isKept_150 : decode cX4_isKept 150 = .ok (.lcmp, 1) := dk_148 (dk_at dksX4_isKept_6 7 rfl rfl)
theorem dX4_isKept_151 : decode cX4_isKept 151 = .ok (.ifCond .ne 7, 3) := dk_154 0 7 (dk_at dksX4_isKept_6 8 rfl rfl)
theorem dX4_isKept_154 : decode cX4_isKept 154 = .ok (.iconst 1, 1) := dk_4 (dk_at dksX4_isKept_6 11 rfl rfl)
theorem dX4_isKept_155 : decode cX4_isKept 155 = .ok (.goto 4, 3) := dk_167 0 4 (dk_at dksX4_isKept_6 12 rfl rfl)
theorem dX4_isKept_158 : decode cX4_isKept 158 = .ok (.iconst 0, 1) := dk_3 (dk_at dksX4_isKept_6 15 rfl rfl)
theorem dX4_isKept_159 : decode cX4_isKept 159 = .ok (.ireturn, 1) := dk_172 (dk_at dksX4_isKept_6 16 rfl rfl)
abbrev cX4_isDigit : ByteArray := prog_22_method_4_code
def yX4_isDigit : MethodName := ⟨RX4, "isDigit", "(I)Z"⟩
def dkwX4_isDigit_0 : List UInt8 := [26, 16, 48, 161, 0, 13, 26, 16, 57, 163, 0, 7, 4, 167, 0, 4, 3, 172]
abbrev dktX4_isDigit_0 : List UInt8 := dkwX4_isDigit_0 ++ []
theorem dksX4_isDigit_0 : cX4_isDigit.data.toList.drop 0 = dktX4_isDigit_0 := by decide +kernel
theorem dX4_isDigit_0 : decode cX4_isDigit 0 = .ok (.iload_n 0, 1) := dk_26 (dk_at dksX4_isDigit_0 0 rfl rfl)
theorem dX4_isDigit_1 : decode cX4_isDigit 1 = .ok (.bipush 48, 2) := dk_16 48 (dk_at dksX4_isDigit_0 1 rfl rfl)
theorem dX4_isDigit_3 : decode cX4_isDigit 3 = .ok (.if_icmp .lt 13, 3) := dk_161 0 13 (dk_at dksX4_isDigit_0 3 rfl rfl)
theorem dX4_isDigit_6 : decode cX4_isDigit 6 = .ok (.iload_n 0, 1) := dk_26 (dk_at dksX4_isDigit_0 6 rfl rfl)
theorem dX4_isDigit_7 : decode cX4_isDigit 7 = .ok (.bipush 57, 2) := dk_16 57 (dk_at dksX4_isDigit_0 7 rfl rfl)
theorem dX4_isDigit_9 : decode cX4_isDigit 9 = .ok (.if_icmp .gt 7, 3) := dk_163 0 7 (dk_at dksX4_isDigit_0 9 rfl rfl)
theorem dX4_isDigit_12 : decode cX4_isDigit 12 = .ok (.iconst 1, 1) := dk_4 (dk_at dksX4_isDigit_0 12 rfl rfl)
theorem dX4_isDigit_13 : decode cX4_isDigit 13 = .ok (.goto 4, 3) := dk_167 0 4 (dk_at dksX4_isDigit_0 13 rfl rfl)
theorem dX4_isDigit_16 : decode cX4_isDigit 16 = .ok (.iconst 0, 1) := dk_3 (dk_at dksX4_isDigit_0 16 rfl rfl)
theorem dX4_isDigit_17 : decode cX4_isDigit 17 = .ok (.ireturn, 1) := dk_172 (dk_at dksX4_isDigit_0 17 rfl rfl)
abbrev cX4_isSign : ByteArray := prog_22_method_8_code
def yX4_isSign : MethodName := ⟨RX4, "isSign", "(I)Z"⟩
def dkwX4_isSign_2 : List UInt8 := [26, 16, 42, 159, 0, 15, 26, 16, 47, 159, 0, 9, 26, 16, 37, 160, 0, 7, 4, 167, 0, 4, 3, 172]
abbrev dktX4_isSign_2 : List UInt8 := dkwX4_isSign_2 ++ []
def dkwX4_isSign_1 : List UInt8 := [26, 16, 62, 159, 0, 39, 26, 16, 61, 159, 0, 33, 26, 16, 43, 159, 0, 27, 26, 16, 45, 159, 0, 21]
abbrev dktX4_isSign_1 : List UInt8 := dkwX4_isSign_1 ++ dktX4_isSign_2
def dkwX4_isSign_0 : List UInt8 := [26, 16, 59, 159, 0, 63, 26, 16, 40, 159, 0, 57, 26, 16, 41, 159, 0, 51, 26, 16, 60, 159, 0, 45]
abbrev dktX4_isSign_0 : List UInt8 := dkwX4_isSign_0 ++ dktX4_isSign_1
theorem dksX4_isSign_0 : cX4_isSign.data.toList.drop 0 = dktX4_isSign_0 := by decide +kernel
theorem dksX4_isSign_1 : cX4_isSign.data.toList.drop 24 = dktX4_isSign_1 := dk_seg dksX4_isSign_0 24 rfl rfl
theorem dksX4_isSign_2 : cX4_isSign.data.toList.drop 48 = dktX4_isSign_2 := dk_seg dksX4_isSign_1 24 rfl rfl
theorem dX4_isSign_0 : decode cX4_isSign 0 = .ok (.iload_n 0, 1) := dk_26 (dk_at dksX4_isSign_0 0 rfl rfl)
theorem dX4_isSign_1 : decode cX4_isSign 1 = .ok (.bipush 59, 2) := dk_16 59 (dk_at dksX4_isSign_0 1 rfl rfl)
theorem dX4_isSign_3 : decode cX4_isSign 3 = .ok (.if_icmp .eq 63, 3) := dk_159 0 63 (dk_at dksX4_isSign_0 3 rfl rfl)
theorem dX4_isSign_6 : decode cX4_isSign 6 = .ok (.iload_n 0, 1) := dk_26 (dk_at dksX4_isSign_0 6 rfl rfl)
theorem dX4_isSign_7 : decode cX4_isSign 7 = .ok (.bipush 40, 2) := dk_16 40 (dk_at dksX4_isSign_0 7 rfl rfl)
theorem dX4_isSign_9 : decode cX4_isSign 9 = .ok (.if_icmp .eq 57, 3) := dk_159 0 57 (dk_at dksX4_isSign_0 9 rfl rfl)
theorem dX4_isSign_12 : decode cX4_isSign 12 = .ok (.iload_n 0, 1) := dk_26 (dk_at dksX4_isSign_0 12 rfl rfl)
theorem dX4_isSign_13 : decode cX4_isSign 13 = .ok (.bipush 41, 2) := dk_16 41 (dk_at dksX4_isSign_0 13 rfl rfl)
theorem dX4_isSign_15 : decode cX4_isSign 15 = .ok (.if_icmp .eq 51, 3) := dk_159 0 51 (dk_at dksX4_isSign_0 15 rfl rfl)
theorem dX4_isSign_18 : decode cX4_isSign 18 = .ok (.iload_n 0, 1) := dk_26 (dk_at dksX4_isSign_0 18 rfl rfl)
theorem dX4_isSign_19 : decode cX4_isSign 19 = .ok (.bipush 60, 2) := dk_16 60 (dk_at dksX4_isSign_0 19 rfl rfl)
theorem dX4_isSign_21 : decode cX4_isSign 21 = .ok (.if_icmp .eq 45, 3) := dk_159 0 45 (dk_at dksX4_isSign_0 21 rfl rfl)
theorem dX4_isSign_24 : decode cX4_isSign 24 = .ok (.iload_n 0, 1) := dk_26 (dk_at dksX4_isSign_1 0 rfl rfl)
theorem dX4_isSign_25 : decode cX4_isSign 25 = .ok (.bipush 62, 2) := dk_16 62 (dk_at dksX4_isSign_1 1 rfl rfl)
theorem dX4_isSign_27 : decode cX4_isSign 27 = .ok (.if_icmp .eq 39, 3) := dk_159 0 39 (dk_at dksX4_isSign_1 3 rfl rfl)
theorem dX4_isSign_30 : decode cX4_isSign 30 = .ok (.iload_n 0, 1) := dk_26 (dk_at dksX4_isSign_1 6 rfl rfl)
theorem dX4_isSign_31 : decode cX4_isSign 31 = .ok (.bipush 61, 2) := dk_16 61 (dk_at dksX4_isSign_1 7 rfl rfl)
theorem dX4_isSign_33 : decode cX4_isSign 33 = .ok (.if_icmp .eq 33, 3) := dk_159 0 33 (dk_at dksX4_isSign_1 9 rfl rfl)
theorem dX4_isSign_36 : decode cX4_isSign 36 = .ok (.iload_n 0, 1) := dk_26 (dk_at dksX4_isSign_1 12 rfl rfl)
theorem dX4_isSign_37 : decode cX4_isSign 37 = .ok (.bipush 43, 2) := dk_16 43 (dk_at dksX4_isSign_1 13 rfl rfl)
theorem dX4_isSign_39 : decode cX4_isSign 39 = .ok (.if_icmp .eq 27, 3) := dk_159 0 27 (dk_at dksX4_isSign_1 15 rfl rfl)
theorem dX4_isSign_42 : decode cX4_isSign 42 = .ok (.iload_n 0, 1) := dk_26 (dk_at dksX4_isSign_1 18 rfl rfl)
theorem dX4_isSign_43 : decode cX4_isSign 43 = .ok (.bipush 45, 2) := dk_16 45 (dk_at dksX4_isSign_1 19 rfl rfl)
theorem dX4_isSign_45 : decode cX4_isSign 45 = .ok (.if_icmp .eq 21, 3) := dk_159 0 21 (dk_at dksX4_isSign_1 21 rfl rfl)
theorem dX4_isSign_48 : decode cX4_isSign 48 = .ok (.iload_n 0, 1) := dk_26 (dk_at dksX4_isSign_2 0 rfl rfl)
theorem dX4_isSign_49 : decode cX4_isSign 49 = .ok (.bipush 42, 2) := dk_16 42 (dk_at dksX4_isSign_2 1 rfl rfl)
theorem dX4_isSign_51 : decode cX4_isSign 51 = .ok (.if_icmp .eq 15, 3) := dk_159 0 15 (dk_at dksX4_isSign_2 3 rfl rfl)
theorem dX4_isSign_54 : decode cX4_isSign 54 = .ok (.iload_n 0, 1) := dk_26 (dk_at dksX4_isSign_2 6 rfl rfl)
theorem dX4_isSign_55 : decode cX4_isSign 55 = .ok (.bipush 47, 2) := dk_16 47 (dk_at dksX4_isSign_2 7 rfl rfl)
theorem dX4_isSign_57 : decode cX4_isSign 57 = .ok (.if_icmp .eq 9, 3) := dk_159 0 9 (dk_at dksX4_isSign_2 9 rfl rfl)
theorem dX4_isSign_60 : decode cX4_isSign 60 = .ok (.iload_n 0, 1) := dk_26 (dk_at dksX4_isSign_2 12 rfl rfl)
theorem dX4_isSign_61 : decode cX4_isSign 61 = .ok (.bipush 37, 2) := dk_16 37 (dk_at dksX4_isSign_2 13 rfl rfl)
theorem dX4_isSign_63 : decode cX4_isSign 63 = .ok (.if_icmp .ne 7, 3) := dk_160 0 7 (dk_at dksX4_isSign_2 15 rfl rfl)
theorem dX4_isSign_66 : decode cX4_isSign 66 = .ok (.iconst 1, 1) := dk_4 (dk_at dksX4_isSign_2 18 rfl rfl)
theorem dX4_isSign_67 : decode cX4_isSign 67 = .ok (.goto 4, 3) := dk_167 0 4 (dk_at dksX4_isSign_2 19 rfl rfl)
theorem dX4_isSign_70 : decode cX4_isSign 70 = .ok (.iconst 0, 1) := dk_3 (dk_at dksX4_isSign_2 22 rfl rfl)
theorem dX4_isSign_71 : decode cX4_isSign 71 = .ok (.ireturn, 1) := dk_172 (dk_at dksX4_isSign_2 23 rfl rfl)
abbrev cX4_isGood : ByteArray := prog_22_method_6_code
def yX4_isGood : MethodName := ⟨RX4, "isGood", "()Z"⟩
def dkwX4_isGood_0 : List UInt8 := [42, 180, 0, 137, 154, 0, 7, 4, 167, 0, 4, 3, 172]
abbrev dktX4_isGood_0 : List UInt8 := dkwX4_isGood_0 ++ []
theorem dksX4_isGood_0 : cX4_isGood.data.toList.drop 0 = dktX4_isGood_0 := by decide +kernel
theorem dX4_isGood_0 : decode cX4_isGood 0 = .ok (.aload_n 0, 1) := dk_42 (dk_at dksX4_isGood_0 0 rfl rfl)
theorem dX4_isGood_1 : decode cX4_isGood 1 = .ok (.getfield 137, 3) := dk_180 0 137 (dk_at dksX4_isGood_0 1 rfl rfl)
theorem dX4_isGood_4 : decode cX4_isGood 4 = .ok (.ifCond .ne 7, 3) := dk_154 0 7 (dk_at dksX4_isGood_0 4 rfl rfl)
theorem dX4_isGood_7 : decode cX4_isGood 7 = .ok (.iconst 1, 1) := dk_4 (dk_at dksX4_isGood_0 7 rfl rfl)
theorem dX4_isGood_8 : decode cX4_isGood 8 = .ok (.goto 4, 3) := dk_167 0 4 (dk_at dksX4_isGood_0 8 rfl rfl)
theorem dX4_isGood_11 : decode cX4_isGood 11 = .ok (.iconst 0, 1) := dk_3 (dk_at dksX4_isGood_0 11 rfl rfl)
theorem dX4_isGood_12 : decode cX4_isGood 12 = .ok (.ireturn, 1) := dk_172 (dk_at dksX4_isGood_0 12 rfl rfl)
abbrev cX4_readLine : ByteArray := prog_22_method_20_code
def yX4_readLine : MethodName := ⟨RX4, "readLine", "()V"⟩
def dkwX4_readLine_9 : List UInt8 := [182, 1, 19, 79, 42, 42, 16, 59, 182, 1, 23, 182, 0, 227, 177]
abbrev dktX4_readLine_9 : List UInt8 := dkwX4_readLine_9 ++ []
def dkwX4_readLine_8 : List UInt8 := [79, 31, 20, 0, 160, 148, 154, 0, 21, 42, 180, 0, 36, 42, 180, 0, 235, 42, 6, 3, 17, 3, 231]
abbrev dktX4_readLine_8 : List UInt8 := dkwX4_readLine_8 ++ dktX4_readLine_9
def dkwX4_readLine_7 : List UInt8 := [31, 20, 0, 158, 148, 154, 0, 20, 42, 180, 0, 33, 42, 180, 0, 235, 42, 5, 3, 16, 99, 182, 1, 19]
abbrev dktX4_readLine_7 : List UInt8 := dkwX4_readLine_7 ++ dktX4_readLine_8
def dkwX4_readLine_6 : List UInt8 := [20, 0, 156, 148, 154, 0, 20, 42, 180, 0, 30, 42, 180, 0, 235, 42, 4, 4, 16, 9, 182, 1, 19, 79]
abbrev dktX4_readLine_6 : List UInt8 := dkwX4_readLine_6 ++ dktX4_readLine_7
def dkwX4_readLine_5 : List UInt8 := [20, 0, 144, 148, 154, 0, 7, 42, 182, 1, 13, 31, 20, 0, 154, 148, 154, 0, 7, 42, 182, 1, 16, 31]
abbrev dktX4_readLine_5 : List UInt8 := dkwX4_readLine_5 ++ dktX4_readLine_6
def dkwX4_readLine_4 : List UInt8 := [20, 0, 142, 3, 16, 99, 182, 1, 9, 79, 42, 180, 0, 20, 42, 180, 0, 235, 92, 46, 4, 96, 79, 31]
abbrev dktX4_readLine_4 : List UInt8 := dkwX4_readLine_4 ++ dktX4_readLine_5
def dkwX4_readLine_3 : List UInt8 := [80, 42, 180, 0, 42, 7, 42, 180, 0, 235, 104, 42, 180, 0, 20, 42, 180, 0, 235, 46, 96, 42]
abbrev dktX4_readLine_3 : List UInt8 := dkwX4_readLine_3 ++ dktX4_readLine_4
def dkwX4_readLine_2 : List UInt8 := [7, 42, 180, 0, 235, 104, 42, 180, 0, 20, 42, 180, 0, 235, 46, 96, 42, 42, 182, 1, 1, 182, 1, 5]
abbrev dktX4_readLine_2 : List UInt8 := dkwX4_readLine_2 ++ dktX4_readLine_3
def dkwX4_readLine_1 : List UInt8 := [42, 182, 0, 214, 154, 0, 4, 177, 42, 182, 0, 218, 31, 20, 0, 140, 148, 154, 0, 76, 42, 180, 0, 63]
abbrev dktX4_readLine_1 : List UInt8 := dkwX4_readLine_1 ++ dktX4_readLine_2
def dkwX4_readLine_0 : List UInt8 := [42, 180, 0, 193, 64, 42, 180, 0, 186, 6, 160, 0, 10, 42, 182, 0, 254, 153, 0, 7, 42, 182, 0, 221]
abbrev dktX4_readLine_0 : List UInt8 := dkwX4_readLine_0 ++ dktX4_readLine_1
theorem dksX4_readLine_0 : cX4_readLine.data.toList.drop 0 = dktX4_readLine_0 := by decide +kernel
theorem dksX4_readLine_1 : cX4_readLine.data.toList.drop 24 = dktX4_readLine_1 := dk_seg dksX4_readLine_0 24 rfl rfl
theorem dksX4_readLine_2 : cX4_readLine.data.toList.drop 48 = dktX4_readLine_2 := dk_seg dksX4_readLine_1 24 rfl rfl
theorem dksX4_readLine_3 : cX4_readLine.data.toList.drop 72 = dktX4_readLine_3 := dk_seg dksX4_readLine_2 24 rfl rfl
theorem dksX4_readLine_4 : cX4_readLine.data.toList.drop 94 = dktX4_readLine_4 := dk_seg dksX4_readLine_3 22 rfl rfl
theorem dksX4_readLine_5 : cX4_readLine.data.toList.drop 118 = dktX4_readLine_5 := dk_seg dksX4_readLine_4 24 rfl rfl
theorem dksX4_readLine_6 : cX4_readLine.data.toList.drop 142 = dktX4_readLine_6 := dk_seg dksX4_readLine_5 24 rfl rfl
theorem dksX4_readLine_7 : cX4_readLine.data.toList.drop 166 = dktX4_readLine_7 := dk_seg dksX4_readLine_6 24 rfl rfl
theorem dksX4_readLine_8 : cX4_readLine.data.toList.drop 190 = dktX4_readLine_8 := dk_seg dksX4_readLine_7 24 rfl rfl
theorem dksX4_readLine_9 : cX4_readLine.data.toList.drop 213 = dktX4_readLine_9 := dk_seg dksX4_readLine_8 23 rfl rfl
theorem dX4_readLine_0 : decode cX4_readLine 0 = .ok (.aload_n 0, 1) := dk_42 (dk_at dksX4_readLine_0 0 rfl rfl)
theorem dX4_readLine_1 : decode cX4_readLine 1 = .ok (.getfield 193, 3) := dk_180 0 193 (dk_at dksX4_readLine_0 1 rfl rfl)
theorem dX4_readLine_4 : decode cX4_readLine 4 = .ok (.lstore_n 1, 1) := dk_64 (dk_at dksX4_readLine_0 4 rfl rfl)
theorem dX4_readLine_5 : decode cX4_readLine 5 = .ok (.aload_n 0, 1) := dk_42 (dk_at dksX4_readLine_0 5 rfl rfl)
theorem dX4_readLine_6 : decode cX4_readLine 6 = .ok (.getfield 186, 3) := dk_180 0 186 (dk_at dksX4_readLine_0 6 rfl rfl)
theorem dX4_readLine_9 : decode cX4_readLine 9 = .ok (.iconst 3, 1) := dk_6 (dk_at dksX4_readLine_0 9 rfl rfl)
theorem dX4_readLine_10 : decode cX4_readLine 10 = .ok (.if_icmp .ne 10, 3) := dk_160 0 10 (dk_at dksX4_readLine_0 10 rfl rfl)
theorem dX4_readLine_13 : decode cX4_readLine 13 = .ok (.aload_n 0, 1) := dk_42 (dk_at dksX4_readLine_0 13 rfl rfl)
theorem dX4_readLine_14 : decode cX4_readLine 14 = .ok (.invokevirtual 254, 3) := dk_182 0 254 (dk_at dksX4_readLine_0 14 rfl rfl)
theorem dX4_readLine_17 : decode cX4_readLine 17 = .ok (.ifCond .eq 7, 3) := dk_153 0 7 (dk_at dksX4_readLine_0 17 rfl rfl)
theorem dX4_readLine_20 : decode cX4_readLine 20 = .ok (.aload_n 0, 1) := dk_42 (dk_at dksX4_readLine_0 20 rfl rfl)
theorem dX4_readLine_21 : decode cX4_readLine 21 = .ok (.invokevirtual 221, 3) := dk_182 0 221 (dk_at dksX4_readLine_0 21 rfl rfl)
theorem dX4_readLine_24 : decode cX4_readLine 24 = .ok (.aload_n 0, 1) := dk_42 (dk_at dksX4_readLine_1 0 rfl rfl)
theorem dX4_readLine_25 : decode cX4_readLine 25 = .ok (.invokevirtual 214, 3) := dk_182 0 214 (dk_at dksX4_readLine_1 1 rfl rfl)
theorem dX4_readLine_28 : decode cX4_readLine 28 = .ok (.ifCond .ne 4, 3) := dk_154 0 4 (dk_at dksX4_readLine_1 4 rfl rfl)
theorem dX4_readLine_31 : decode cX4_readLine 31 = .ok (.return_, 1) := dk_177 (dk_at dksX4_readLine_1 7 rfl rfl)
theorem dX4_readLine_32 : decode cX4_readLine 32 = .ok (.aload_n 0, 1) := dk_42 (dk_at dksX4_readLine_1 8 rfl rfl)
theorem dX4_readLine_33 : decode cX4_readLine 33 = .ok (.invokevirtual 218, 3) := dk_182 0 218 (dk_at dksX4_readLine_1 9 rfl rfl)
theorem dX4_readLine_36 : decode cX4_readLine 36 = .ok (.lload_n 1, 1) := dk_31 (dk_at dksX4_readLine_1 12 rfl rfl)
theorem dX4_readLine_37 : decode cX4_readLine 37 = .ok (.ldc2_w 140, 3) := dk_20 0 140 (dk_at dksX4_readLine_1 13 rfl rfl)
theorem dX4_readLine_40 : decode cX4_readLine 40 = .ok (.lcmp, 1) := dk_148 (dk_at dksX4_readLine_1 16 rfl rfl)
theorem dX4_readLine_41 : decode cX4_readLine 41 = .ok (.ifCond .ne 76, 3) := dk_154 0 76 (dk_at dksX4_readLine_1 17 rfl rfl)
theorem dX4_readLine_44 : decode cX4_readLine 44 = .ok (.aload_n 0, 1) := dk_42 (dk_at dksX4_readLine_1 20 rfl rfl)
theorem dX4_readLine_45 : decode cX4_readLine 45 = .ok (.getfield 63, 3) := dk_180 0 63 (dk_at dksX4_readLine_1 21 rfl rfl)
theorem dX4_readLine_48 : decode cX4_readLine 48 = .ok (.iconst 4, 1) := dk_7 (dk_at dksX4_readLine_2 0 rfl rfl)
theorem dX4_readLine_49 : decode cX4_readLine 49 = .ok (.aload_n 0, 1) := dk_42 (dk_at dksX4_readLine_2 1 rfl rfl)
theorem dX4_readLine_50 : decode cX4_readLine 50 = .ok (.getfield 235, 3) := dk_180 0 235 (dk_at dksX4_readLine_2 2 rfl rfl)
theorem dX4_readLine_53 : decode cX4_readLine 53 = .ok (.imul, 1) := dk_104 (dk_at dksX4_readLine_2 5 rfl rfl)
theorem dX4_readLine_54 : decode cX4_readLine 54 = .ok (.aload_n 0, 1) := dk_42 (dk_at dksX4_readLine_2 6 rfl rfl)
theorem dX4_readLine_55 : decode cX4_readLine 55 = .ok (.getfield 20, 3) := dk_180 0 20 (dk_at dksX4_readLine_2 7 rfl rfl)
theorem dX4_readLine_58 : decode cX4_readLine 58 = .ok (.aload_n 0, 1) := dk_42 (dk_at dksX4_readLine_2 10 rfl rfl)
theorem dX4_readLine_59 : decode cX4_readLine 59 = .ok (.getfield 235, 3) := dk_180 0 235 (dk_at dksX4_readLine_2 11 rfl rfl)
theorem dX4_readLine_62 : decode cX4_readLine 62 = .ok (.iaload, 1) := dk_46 (dk_at dksX4_readLine_2 14 rfl rfl)
theorem dX4_readLine_63 : decode cX4_readLine 63 = .ok (.iadd, 1) := dk_96 (dk_at dksX4_readLine_2 15 rfl rfl)
theorem dX4_readLine_64 : decode cX4_readLine 64 = .ok (.aload_n 0, 1) := dk_42 (dk_at dksX4_readLine_2 16 rfl rfl)
theorem dX4_readLine_65 : decode cX4_readLine 65 = .ok (.aload_n 0, 1) := dk_42 (dk_at dksX4_readLine_2 17 rfl rfl)
theorem dX4_readLine_66 : decode cX4_readLine 66 = .ok (.invokevirtual 257, 3) := dk_182 1 1 (dk_at dksX4_readLine_2 18 rfl rfl)
theorem dX4_readLine_69 : decode cX4_readLine 69 = .ok (.invokevirtual 261, 3) := dk_182 1 5 (dk_at dksX4_readLine_2 21 rfl rfl)
theorem dX4_readLine_72 : decode cX4_readLine 72 = .ok (.lastore, 1) := dk_80 (dk_at dksX4_readLine_3 0 rfl rfl)
theorem dX4_readLine_73 : decode cX4_readLine 73 = .ok (.aload_n 0, 1) := dk_42 (dk_at dksX4_readLine_3 1 rfl rfl)
theorem dX4_readLine_74 : decode cX4_readLine 74 = .ok (.getfield 42, 3) := dk_180 0 42 (dk_at dksX4_readLine_3 2 rfl rfl)
theorem dX4_readLine_77 : decode cX4_readLine 77 = .ok (.iconst 4, 1) := dk_7 (dk_at dksX4_readLine_3 5 rfl rfl)
theorem dX4_readLine_78 : decode cX4_readLine 78 = .ok (.aload_n 0, 1) := dk_42 (dk_at dksX4_readLine_3 6 rfl rfl)
theorem dX4_readLine_79 : decode cX4_readLine 79 = .ok (.getfield 235, 3) := dk_180 0 235 (dk_at dksX4_readLine_3 7 rfl rfl)
theorem dX4_readLine_82 : decode cX4_readLine 82 = .ok (.imul, 1) := dk_104 (dk_at dksX4_readLine_3 10 rfl rfl)
theorem dX4_readLine_83 : decode cX4_readLine 83 = .ok (.aload_n 0, 1) := dk_42 (dk_at dksX4_readLine_3 11 rfl rfl)
theorem dX4_readLine_84 : decode cX4_readLine 84 = .ok (.getfield 20, 3) := dk_180 0 20 (dk_at dksX4_readLine_3 12 rfl rfl)
theorem dX4_readLine_87 : decode cX4_readLine 87 = .ok (.aload_n 0, 1) := dk_42 (dk_at dksX4_readLine_3 15 rfl rfl)
theorem dX4_readLine_88 : decode cX4_readLine 88 = .ok (.getfield 235, 3) := dk_180 0 235 (dk_at dksX4_readLine_3 16 rfl rfl)
theorem dX4_readLine_91 : decode cX4_readLine 91 = .ok (.iaload, 1) := dk_46 (dk_at dksX4_readLine_3 19 rfl rfl)
theorem dX4_readLine_92 : decode cX4_readLine 92 = .ok (.iadd, 1) := dk_96 (dk_at dksX4_readLine_3 20 rfl rfl)
theorem dX4_readLine_93 : decode cX4_readLine 93 = .ok (.aload_n 0, 1) := dk_42 (dk_at dksX4_readLine_3 21 rfl rfl)
theorem dX4_readLine_94 : decode cX4_readLine 94 = .ok (.ldc2_w 142, 3) := dk_20 0 142 (dk_at dksX4_readLine_4 0 rfl rfl)
theorem dX4_readLine_97 : decode cX4_readLine 97 = .ok (.iconst 0, 1) := dk_3 (dk_at dksX4_readLine_4 3 rfl rfl)
theorem dX4_readLine_98 : decode cX4_readLine 98 = .ok (.bipush 99, 2) := dk_16 99 (dk_at dksX4_readLine_4 4 rfl rfl)
theorem dX4_readLine_100 : decode cX4_readLine 100 = .ok (.invokevirtual 265, 3) := dk_182 1 9 (dk_at dksX4_readLine_4 6 rfl rfl)
theorem dX4_readLine_103 : decode cX4_readLine 103 = .ok (.iastore, 1) := dk_79 (dk_at dksX4_readLine_4 9 rfl rfl)
theorem dX4_readLine_104 : decode cX4_readLine 104 = .ok (.aload_n 0, 1) := dk_42 (dk_at dksX4_readLine_4 10 rfl rfl)
theorem dX4_readLine_105 : decode cX4_readLine 105 = .ok (.getfield 20, 3) := dk_180 0 20 (dk_at dksX4_readLine_4 11 rfl rfl)
theorem dX4_readLine_108 : decode cX4_readLine 108 = .ok (.aload_n 0, 1) := dk_42 (dk_at dksX4_readLine_4 14 rfl rfl)
theorem dX4_readLine_109 : decode cX4_readLine 109 = .ok (.getfield 235, 3) := dk_180 0 235 (dk_at dksX4_readLine_4 15 rfl rfl)
theorem dX4_readLine_112 : decode cX4_readLine 112 = .ok (.dup2, 1) := dk_92 (dk_at dksX4_readLine_4 18 rfl rfl)
theorem dX4_readLine_113 : decode cX4_readLine 113 = .ok (.iaload, 1) := dk_46 (dk_at dksX4_readLine_4 19 rfl rfl)
theorem dX4_readLine_114 : decode cX4_readLine 114 = .ok (.iconst 1, 1) := dk_4 (dk_at dksX4_readLine_4 20 rfl rfl)
theorem dX4_readLine_115 : decode cX4_readLine 115 = .ok (.iadd, 1) := dk_96 (dk_at dksX4_readLine_4 21 rfl rfl)
theorem dX4_readLine_116 : decode cX4_readLine 116 = .ok (.iastore, 1) := dk_79 (dk_at dksX4_readLine_4 22 rfl rfl)
theorem dX4_readLine_117 : decode cX4_readLine 117 = .ok (.lload_n 1, 1) := dk_31 (dk_at dksX4_readLine_4 23 rfl rfl)
theorem dX4_readLine_118 : decode cX4_readLine 118 = .ok (.ldc2_w 144, 3) := dk_20 0 144 (dk_at dksX4_readLine_5 0 rfl rfl)
theorem dX4_readLine_121 : decode cX4_readLine 121 = .ok (.lcmp, 1) := dk_148 (dk_at dksX4_readLine_5 3 rfl rfl)
theorem dX4_readLine_122 : decode cX4_readLine 122 = .ok (.ifCond .ne 7, 3) := dk_154 0 7 (dk_at dksX4_readLine_5 4 rfl rfl)
theorem dX4_readLine_125 : decode cX4_readLine 125 = .ok (.aload_n 0, 1) := dk_42 (dk_at dksX4_readLine_5 7 rfl rfl)
theorem dX4_readLine_126 : decode cX4_readLine 126 = .ok (.invokevirtual 269, 3) := dk_182 1 13 (dk_at dksX4_readLine_5 8 rfl rfl)
theorem dX4_readLine_129 : decode cX4_readLine 129 = .ok (.lload_n 1, 1) := dk_31 (dk_at dksX4_readLine_5 11 rfl rfl)
theorem dX4_readLine_130 : decode cX4_readLine 130 = .ok (.ldc2_w 154, 3) := dk_20 0 154 (dk_at dksX4_readLine_5 12 rfl rfl)
theorem dX4_readLine_133 : decode cX4_readLine 133 = .ok (.lcmp, 1) := dk_148 (dk_at dksX4_readLine_5 15 rfl rfl)
theorem dX4_readLine_134 : decode cX4_readLine 134 = .ok (.ifCond .ne 7, 3) := dk_154 0 7 (dk_at dksX4_readLine_5 16 rfl rfl)
theorem dX4_readLine_137 : decode cX4_readLine 137 = .ok (.aload_n 0, 1) := dk_42 (dk_at dksX4_readLine_5 19 rfl rfl)
theorem dX4_readLine_138 : decode cX4_readLine 138 = .ok (.invokevirtual 272, 3) := dk_182 1 16 (dk_at dksX4_readLine_5 20 rfl rfl)
theorem dX4_readLine_141 : decode cX4_readLine 141 = .ok (.lload_n 1, 1) := dk_31 (dk_at dksX4_readLine_5 23 rfl rfl)
theorem dX4_readLine_142 : decode cX4_readLine 142 = .ok (.ldc2_w 156, 3) := dk_20 0 156 (dk_at dksX4_readLine_6 0 rfl rfl)
theorem dX4_readLine_145 : decode cX4_readLine 145 = .ok (.lcmp, 1) := dk_148 (dk_at dksX4_readLine_6 3 rfl rfl)
theorem dX4_readLine_146 : decode cX4_readLine 146 = .ok (.ifCond .ne 20, 3) := dk_154 0 20 (dk_at dksX4_readLine_6 4 rfl rfl)
theorem dX4_readLine_149 : decode cX4_readLine 149 = .ok (.aload_n 0, 1) := dk_42 (dk_at dksX4_readLine_6 7 rfl rfl)
theorem dX4_readLine_150 : decode cX4_readLine 150 = .ok (.getfield 30, 3) := dk_180 0 30 (dk_at dksX4_readLine_6 8 rfl rfl)
theorem dX4_readLine_153 : decode cX4_readLine 153 = .ok (.aload_n 0, 1) := dk_42 (dk_at dksX4_readLine_6 11 rfl rfl)
theorem dX4_readLine_154 : decode cX4_readLine 154 = .ok (.getfield 235, 3) := dk_180 0 235 (dk_at dksX4_readLine_6 12 rfl rfl)
theorem dX4_readLine_157 : decode cX4_readLine 157 = .ok (.aload_n 0, 1) := dk_42 (dk_at dksX4_readLine_6 15 rfl rfl)
theorem dX4_readLine_158 : decode cX4_readLine 158 = .ok (.iconst 1, 1) := dk_4 (dk_at dksX4_readLine_6 16 rfl rfl)
theorem dX4_readLine_159 : decode cX4_readLine 159 = .ok (.iconst 1, 1) := dk_4 (dk_at dksX4_readLine_6 17 rfl rfl)
theorem dX4_readLine_160 : decode cX4_readLine 160 = .ok (.bipush 9, 2) := dk_16 9 (dk_at dksX4_readLine_6 18 rfl rfl)
theorem dX4_readLine_162 : decode cX4_readLine 162 = .ok (.invokevirtual 275, 3) := dk_182 1 19 (dk_at dksX4_readLine_6 20 rfl rfl)
theorem dX4_readLine_165 : decode cX4_readLine 165 = .ok (.iastore, 1) := dk_79 (dk_at dksX4_readLine_6 23 rfl rfl)
theorem dX4_readLine_166 : decode cX4_readLine 166 = .ok (.lload_n 1, 1) := dk_31 (dk_at dksX4_readLine_7 0 rfl rfl)
theorem dX4_readLine_167 : decode cX4_readLine 167 = .ok (.ldc2_w 158, 3) := dk_20 0 158 (dk_at dksX4_readLine_7 1 rfl rfl)
theorem dX4_readLine_170 : decode cX4_readLine 170 = .ok (.lcmp, 1) := dk_148 (dk_at dksX4_readLine_7 4 rfl rfl)
theorem dX4_readLine_171 : decode cX4_readLine 171 = .ok (.ifCond .ne 20, 3) := dk_154 0 20 (dk_at dksX4_readLine_7 5 rfl rfl)
theorem dX4_readLine_174 : decode cX4_readLine 174 = .ok (.aload_n 0, 1) := dk_42 (dk_at dksX4_readLine_7 8 rfl rfl)
theorem dX4_readLine_175 : decode cX4_readLine 175 = .ok (.getfield 33, 3) := dk_180 0 33 (dk_at dksX4_readLine_7 9 rfl rfl)
theorem dX4_readLine_178 : decode cX4_readLine 178 = .ok (.aload_n 0, 1) := dk_42 (dk_at dksX4_readLine_7 12 rfl rfl)
theorem dX4_readLine_179 : decode cX4_readLine 179 = .ok (.getfield 235, 3) := dk_180 0 235 (dk_at dksX4_readLine_7 13 rfl rfl)
theorem dX4_readLine_182 : decode cX4_readLine 182 = .ok (.aload_n 0, 1) := dk_42 (dk_at dksX4_readLine_7 16 rfl rfl)
theorem dX4_readLine_183 : decode cX4_readLine 183 = .ok (.iconst 2, 1) := dk_5 (dk_at dksX4_readLine_7 17 rfl rfl)
theorem dX4_readLine_184 : decode cX4_readLine 184 = .ok (.iconst 0, 1) := dk_3 (dk_at dksX4_readLine_7 18 rfl rfl)
theorem dX4_readLine_185 : decode cX4_readLine 185 = .ok (.bipush 99, 2) := dk_16 99 (dk_at dksX4_readLine_7 19 rfl rfl)
theorem dX4_readLine_187 : decode cX4_readLine 187 = .ok (.invokevirtual 275, 3) := dk_182 1 19 (dk_at dksX4_readLine_7 21 rfl rfl)
theorem dX4_readLine_190 : decode cX4_readLine 190 = .ok (.iastore, 1) := dk_79 (dk_at dksX4_readLine_8 0 rfl rfl)
theorem dX4_readLine_191 : decode cX4_readLine 191 = .ok (.lload_n 1, 1) := dk_31 (dk_at dksX4_readLine_8 1 rfl rfl)
theorem dX4_readLine_192 : decode cX4_readLine 192 = .ok (.ldc2_w 160, 3) := dk_20 0 160 (dk_at dksX4_readLine_8 2 rfl rfl)
theorem dX4_readLine_195 : decode cX4_readLine 195 = .ok (.lcmp, 1) := dk_148 (dk_at dksX4_readLine_8 5 rfl rfl)
theorem dX4_readLine_196 : decode cX4_readLine 196 = .ok (.ifCond .ne 21, 3) := dk_154 0 21 (dk_at dksX4_readLine_8 6 rfl rfl)
theorem dX4_readLine_199 : decode cX4_readLine 199 = .ok (.aload_n 0, 1) := dk_42 (dk_at dksX4_readLine_8 9 rfl rfl)
theorem dX4_readLine_200 : decode cX4_readLine 200 = .ok (.getfield 36, 3) := dk_180 0 36 (dk_at dksX4_readLine_8 10 rfl rfl)
theorem dX4_readLine_203 : decode cX4_readLine 203 = .ok (.aload_n 0, 1) := dk_42 (dk_at dksX4_readLine_8 13 rfl rfl)
theorem dX4_readLine_204 : decode cX4_readLine 204 = .ok (.getfield 235, 3) := dk_180 0 235 (dk_at dksX4_readLine_8 14 rfl rfl)
theorem dX4_readLine_207 : decode cX4_readLine 207 = .ok (.aload_n 0, 1) := dk_42 (dk_at dksX4_readLine_8 17 rfl rfl)
theorem dX4_readLine_208 : decode cX4_readLine 208 = .ok (.iconst 3, 1) := dk_6 (dk_at dksX4_readLine_8 18 rfl rfl)
theorem dX4_readLine_209 : decode cX4_readLine 209 = .ok (.iconst 0, 1) := dk_3 (dk_at dksX4_readLine_8 19 rfl rfl)
theorem dX4_readLine_210 : decode cX4_readLine 210 = .ok (.sipush 999, 3) := dk_17 3 231 (dk_at dksX4_readLine_8 20 rfl rfl)
theorem dX4_readLine_213 : decode cX4_readLine 213 = .ok (.invokevirtual 275, 3) := dk_182 1 19 (dk_at dksX4_readLine_9 0 rfl rfl)
theorem dX4_readLine_216 : decode cX4_readLine 216 = .ok (.iastore, 1) := dk_79 (dk_at dksX4_readLine_9 3 rfl rfl)
theorem dX4_readLine_217 : decode cX4_readLine 217 = .ok (.aload_n 0, 1) := dk_42 (dk_at dksX4_readLine_9 4 rfl rfl)
theorem dX4_readLine_218 : decode cX4_readLine 218 = .ok (.aload_n 0, 1) := dk_42 (dk_at dksX4_readLine_9 5 rfl rfl)
theorem dX4_readLine_219 : decode cX4_readLine 219 = .ok (.bipush 59, 2) := dk_16 59 (dk_at dksX4_readLine_9 6 rfl rfl)
theorem dX4_readLine_221 : decode cX4_readLine 221 = .ok (.invokevirtual 279, 3) := dk_182 1 23 (dk_at dksX4_readLine_9 8 rfl rfl)
theorem dX4_readLine_224 : decode cX4_readLine 224 = .ok (.invokevirtual 227, 3) := dk_182 0 227 (dk_at dksX4_readLine_9 11 rfl rfl)
theorem dX4_readLine_227 : decode cX4_readLine 227 = .ok (.return_, 1) := dk_177 (dk_at dksX4_readLine_9 14 rfl rfl)
abbrev cX4_isFull : ByteArray := prog_22_method_18_code
def yX4_isFull : MethodName := ⟨RX4, "isFull", "()Z"⟩
def dkwX4_isFull_6 : List UInt8 := [180, 0, 39, 42, 180, 0, 235, 46, 6, 184, 0, 250, 153, 0, 7, 4, 167, 0, 4, 3, 172]
abbrev dktX4_isFull_6 : List UInt8 := dkwX4_isFull_6 ++ []
def dkwX4_isFull_5 : List UInt8 := [180, 0, 39, 42, 180, 0, 235, 46, 5, 184, 0, 250, 172, 42, 20, 0, 160, 182, 0, 224, 153, 0, 19, 42]
abbrev dktX4_isFull_5 : List UInt8 := dkwX4_isFull_5 ++ dktX4_isFull_6
def dkwX4_isFull_4 : List UInt8 := [180, 0, 39, 42, 180, 0, 235, 46, 4, 184, 0, 250, 172, 42, 20, 0, 158, 182, 0, 224, 153, 0, 17, 42]
abbrev dktX4_isFull_4 : List UInt8 := dkwX4_isFull_4 ++ dktX4_isFull_5
def dkwX4_isFull_3 : List UInt8 := [180, 0, 39, 42, 180, 0, 235, 46, 3, 184, 0, 250, 172, 42, 20, 0, 156, 182, 0, 224, 153, 0, 17, 42]
abbrev dktX4_isFull_3 : List UInt8 := dkwX4_isFull_3 ++ dktX4_isFull_4
def dkwX4_isFull_2 : List UInt8 := [16, 6, 160, 0, 7, 4, 167, 0, 4, 3, 172, 42, 20, 0, 154, 182, 0, 224, 153, 0, 17, 42]
abbrev dktX4_isFull_2 : List UInt8 := dkwX4_isFull_2 ++ dktX4_isFull_3
def dkwX4_isFull_1 : List UInt8 := [167, 0, 4, 3, 172, 42, 20, 0, 144, 182, 0, 224, 153, 0, 23, 42, 180, 0, 24, 42, 180, 0, 235, 46]
abbrev dktX4_isFull_1 : List UInt8 := dkwX4_isFull_1 ++ dktX4_isFull_2
def dkwX4_isFull_0 : List UInt8 := [42, 20, 0, 140, 182, 0, 224, 153, 0, 22, 42, 180, 0, 20, 42, 180, 0, 235, 46, 7, 160, 0, 7, 4]
abbrev dktX4_isFull_0 : List UInt8 := dkwX4_isFull_0 ++ dktX4_isFull_1
theorem dksX4_isFull_0 : cX4_isFull.data.toList.drop 0 = dktX4_isFull_0 := by decide +kernel
theorem dksX4_isFull_1 : cX4_isFull.data.toList.drop 24 = dktX4_isFull_1 := dk_seg dksX4_isFull_0 24 rfl rfl
theorem dksX4_isFull_2 : cX4_isFull.data.toList.drop 48 = dktX4_isFull_2 := dk_seg dksX4_isFull_1 24 rfl rfl
theorem dksX4_isFull_3 : cX4_isFull.data.toList.drop 70 = dktX4_isFull_3 := dk_seg dksX4_isFull_2 22 rfl rfl
theorem dksX4_isFull_4 : cX4_isFull.data.toList.drop 94 = dktX4_isFull_4 := dk_seg dksX4_isFull_3 24 rfl rfl
theorem dksX4_isFull_5 : cX4_isFull.data.toList.drop 118 = dktX4_isFull_5 := dk_seg dksX4_isFull_4 24 rfl rfl
theorem dksX4_isFull_6 : cX4_isFull.data.toList.drop 142 = dktX4_isFull_6 := dk_seg dksX4_isFull_5 24 rfl rfl
theorem dX4_isFull_0 : decode cX4_isFull 0 = .ok (.aload_n 0, 1) := dk_42 (dk_at dksX4_isFull_0 0 rfl rfl)
theorem dX4_isFull_1 : decode cX4_isFull 1 = .ok (.ldc2_w 140, 3) := dk_20 0 140 (dk_at dksX4_isFull_0 1 rfl rfl)
theorem dX4_isFull_4 : decode cX4_isFull 4 = .ok (.invokevirtual 224, 3) := dk_182 0 224 (dk_at dksX4_isFull_0 4 rfl rfl)
theorem dX4_isFull_7 : decode cX4_isFull 7 = .ok (.ifCond .eq 22, 3) := dk_153 0 22 (dk_at dksX4_isFull_0 7 rfl rfl)
theorem dX4_isFull_10 : decode cX4_isFull 10 = .ok (.aload_n 0, 1) := dk_42 (dk_at dksX4_isFull_0 10 rfl rfl)
theorem dX4_isFull_11 : decode cX4_isFull 11 = .ok (.getfield 20, 3) := dk_180 0 20 (dk_at dksX4_isFull_0 11 rfl rfl)
theorem dX4_isFull_14 : decode cX4_isFull 14 = .ok (.aload_n 0, 1) := dk_42 (dk_at dksX4_isFull_0 14 rfl rfl)
theorem dX4_isFull_15 : decode cX4_isFull 15 = .ok (.getfield 235, 3) := dk_180 0 235 (dk_at dksX4_isFull_0 15 rfl rfl)
theorem dX4_isFull_18 : decode cX4_isFull 18 = .ok (.iaload, 1) := dk_46 (dk_at dksX4_isFull_0 18 rfl rfl)
theorem dX4_isFull_19 : decode cX4_isFull 19 = .ok (.iconst 4, 1) := dk_7 (dk_at dksX4_isFull_0 19 rfl rfl)
theorem dX4_isFull_20 : decode cX4_isFull 20 = .ok (.if_icmp .ne 7, 3) := dk_160 0 7 (dk_at dksX4_isFull_0 20 rfl rfl)
theorem dX4_isFull_23 : decode cX4_isFull 23 = .ok (.iconst 1, 1) := dk_4 (dk_at dksX4_isFull_0 23 rfl rfl)
theorem dX4_isFull_24 : decode cX4_isFull 24 = .ok (.goto 4, 3) := dk_167 0 4 (dk_at dksX4_isFull_1 0 rfl rfl)
theorem dX4_isFull_27 : decode cX4_isFull 27 = .ok (.iconst 0, 1) := dk_3 (dk_at dksX4_isFull_1 3 rfl rfl)
theorem dX4_isFull_28 : decode cX4_isFull 28 = .ok (.ireturn, 1) := dk_172 (dk_at dksX4_isFull_1 4 rfl rfl)
theorem dX4_isFull_29 : decode cX4_isFull 29 = .ok (.aload_n 0, 1) := dk_42 (dk_at dksX4_isFull_1 5 rfl rfl)
theorem dX4_isFull_30 : decode cX4_isFull 30 = .ok (.ldc2_w 144, 3) := dk_20 0 144 (dk_at dksX4_isFull_1 6 rfl rfl)
theorem dX4_isFull_33 : decode cX4_isFull 33 = .ok (.invokevirtual 224, 3) := dk_182 0 224 (dk_at dksX4_isFull_1 9 rfl rfl)
theorem dX4_isFull_36 : decode cX4_isFull 36 = .ok (.ifCond .eq 23, 3) := dk_153 0 23 (dk_at dksX4_isFull_1 12 rfl rfl)
theorem dX4_isFull_39 : decode cX4_isFull 39 = .ok (.aload_n 0, 1) := dk_42 (dk_at dksX4_isFull_1 15 rfl rfl)
theorem dX4_isFull_40 : decode cX4_isFull 40 = .ok (.getfield 24, 3) := dk_180 0 24 (dk_at dksX4_isFull_1 16 rfl rfl)
theorem dX4_isFull_43 : decode cX4_isFull 43 = .ok (.aload_n 0, 1) := dk_42 (dk_at dksX4_isFull_1 19 rfl rfl)
theorem dX4_isFull_44 : decode cX4_isFull 44 = .ok (.getfield 235, 3) := dk_180 0 235 (dk_at dksX4_isFull_1 20 rfl rfl)
theorem dX4_isFull_47 : decode cX4_isFull 47 = .ok (.iaload, 1) := dk_46 (dk_at dksX4_isFull_1 23 rfl rfl)
theorem dX4_isFull_48 : decode cX4_isFull 48 = .ok (.bipush 6, 2) := dk_16 6 (dk_at dksX4_isFull_2 0 rfl rfl)
theorem dX4_isFull_50 : decode cX4_isFull 50 = .ok (.if_icmp .ne 7, 3) := dk_160 0 7 (dk_at dksX4_isFull_2 2 rfl rfl)
theorem dX4_isFull_53 : decode cX4_isFull 53 = .ok (.iconst 1, 1) := dk_4 (dk_at dksX4_isFull_2 5 rfl rfl)
theorem dX4_isFull_54 : decode cX4_isFull 54 = .ok (.goto 4, 3) := dk_167 0 4 (dk_at dksX4_isFull_2 6 rfl rfl)
theorem dX4_isFull_57 : decode cX4_isFull 57 = .ok (.iconst 0, 1) := dk_3 (dk_at dksX4_isFull_2 9 rfl rfl)
theorem dX4_isFull_58 : decode cX4_isFull 58 = .ok (.ireturn, 1) := dk_172 (dk_at dksX4_isFull_2 10 rfl rfl)
theorem dX4_isFull_59 : decode cX4_isFull 59 = .ok (.aload_n 0, 1) := dk_42 (dk_at dksX4_isFull_2 11 rfl rfl)
theorem dX4_isFull_60 : decode cX4_isFull 60 = .ok (.ldc2_w 154, 3) := dk_20 0 154 (dk_at dksX4_isFull_2 12 rfl rfl)
theorem dX4_isFull_63 : decode cX4_isFull 63 = .ok (.invokevirtual 224, 3) := dk_182 0 224 (dk_at dksX4_isFull_2 15 rfl rfl)
theorem dX4_isFull_66 : decode cX4_isFull 66 = .ok (.ifCond .eq 17, 3) := dk_153 0 17 (dk_at dksX4_isFull_2 18 rfl rfl)
theorem dX4_isFull_69 : decode cX4_isFull 69 = .ok (.aload_n 0, 1) := dk_42 (dk_at dksX4_isFull_2 21 rfl rfl)
theorem dX4_isFull_70 : decode cX4_isFull 70 = .ok (.getfield 39, 3) := dk_180 0 39 (dk_at dksX4_isFull_3 0 rfl rfl)
theorem dX4_isFull_73 : decode cX4_isFull 73 = .ok (.aload_n 0, 1) := dk_42 (dk_at dksX4_isFull_3 3 rfl rfl)
theorem dX4_isFull_74 : decode cX4_isFull 74 = .ok (.getfield 235, 3) := dk_180 0 235 (dk_at dksX4_isFull_3 4 rfl rfl)
theorem dX4_isFull_77 : decode cX4_isFull 77 = .ok (.iaload, 1) := dk_46 (dk_at dksX4_isFull_3 7 rfl rfl)
theorem dX4_isFull_78 : decode cX4_isFull 78 = .ok (.iconst 0, 1) := dk_3 (dk_at dksX4_isFull_3 8 rfl rfl)
theorem dX4_isFull_79 : decode cX4_isFull 79 = .ok (.invokestatic 250, 3) := dk_184 0 250 (dk_at dksX4_isFull_3 9 rfl rfl)
theorem dX4_isFull_82 : decode cX4_isFull 82 = .ok (.ireturn, 1) := dk_172 (dk_at dksX4_isFull_3 12 rfl rfl)
theorem dX4_isFull_83 : decode cX4_isFull 83 = .ok (.aload_n 0, 1) := dk_42 (dk_at dksX4_isFull_3 13 rfl rfl)
theorem dX4_isFull_84 : decode cX4_isFull 84 = .ok (.ldc2_w 156, 3) := dk_20 0 156 (dk_at dksX4_isFull_3 14 rfl rfl)
theorem dX4_isFull_87 : decode cX4_isFull 87 = .ok (.invokevirtual 224, 3) := dk_182 0 224 (dk_at dksX4_isFull_3 17 rfl rfl)
theorem dX4_isFull_90 : decode cX4_isFull 90 = .ok (.ifCond .eq 17, 3) := dk_153 0 17 (dk_at dksX4_isFull_3 20 rfl rfl)
theorem dX4_isFull_93 : decode cX4_isFull 93 = .ok (.aload_n 0, 1) := dk_42 (dk_at dksX4_isFull_3 23 rfl rfl)
theorem dX4_isFull_94 : decode cX4_isFull 94 = .ok (.getfield 39, 3) := dk_180 0 39 (dk_at dksX4_isFull_4 0 rfl rfl)
theorem dX4_isFull_97 : decode cX4_isFull 97 = .ok (.aload_n 0, 1) := dk_42 (dk_at dksX4_isFull_4 3 rfl rfl)
theorem dX4_isFull_98 : decode cX4_isFull 98 = .ok (.getfield 235, 3) := dk_180 0 235 (dk_at dksX4_isFull_4 4 rfl rfl)
theorem dX4_isFull_101 : decode cX4_isFull 101 = .ok (.iaload, 1) := dk_46 (dk_at dksX4_isFull_4 7 rfl rfl)
theorem dX4_isFull_102 : decode cX4_isFull 102 = .ok (.iconst 1, 1) := dk_4 (dk_at dksX4_isFull_4 8 rfl rfl)
theorem dX4_isFull_103 : decode cX4_isFull 103 = .ok (.invokestatic 250, 3) := dk_184 0 250 (dk_at dksX4_isFull_4 9 rfl rfl)
theorem dX4_isFull_106 : decode cX4_isFull 106 = .ok (.ireturn, 1) := dk_172 (dk_at dksX4_isFull_4 12 rfl rfl)
theorem dX4_isFull_107 : decode cX4_isFull 107 = .ok (.aload_n 0, 1) := dk_42 (dk_at dksX4_isFull_4 13 rfl rfl)
theorem dX4_isFull_108 : decode cX4_isFull 108 = .ok (.ldc2_w 158, 3) := dk_20 0 158 (dk_at dksX4_isFull_4 14 rfl rfl)
theorem dX4_isFull_111 : decode cX4_isFull 111 = .ok (.invokevirtual 224, 3) := dk_182 0 224 (dk_at dksX4_isFull_4 17 rfl rfl)
theorem dX4_isFull_114 : decode cX4_isFull 114 = .ok (.ifCond .eq 17, 3) := dk_153 0 17 (dk_at dksX4_isFull_4 20 rfl rfl)
theorem dX4_isFull_117 : decode cX4_isFull 117 = .ok (.aload_n 0, 1) := dk_42 (dk_at dksX4_isFull_4 23 rfl rfl)
theorem dX4_isFull_118 : decode cX4_isFull 118 = .ok (.getfield 39, 3) := dk_180 0 39 (dk_at dksX4_isFull_5 0 rfl rfl)
theorem dX4_isFull_121 : decode cX4_isFull 121 = .ok (.aload_n 0, 1) := dk_42 (dk_at dksX4_isFull_5 3 rfl rfl)
theorem dX4_isFull_122 : decode cX4_isFull 122 = .ok (.getfield 235, 3) := dk_180 0 235 (dk_at dksX4_isFull_5 4 rfl rfl)
theorem dX4_isFull_125 : decode cX4_isFull 125 = .ok (.iaload, 1) := dk_46 (dk_at dksX4_isFull_5 7 rfl rfl)
theorem dX4_isFull_126 : decode cX4_isFull 126 = .ok (.iconst 2, 1) := dk_5 (dk_at dksX4_isFull_5 8 rfl rfl)
theorem dX4_isFull_127 : decode cX4_isFull 127 = .ok (.invokestatic 250, 3) := dk_184 0 250 (dk_at dksX4_isFull_5 9 rfl rfl)
theorem dX4_isFull_130 : decode cX4_isFull 130 = .ok (.ireturn, 1) := dk_172 (dk_at dksX4_isFull_5 12 rfl rfl)
theorem dX4_isFull_131 : decode cX4_isFull 131 = .ok (.aload_n 0, 1) := dk_42 (dk_at dksX4_isFull_5 13 rfl rfl)
theorem dX4_isFull_132 : decode cX4_isFull 132 = .ok (.ldc2_w 160, 3) := dk_20 0 160 (dk_at dksX4_isFull_5 14 rfl rfl)
theorem dX4_isFull_135 : decode cX4_isFull 135 = .ok (.invokevirtual 224, 3) := dk_182 0 224 (dk_at dksX4_isFull_5 17 rfl rfl)
theorem dX4_isFull_138 : decode cX4_isFull 138 = .ok (.ifCond .eq 19, 3) := dk_153 0 19 (dk_at dksX4_isFull_5 20 rfl rfl)
theorem dX4_isFull_141 : decode cX4_isFull 141 = .ok (.aload_n 0, 1) := dk_42 (dk_at dksX4_isFull_5 23 rfl rfl)
theorem dX4_isFull_142 : decode cX4_isFull 142 = .ok (.getfield 39, 3) := dk_180 0 39 (dk_at dksX4_isFull_6 0 rfl rfl)
theorem dX4_isFull_145 : decode cX4_isFull 145 = .ok (.aload_n 0, 1) := dk_42 (dk_at dksX4_isFull_6 3 rfl rfl)
theorem dX4_isFull_146 : decode cX4_isFull 146 = .ok (.getfield 235, 3) := dk_180 0 235 (dk_at dksX4_isFull_6 4 rfl rfl)
theorem dX4_isFull_149 : decode cX4_isFull 149 = .ok (.iaload, 1) := dk_46 (dk_at dksX4_isFull_6 7 rfl rfl)
theorem dX4_isFull_150 : decode cX4_isFull 150 = .ok (.iconst 3, 1) := dk_6 (dk_at dksX4_isFull_6 8 rfl rfl)
theorem dX4_isFull_151 : decode cX4_isFull 151 = .ok (.invokestatic 250, 3) := dk_184 0 250 (dk_at dksX4_isFull_6 9 rfl rfl)
theorem dX4_isFull_154 : decode cX4_isFull 154 = .ok (.ifCond .eq 7, 3) := dk_153 0 7 (dk_at dksX4_isFull_6 12 rfl rfl)
theorem dX4_isFull_157 : decode cX4_isFull 157 = .ok (.iconst 1, 1) := dk_4 (dk_at dksX4_isFull_6 15 rfl rfl)
theorem dX4_isFull_158 : decode cX4_isFull 158 = .ok (.goto 4, 3) := dk_167 0 4 (dk_at dksX4_isFull_6 16 rfl rfl)
theorem dX4_isFull_161 : decode cX4_isFull 161 = .ok (.iconst 0, 1) := dk_3 (dk_at dksX4_isFull_6 19 rfl rfl)
theorem dX4_isFull_162 : decode cX4_isFull 162 = .ok (.ireturn, 1) := dk_172 (dk_at dksX4_isFull_6 20 rfl rfl)
abbrev cX4_isWord : ByteArray := prog_22_method_11_code
def yX4_isWord : MethodName := ⟨RX4, "isWord", "(J)Z"⟩
def dkwX4_isWord_0 : List UInt8 := [42, 180, 0, 186, 6, 160, 0, 16, 42, 180, 0, 193, 31, 148, 154, 0, 7, 4, 167, 0, 4, 3, 172]
abbrev dktX4_isWord_0 : List UInt8 := dkwX4_isWord_0 ++ []
theorem dksX4_isWord_0 : cX4_isWord.data.toList.drop 0 = dktX4_isWord_0 := by decide +kernel
theorem dX4_isWord_0 : decode cX4_isWord 0 = .ok (.aload_n 0, 1) := dk_42 (dk_at dksX4_isWord_0 0 rfl rfl)
theorem dX4_isWord_1 : decode cX4_isWord 1 = .ok (.getfield 186, 3) := dk_180 0 186 (dk_at dksX4_isWord_0 1 rfl rfl)
theorem dX4_isWord_4 : decode cX4_isWord 4 = .ok (.iconst 3, 1) := dk_6 (dk_at dksX4_isWord_0 4 rfl rfl)
theorem dX4_isWord_5 : decode cX4_isWord 5 = .ok (.if_icmp .ne 16, 3) := dk_160 0 16 (dk_at dksX4_isWord_0 5 rfl rfl)
theorem dX4_isWord_8 : decode cX4_isWord 8 = .ok (.aload_n 0, 1) := dk_42 (dk_at dksX4_isWord_0 8 rfl rfl)
theorem dX4_isWord_9 : decode cX4_isWord 9 = .ok (.getfield 193, 3) := dk_180 0 193 (dk_at dksX4_isWord_0 9 rfl rfl)
theorem dX4_isWord_12 : decode cX4_isWord 12 = .ok (.lload_n 1, 1) := dk_31 (dk_at dksX4_isWord_0 12 rfl rfl)
theorem dX4_isWord_13 : decode cX4_isWord 13 = .ok (.lcmp, 1) := dk_148 (dk_at dksX4_isWord_0 13 rfl rfl)
theorem dX4_isWord_14 : decode cX4_isWord 14 = .ok (.ifCond .ne 7, 3) := dk_154 0 7 (dk_at dksX4_isWord_0 14 rfl rfl)
theorem dX4_isWord_17 : decode cX4_isWord 17 = .ok (.iconst 1, 1) := dk_4 (dk_at dksX4_isWord_0 17 rfl rfl)
theorem dX4_isWord_18 : decode cX4_isWord 18 = .ok (.goto 4, 3) := dk_167 0 4 (dk_at dksX4_isWord_0 18 rfl rfl)
theorem dX4_isWord_21 : decode cX4_isWord 21 = .ok (.iconst 0, 1) := dk_3 (dk_at dksX4_isWord_0 21 rfl rfl)
theorem dX4_isWord_22 : decode cX4_isWord 22 = .ok (.ireturn, 1) := dk_172 (dk_at dksX4_isWord_0 22 rfl rfl)
abbrev cX4_bit : ByteArray := prog_22_method_39_code
def yX4_bit : MethodName := ⟨RX4, "bit", "(II)Z"⟩
def dkwX4_bit_0 : List UInt8 := [26, 27, 122, 4, 126, 4, 160, 0, 7, 4, 167, 0, 4, 3, 172]
abbrev dktX4_bit_0 : List UInt8 := dkwX4_bit_0 ++ []
theorem dksX4_bit_0 : cX4_bit.data.toList.drop 0 = dktX4_bit_0 := by decide +kernel
theorem dX4_bit_0 : decode cX4_bit 0 = .ok (.iload_n 0, 1) := dk_26 (dk_at dksX4_bit_0 0 rfl rfl)
theorem dX4_bit_1 : decode cX4_bit 1 = .ok (.iload_n 1, 1) := dk_27 (dk_at dksX4_bit_0 1 rfl rfl)
theorem dX4_bit_2 : decode cX4_bit 2 = .ok (.ishr, 1) := dk_122 (dk_at dksX4_bit_0 2 rfl rfl)
theorem dX4_bit_3 : decode cX4_bit 3 = .ok (.iconst 1, 1) := dk_4 (dk_at dksX4_bit_0 3 rfl rfl)
theorem dX4_bit_4 : decode cX4_bit 4 = .ok (.iand, 1) := dk_126 (dk_at dksX4_bit_0 4 rfl rfl)
theorem dX4_bit_5 : decode cX4_bit 5 = .ok (.iconst 1, 1) := dk_4 (dk_at dksX4_bit_0 5 rfl rfl)
theorem dX4_bit_6 : decode cX4_bit 6 = .ok (.if_icmp .ne 7, 3) := dk_160 0 7 (dk_at dksX4_bit_0 6 rfl rfl)
theorem dX4_bit_9 : decode cX4_bit 9 = .ok (.iconst 1, 1) := dk_4 (dk_at dksX4_bit_0 9 rfl rfl)
theorem dX4_bit_10 : decode cX4_bit 10 = .ok (.goto 4, 3) := dk_167 0 4 (dk_at dksX4_bit_0 10 rfl rfl)
theorem dX4_bit_13 : decode cX4_bit 13 = .ok (.iconst 0, 1) := dk_3 (dk_at dksX4_bit_0 13 rfl rfl)
theorem dX4_bit_14 : decode cX4_bit 14 = .ok (.ireturn, 1) := dk_172 (dk_at dksX4_bit_0 14 rfl rfl)
abbrev cX4_misplaced : ByteArray := prog_22_method_12_code
def yX4_misplaced : MethodName := ⟨RX4, "misplaced", "()V"⟩
def dkwX4_misplaced_0 : List UInt8 := [42, 42, 180, 0, 186, 4, 160, 0, 7, 4, 167, 0, 4, 5, 42, 180, 0, 179, 182, 0, 210, 177]
abbrev dktX4_misplaced_0 : List UInt8 := dkwX4_misplaced_0 ++ []
theorem dksX4_misplaced_0 : cX4_misplaced.data.toList.drop 0 = dktX4_misplaced_0 := by decide +kernel
theorem dX4_misplaced_0 : decode cX4_misplaced 0 = .ok (.aload_n 0, 1) := dk_42 (dk_at dksX4_misplaced_0 0 rfl rfl)
theorem dX4_misplaced_1 : decode cX4_misplaced 1 = .ok (.aload_n 0, 1) := dk_42 (dk_at dksX4_misplaced_0 1 rfl rfl)
theorem dX4_misplaced_2 : decode cX4_misplaced 2 = .ok (.getfield 186, 3) := dk_180 0 186 (dk_at dksX4_misplaced_0 2 rfl rfl)
theorem dX4_misplaced_5 : decode cX4_misplaced 5 = .ok (.iconst 1, 1) := dk_4 (dk_at dksX4_misplaced_0 5 rfl rfl)
theorem dX4_misplaced_6 : decode cX4_misplaced 6 = .ok (.if_icmp .ne 7, 3) := dk_160 0 7 (dk_at dksX4_misplaced_0 6 rfl rfl)
theorem dX4_misplaced_9 : decode cX4_misplaced 9 = .ok (.iconst 1, 1) := dk_4 (dk_at dksX4_misplaced_0 9 rfl rfl)
theorem dX4_misplaced_10 : decode cX4_misplaced 10 = .ok (.goto 4, 3) := dk_167 0 4 (dk_at dksX4_misplaced_0 10 rfl rfl)
theorem dX4_misplaced_13 : decode cX4_misplaced 13 = .ok (.iconst 2, 1) := dk_5 (dk_at dksX4_misplaced_0 13 rfl rfl)
theorem dX4_misplaced_14 : decode cX4_misplaced 14 = .ok (.aload_n 0, 1) := dk_42 (dk_at dksX4_misplaced_0 14 rfl rfl)
theorem dX4_misplaced_15 : decode cX4_misplaced 15 = .ok (.getfield 179, 3) := dk_180 0 179 (dk_at dksX4_misplaced_0 15 rfl rfl)
theorem dX4_misplaced_18 : decode cX4_misplaced 18 = .ok (.invokevirtual 210, 3) := dk_182 0 210 (dk_at dksX4_misplaced_0 18 rfl rfl)
theorem dX4_misplaced_21 : decode cX4_misplaced 21 = .ok (.return_, 1) := dk_177 (dk_at dksX4_misplaced_0 21 rfl rfl)
abbrev cX4_fails : ByteArray := prog_22_method_5_code
def yX4_fails : MethodName := ⟨RX4, "fails", "(II)V"⟩
def dkwX4_fails_0 : List UInt8 := [42, 180, 0, 137, 158, 0, 4, 177, 42, 27, 181, 0, 137, 42, 28, 181, 0, 16, 177]
abbrev dktX4_fails_0 : List UInt8 := dkwX4_fails_0 ++ []
theorem dksX4_fails_0 : cX4_fails.data.toList.drop 0 = dktX4_fails_0 := by decide +kernel
theorem dX4_fails_0 : decode cX4_fails 0 = .ok (.aload_n 0, 1) := dk_42 (dk_at dksX4_fails_0 0 rfl rfl)
theorem dX4_fails_1 : decode cX4_fails 1 = .ok (.getfield 137, 3) := dk_180 0 137 (dk_at dksX4_fails_0 1 rfl rfl)
theorem dX4_fails_4 : decode cX4_fails 4 = .ok (.ifCond .le 4, 3) := dk_158 0 4 (dk_at dksX4_fails_0 4 rfl rfl)
theorem dX4_fails_7 : decode cX4_fails 7 = .ok (.return_, 1) := dk_177 (dk_at dksX4_fails_0 7 rfl rfl)
theorem dX4_fails_8 : decode cX4_fails 8 = .ok (.aload_n 0, 1) := dk_42 (dk_at dksX4_fails_0 8 rfl rfl)
theorem dX4_fails_9 : decode cX4_fails 9 = .ok (.iload_n 1, 1) := dk_27 (dk_at dksX4_fails_0 9 rfl rfl)
theorem dX4_fails_10 : decode cX4_fails 10 = .ok (.putfield 137, 3) := dk_181 0 137 (dk_at dksX4_fails_0 10 rfl rfl)
theorem dX4_fails_13 : decode cX4_fails 13 = .ok (.aload_n 0, 1) := dk_42 (dk_at dksX4_fails_0 13 rfl rfl)
theorem dX4_fails_14 : decode cX4_fails 14 = .ok (.iload_n 2, 1) := dk_28 (dk_at dksX4_fails_0 14 rfl rfl)
theorem dX4_fails_15 : decode cX4_fails 15 = .ok (.putfield 16, 3) := dk_181 0 16 (dk_at dksX4_fails_0 15 rfl rfl)
theorem dX4_fails_18 : decode cX4_fails 18 = .ok (.return_, 1) := dk_177 (dk_at dksX4_fails_0 18 rfl rfl)
abbrev cX4_roomHere : ByteArray := prog_22_method_22_code
def yX4_roomHere : MethodName := ⟨RX4, "roomHere", "()I"⟩
def dkwX4_roomHere_0 : List UInt8 := [42, 42, 180, 0, 63, 7, 42, 180, 0, 235, 104, 42, 180, 0, 20, 42, 180, 0, 235, 46, 182, 1, 26, 172]
abbrev dktX4_roomHere_0 : List UInt8 := dkwX4_roomHere_0 ++ []
theorem dksX4_roomHere_0 : cX4_roomHere.data.toList.drop 0 = dktX4_roomHere_0 := by decide +kernel
theorem dX4_roomHere_0 : decode cX4_roomHere 0 = .ok (.aload_n 0, 1) := dk_42 (dk_at dksX4_roomHere_0 0 rfl rfl)
theorem dX4_roomHere_1 : decode cX4_roomHere 1 = .ok (.aload_n 0, 1) := dk_42 (dk_at dksX4_roomHere_0 1 rfl rfl)
theorem dX4_roomHere_2 : decode cX4_roomHere 2 = .ok (.getfield 63, 3) := dk_180 0 63 (dk_at dksX4_roomHere_0 2 rfl rfl)
theorem dX4_roomHere_5 : decode cX4_roomHere 5 = .ok (.iconst 4, 1) := dk_7 (dk_at dksX4_roomHere_0 5 rfl rfl)
theorem dX4_roomHere_6 : decode cX4_roomHere 6 = .ok (.aload_n 0, 1) := dk_42 (dk_at dksX4_roomHere_0 6 rfl rfl)
theorem dX4_roomHere_7 : decode cX4_roomHere 7 = .ok (.getfield 235, 3) := dk_180 0 235 (dk_at dksX4_roomHere_0 7 rfl rfl)
theorem dX4_roomHere_10 : decode cX4_roomHere 10 = .ok (.imul, 1) := dk_104 (dk_at dksX4_roomHere_0 10 rfl rfl)
theorem dX4_roomHere_11 : decode cX4_roomHere 11 = .ok (.aload_n 0, 1) := dk_42 (dk_at dksX4_roomHere_0 11 rfl rfl)
theorem dX4_roomHere_12 : decode cX4_roomHere 12 = .ok (.getfield 20, 3) := dk_180 0 20 (dk_at dksX4_roomHere_0 12 rfl rfl)
theorem dX4_roomHere_15 : decode cX4_roomHere 15 = .ok (.aload_n 0, 1) := dk_42 (dk_at dksX4_roomHere_0 15 rfl rfl)
theorem dX4_roomHere_16 : decode cX4_roomHere 16 = .ok (.getfield 235, 3) := dk_180 0 235 (dk_at dksX4_roomHere_0 16 rfl rfl)
theorem dX4_roomHere_19 : decode cX4_roomHere 19 = .ok (.iaload, 1) := dk_46 (dk_at dksX4_roomHere_0 19 rfl rfl)
theorem dX4_roomHere_20 : decode cX4_roomHere 20 = .ok (.invokevirtual 282, 3) := dk_182 1 26 (dk_at dksX4_roomHere_0 20 rfl rfl)
theorem dX4_roomHere_23 : decode cX4_roomHere 23 = .ok (.ireturn, 1) := dk_172 (dk_at dksX4_roomHere_0 23 rfl rfl)
abbrev cX4_here : ByteArray := prog_22_method_21_code
def yX4_here : MethodName := ⟨RX4, "here", "([JII)I"⟩
def dkwX4_here_1 : List UInt8 := [180, 0, 193, 148, 154, 0, 6, 21, 4, 172, 132, 4, 1, 167, 255, 222, 2, 172]
abbrev dktX4_here_1 : List UInt8 := dkwX4_here_1 ++ []
def dkwX4_here_0 : List UInt8 := [3, 54, 4, 21, 4, 29, 162, 0, 34, 42, 180, 0, 186, 5, 160, 0, 20, 43, 28, 21, 4, 96, 47, 42]
abbrev dktX4_here_0 : List UInt8 := dkwX4_here_0 ++ dktX4_here_1
theorem dksX4_here_0 : cX4_here.data.toList.drop 0 = dktX4_here_0 := by decide +kernel
theorem dksX4_here_1 : cX4_here.data.toList.drop 24 = dktX4_here_1 := dk_seg dksX4_here_0 24 rfl rfl
theorem dX4_here_0 : decode cX4_here 0 = .ok (.iconst 0, 1) := dk_3 (dk_at dksX4_here_0 0 rfl rfl)
theorem dX4_here_1 : decode cX4_here 1 = .ok (.istore 4, 2) := dk_54 4 (dk_at dksX4_here_0 1 rfl rfl)
theorem dX4_here_3 : decode cX4_here 3 = .ok (.iload 4, 2) := dk_21 4 (dk_at dksX4_here_0 3 rfl rfl)
theorem dX4_here_5 : decode cX4_here 5 = .ok (.iload_n 3, 1) := dk_29 (dk_at dksX4_here_0 5 rfl rfl)
theorem dX4_here_6 : decode cX4_here 6 = .ok (.if_icmp .ge 34, 3) := dk_162 0 34 (dk_at dksX4_here_0 6 rfl rfl)
theorem dX4_here_9 : decode cX4_here 9 = .ok (.aload_n 0, 1) := dk_42 (dk_at dksX4_here_0 9 rfl rfl)
theorem dX4_here_10 : decode cX4_here 10 = .ok (.getfield 186, 3) := dk_180 0 186 (dk_at dksX4_here_0 10 rfl rfl)
theorem dX4_here_13 : decode cX4_here 13 = .ok (.iconst 2, 1) := dk_5 (dk_at dksX4_here_0 13 rfl rfl)
theorem dX4_here_14 : decode cX4_here 14 = .ok (.if_icmp .ne 20, 3) := dk_160 0 20 (dk_at dksX4_here_0 14 rfl rfl)
theorem dX4_here_17 : decode cX4_here 17 = .ok (.aload_n 1, 1) := dk_43 (dk_at dksX4_here_0 17 rfl rfl)
theorem dX4_here_18 : decode cX4_here 18 = .ok (.iload_n 2, 1) := dk_28 (dk_at dksX4_here_0 18 rfl rfl)
theorem dX4_here_19 : decode cX4_here 19 = .ok (.iload 4, 2) := dk_21 4 (dk_at dksX4_here_0 19 rfl rfl)
theorem dX4_here_21 : decode cX4_here 21 = .ok (.iadd, 1) := dk_96 (dk_at dksX4_here_0 21 rfl rfl)
theorem dX4_here_22 : decode cX4_here 22 = .ok (.laload, 1) := dk_47 (dk_at dksX4_here_0 22 rfl rfl)
theorem dX4_here_23 : decode cX4_here 23 = .ok (.aload_n 0, 1) := dk_42 (dk_at dksX4_here_0 23 rfl rfl)
theorem dX4_here_24 : decode cX4_here 24 = .ok (.getfield 193, 3) := dk_180 0 193 (dk_at dksX4_here_1 0 rfl rfl)
theorem dX4_here_27 : decode cX4_here 27 = .ok (.lcmp, 1) := dk_148 (dk_at dksX4_here_1 3 rfl rfl)
theorem dX4_here_28 : decode cX4_here 28 = .ok (.ifCond .ne 6, 3) := dk_154 0 6 (dk_at dksX4_here_1 4 rfl rfl)
theorem dX4_here_31 : decode cX4_here 31 = .ok (.iload 4, 2) := dk_21 4 (dk_at dksX4_here_1 7 rfl rfl)
theorem dX4_here_33 : decode cX4_here 33 = .ok (.ireturn, 1) := dk_172 (dk_at dksX4_here_1 9 rfl rfl)
theorem dX4_here_34 : decode cX4_here 34 = .ok (.iinc 4 1, 3) := dk_132 4 1 (dk_at dksX4_here_1 10 rfl rfl)
theorem dX4_here_37 : decode cX4_here 37 = .ok (.goto (-34), 3) := dk_167 255 222 (dk_at dksX4_here_1 13 rfl rfl)
theorem dX4_here_40 : decode cX4_here 40 = .ok (.iconst (-1), 1) := dk_2 (dk_at dksX4_here_1 16 rfl rfl)
theorem dX4_here_41 : decode cX4_here 41 = .ok (.ireturn, 1) := dk_172 (dk_at dksX4_here_1 17 rfl rfl)
abbrev cX4_fresh : ByteArray := prog_22_method_23_code
def yX4_fresh : MethodName := ⟨RX4, "fresh", "(I)J"⟩
def dkwX4_fresh_2 : List UInt8 := [153, 0, 7, 42, 182, 0, 218, 32, 173]
abbrev dktX4_fresh_2 : List UInt8 := dkwX4_fresh_2 ++ []
def dkwX4_fresh_1 : List UInt8 := [27, 155, 0, 12, 42, 6, 42, 180, 0, 179, 182, 0, 210, 42, 180, 0, 193, 65, 42, 182, 0, 214]
abbrev dktX4_fresh_1 : List UInt8 := dkwX4_fresh_1 ++ dktX4_fresh_2
def dkwX4_fresh_0 : List UInt8 := [42, 182, 0, 214, 154, 0, 5, 9, 173, 42, 180, 0, 186, 5, 159, 0, 10, 42, 182, 0, 221, 167, 0, 16]
abbrev dktX4_fresh_0 : List UInt8 := dkwX4_fresh_0 ++ dktX4_fresh_1
theorem dksX4_fresh_0 : cX4_fresh.data.toList.drop 0 = dktX4_fresh_0 := by decide +kernel
theorem dksX4_fresh_1 : cX4_fresh.data.toList.drop 24 = dktX4_fresh_1 := dk_seg dksX4_fresh_0 24 rfl rfl
theorem dksX4_fresh_2 : cX4_fresh.data.toList.drop 46 = dktX4_fresh_2 := dk_seg dksX4_fresh_1 22 rfl rfl
theorem dX4_fresh_0 : decode cX4_fresh 0 = .ok (.aload_n 0, 1) := dk_42 (dk_at dksX4_fresh_0 0 rfl rfl)
theorem dX4_fresh_1 : decode cX4_fresh 1 = .ok (.invokevirtual 214, 3) := dk_182 0 214 (dk_at dksX4_fresh_0 1 rfl rfl)
theorem dX4_fresh_4 : decode cX4_fresh 4 = .ok (.ifCond .ne 5, 3) := dk_154 0 5 (dk_at dksX4_fresh_0 4 rfl rfl)
theorem dX4_fresh_7 : decode cX4_fresh 7 = .ok (.lconst 0, 1) := dk_9 (dk_at dksX4_fresh_0 7 rfl rfl)
theorem dX4_fresh_8 : decode cX4_fresh 8 = .ok (.lreturn, 1) := dk_173 (dk_at dksX4_fresh_0 8 rfl rfl)
theorem dX4_fresh_9 : decode cX4_fresh 9 = .ok (.aload_n 0, 1) := dk_42 (dk_at dksX4_fresh_0 9 rfl rfl)
theorem dX4_fresh_10 : decode cX4_fresh 10 = .ok (.getfield 186, 3) := dk_180 0 186 (dk_at dksX4_fresh_0 10 rfl rfl)
theorem dX4_fresh_13 : decode cX4_fresh 13 = .ok (.iconst 2, 1) := dk_5 (dk_at dksX4_fresh_0 13 rfl rfl)
theorem dX4_fresh_14 : decode cX4_fresh 14 = .ok (.if_icmp .eq 10, 3) := dk_159 0 10 (dk_at dksX4_fresh_0 14 rfl rfl)
theorem dX4_fresh_17 : decode cX4_fresh 17 = .ok (.aload_n 0, 1) := dk_42 (dk_at dksX4_fresh_0 17 rfl rfl)
theorem dX4_fresh_18 : decode cX4_fresh 18 = .ok (.invokevirtual 221, 3) := dk_182 0 221 (dk_at dksX4_fresh_0 18 rfl rfl)
theorem dX4_fresh_21 : decode cX4_fresh 21 = .ok (.goto 16, 3) := dk_167 0 16 (dk_at dksX4_fresh_0 21 rfl rfl)
theorem dX4_fresh_24 : decode cX4_fresh 24 = .ok (.iload_n 1, 1) := dk_27 (dk_at dksX4_fresh_1 0 rfl rfl)
theorem dX4_fresh_25 : decode cX4_fresh 25 = .ok (.ifCond .lt 12, 3) := dk_155 0 12 (dk_at dksX4_fresh_1 1 rfl rfl)
theorem dX4_fresh_28 : decode cX4_fresh 28 = .ok (.aload_n 0, 1) := dk_42 (dk_at dksX4_fresh_1 4 rfl rfl)
theorem dX4_fresh_29 : decode cX4_fresh 29 = .ok (.iconst 3, 1) := dk_6 (dk_at dksX4_fresh_1 5 rfl rfl)
theorem dX4_fresh_30 : decode cX4_fresh 30 = .ok (.aload_n 0, 1) := dk_42 (dk_at dksX4_fresh_1 6 rfl rfl)
theorem dX4_fresh_31 : decode cX4_fresh 31 = .ok (.getfield 179, 3) := dk_180 0 179 (dk_at dksX4_fresh_1 7 rfl rfl)
theorem dX4_fresh_34 : decode cX4_fresh 34 = .ok (.invokevirtual 210, 3) := dk_182 0 210 (dk_at dksX4_fresh_1 10 rfl rfl)
theorem dX4_fresh_37 : decode cX4_fresh 37 = .ok (.aload_n 0, 1) := dk_42 (dk_at dksX4_fresh_1 13 rfl rfl)
theorem dX4_fresh_38 : decode cX4_fresh 38 = .ok (.getfield 193, 3) := dk_180 0 193 (dk_at dksX4_fresh_1 14 rfl rfl)
theorem dX4_fresh_41 : decode cX4_fresh 41 = .ok (.lstore_n 2, 1) := dk_65 (dk_at dksX4_fresh_1 17 rfl rfl)
theorem dX4_fresh_42 : decode cX4_fresh 42 = .ok (.aload_n 0, 1) := dk_42 (dk_at dksX4_fresh_1 18 rfl rfl)
theorem dX4_fresh_43 : decode cX4_fresh 43 = .ok (.invokevirtual 214, 3) := dk_182 0 214 (dk_at dksX4_fresh_1 19 rfl rfl)
theorem dX4_fresh_46 : decode cX4_fresh 46 = .ok (.ifCond .eq 7, 3) := dk_153 0 7 (dk_at dksX4_fresh_2 0 rfl rfl)
theorem dX4_fresh_49 : decode cX4_fresh 49 = .ok (.aload_n 0, 1) := dk_42 (dk_at dksX4_fresh_2 3 rfl rfl)
theorem dX4_fresh_50 : decode cX4_fresh 50 = .ok (.invokevirtual 218, 3) := dk_182 0 218 (dk_at dksX4_fresh_2 4 rfl rfl)
theorem dX4_fresh_53 : decode cX4_fresh 53 = .ok (.lload_n 2, 1) := dk_32 (dk_at dksX4_fresh_2 7 rfl rfl)
theorem dX4_fresh_54 : decode cX4_fresh 54 = .ok (.lreturn, 1) := dk_173 (dk_at dksX4_fresh_2 8 rfl rfl)
abbrev cX4_after : ByteArray := prog_22_method_15_code
def yX4_after : MethodName := ⟨RX4, "after", "(JII)I"⟩
def dkwX4_after_0 : List UInt8 := [42, 42, 31, 182, 0, 224, 182, 0, 227, 42, 29, 21, 4, 182, 0, 231, 172]
abbrev dktX4_after_0 : List UInt8 := dkwX4_after_0 ++ []
theorem dksX4_after_0 : cX4_after.data.toList.drop 0 = dktX4_after_0 := by decide +kernel
theorem dX4_after_0 : decode cX4_after 0 = .ok (.aload_n 0, 1) := dk_42 (dk_at dksX4_after_0 0 rfl rfl)
theorem dX4_after_1 : decode cX4_after 1 = .ok (.aload_n 0, 1) := dk_42 (dk_at dksX4_after_0 1 rfl rfl)
theorem dX4_after_2 : decode cX4_after 2 = .ok (.lload_n 1, 1) := dk_31 (dk_at dksX4_after_0 2 rfl rfl)
theorem dX4_after_3 : decode cX4_after 3 = .ok (.invokevirtual 224, 3) := dk_182 0 224 (dk_at dksX4_after_0 3 rfl rfl)
theorem dX4_after_6 : decode cX4_after 6 = .ok (.invokevirtual 227, 3) := dk_182 0 227 (dk_at dksX4_after_0 6 rfl rfl)
theorem dX4_after_9 : decode cX4_after 9 = .ok (.aload_n 0, 1) := dk_42 (dk_at dksX4_after_0 9 rfl rfl)
theorem dX4_after_10 : decode cX4_after 10 = .ok (.iload_n 3, 1) := dk_29 (dk_at dksX4_after_0 10 rfl rfl)
theorem dX4_after_11 : decode cX4_after 11 = .ok (.iload 4, 2) := dk_21 4 (dk_at dksX4_after_0 11 rfl rfl)
theorem dX4_after_13 : decode cX4_after 13 = .ok (.invokevirtual 231, 3) := dk_182 0 231 (dk_at dksX4_after_0 13 rfl rfl)
theorem dX4_after_16 : decode cX4_after 16 = .ok (.ireturn, 1) := dk_172 (dk_at dksX4_after_0 16 rfl rfl)
abbrev cX4_must : ByteArray := prog_22_method_13_code
def yX4_must : MethodName := ⟨RX4, "must", "(Z)V"⟩
def dkwX4_must_0 : List UInt8 := [42, 182, 0, 214, 154, 0, 4, 177, 27, 153, 0, 10, 42, 182, 0, 218, 167, 0, 7, 42, 182, 0, 221, 177]
abbrev dktX4_must_0 : List UInt8 := dkwX4_must_0 ++ []
theorem dksX4_must_0 : cX4_must.data.toList.drop 0 = dktX4_must_0 := by decide +kernel
theorem dX4_must_0 : decode cX4_must 0 = .ok (.aload_n 0, 1) := dk_42 (dk_at dksX4_must_0 0 rfl rfl)
theorem dX4_must_1 : decode cX4_must 1 = .ok (.invokevirtual 214, 3) := dk_182 0 214 (dk_at dksX4_must_0 1 rfl rfl)
theorem dX4_must_4 : decode cX4_must 4 = .ok (.ifCond .ne 4, 3) := dk_154 0 4 (dk_at dksX4_must_0 4 rfl rfl)
theorem dX4_must_7 : decode cX4_must 7 = .ok (.return_, 1) := dk_177 (dk_at dksX4_must_0 7 rfl rfl)
theorem dX4_must_8 : decode cX4_must 8 = .ok (.iload_n 1, 1) := dk_27 (dk_at dksX4_must_0 8 rfl rfl)
theorem dX4_must_9 : decode cX4_must 9 = .ok (.ifCond .eq 10, 3) := dk_153 0 10 (dk_at dksX4_must_0 9 rfl rfl)
theorem dX4_must_12 : decode cX4_must 12 = .ok (.aload_n 0, 1) := dk_42 (dk_at dksX4_must_0 12 rfl rfl)
theorem dX4_must_13 : decode cX4_must 13 = .ok (.invokevirtual 218, 3) := dk_182 0 218 (dk_at dksX4_must_0 13 rfl rfl)
theorem dX4_must_16 : decode cX4_must 16 = .ok (.goto 7, 3) := dk_167 0 7 (dk_at dksX4_must_0 16 rfl rfl)
theorem dX4_must_19 : decode cX4_must 19 = .ok (.aload_n 0, 1) := dk_42 (dk_at dksX4_must_0 19 rfl rfl)
theorem dX4_must_20 : decode cX4_must 20 = .ok (.invokevirtual 221, 3) := dk_182 0 221 (dk_at dksX4_must_0 20 rfl rfl)
theorem dX4_must_23 : decode cX4_must 23 = .ok (.return_, 1) := dk_177 (dk_at dksX4_must_0 23 rfl rfl)
abbrev cX4_numeral : ByteArray := prog_22_method_14_code
def yX4_numeral : MethodName := ⟨RX4, "numeral", "(II)I"⟩
def dkwX4_numeral_3 : List UInt8 := [182, 0, 214, 153, 0, 7, 29, 167, 0, 4, 27, 172]
abbrev dktX4_numeral_3 : List UInt8 := dkwX4_numeral_3 ++ []
def dkwX4_numeral_2 : List UInt8 := [42, 180, 0, 179, 182, 0, 210, 42, 180, 0, 204, 62, 42, 182, 0, 214, 153, 0, 7, 42, 182, 0, 218, 42]
abbrev dktX4_numeral_2 : List UInt8 := dkwX4_numeral_2 ++ dktX4_numeral_3
def dkwX4_numeral_1 : List UInt8 := [182, 0, 214, 153, 0, 28, 42, 180, 0, 204, 27, 161, 0, 11, 42, 180, 0, 204, 28, 164, 0, 12, 42, 7]
abbrev dktX4_numeral_1 : List UInt8 := dkwX4_numeral_1 ++ dktX4_numeral_2
def dkwX4_numeral_0 : List UInt8 := [42, 182, 0, 214, 154, 0, 5, 27, 172, 42, 180, 0, 186, 7, 159, 0, 7, 42, 182, 0, 221, 42]
abbrev dktX4_numeral_0 : List UInt8 := dkwX4_numeral_0 ++ dktX4_numeral_1
theorem dksX4_numeral_0 : cX4_numeral.data.toList.drop 0 = dktX4_numeral_0 := by decide +kernel
theorem dksX4_numeral_1 : cX4_numeral.data.toList.drop 22 = dktX4_numeral_1 := dk_seg dksX4_numeral_0 22 rfl rfl
theorem dksX4_numeral_2 : cX4_numeral.data.toList.drop 46 = dktX4_numeral_2 := dk_seg dksX4_numeral_1 24 rfl rfl
theorem dksX4_numeral_3 : cX4_numeral.data.toList.drop 70 = dktX4_numeral_3 := dk_seg dksX4_numeral_2 24 rfl rfl
theorem dX4_numeral_0 : decode cX4_numeral 0 = .ok (.aload_n 0, 1) := dk_42 (dk_at dksX4_numeral_0 0 rfl rfl)
theorem dX4_numeral_1 : decode cX4_numeral 1 = .ok (.invokevirtual 214, 3) := dk_182 0 214 (dk_at dksX4_numeral_0 1 rfl rfl)
theorem dX4_numeral_4 : decode cX4_numeral 4 = .ok (.ifCond .ne 5, 3) := dk_154 0 5 (dk_at dksX4_numeral_0 4 rfl rfl)
theorem dX4_numeral_7 : decode cX4_numeral 7 = .ok (.iload_n 1, 1) := dk_27 (dk_at dksX4_numeral_0 7 rfl rfl)
theorem dX4_numeral_8 : decode cX4_numeral 8 = .ok (.ireturn, 1) := dk_172 (dk_at dksX4_numeral_0 8 rfl rfl)
theorem dX4_numeral_9 : decode cX4_numeral 9 = .ok (.aload_n 0, 1) := dk_42 (dk_at dksX4_numeral_0 9 rfl rfl)
theorem dX4_numeral_10 : decode cX4_numeral 10 = .ok (.getfield 186, 3) := dk_180 0 186 (dk_at dksX4_numeral_0 10 rfl rfl)
theorem dX4_numeral_13 : decode cX4_numeral 13 = .ok (.iconst 4, 1) := dk_7 (dk_at dksX4_numeral_0 13 rfl rfl)
theorem dX4_numeral_14 : decode cX4_numeral 14 = .ok (.if_icmp .eq 7, 3) := dk_159 0 7 (dk_at dksX4_numeral_0 14 rfl rfl)
theorem dX4_numeral_17 : decode cX4_numeral 17 = .ok (.aload_n 0, 1) := dk_42 (dk_at dksX4_numeral_0 17 rfl rfl)
theorem dX4_numeral_18 : decode cX4_numeral 18 = .ok (.invokevirtual 221, 3) := dk_182 0 221 (dk_at dksX4_numeral_0 18 rfl rfl)
theorem dX4_numeral_21 : decode cX4_numeral 21 = .ok (.aload_n 0, 1) := dk_42 (dk_at dksX4_numeral_0 21 rfl rfl)
theorem dX4_numeral_22 : decode cX4_numeral 22 = .ok (.invokevirtual 214, 3) := dk_182 0 214 (dk_at dksX4_numeral_1 0 rfl rfl)
theorem dX4_numeral_25 : decode cX4_numeral 25 = .ok (.ifCond .eq 28, 3) := dk_153 0 28 (dk_at dksX4_numeral_1 3 rfl rfl)
theorem dX4_numeral_28 : decode cX4_numeral 28 = .ok (.aload_n 0, 1) := dk_42 (dk_at dksX4_numeral_1 6 rfl rfl)
theorem dX4_numeral_29 : decode cX4_numeral 29 = .ok (.getfield 204, 3) := dk_180 0 204 (dk_at dksX4_numeral_1 7 rfl rfl)
theorem dX4_numeral_32 : decode cX4_numeral 32 = .ok (.iload_n 1, 1) := dk_27 (dk_at dksX4_numeral_1 10 rfl rfl)
theorem dX4_numeral_33 : decode cX4_numeral 33 = .ok (.if_icmp .lt 11, 3) := dk_161 0 11 (dk_at dksX4_numeral_1 11 rfl rfl)
theorem dX4_numeral_36 : decode cX4_numeral 36 = .ok (.aload_n 0, 1) := dk_42 (dk_at dksX4_numeral_1 14 rfl rfl)
theorem dX4_numeral_37 : decode cX4_numeral 37 = .ok (.getfield 204, 3) := dk_180 0 204 (dk_at dksX4_numeral_1 15 rfl rfl)
theorem dX4_numeral_40 : decode cX4_numeral 40 = .ok (.iload_n 2, 1) := dk_28 (dk_at dksX4_numeral_1 18 rfl rfl)
theorem dX4_numeral_41 : decode cX4_numeral 41 = .ok (.if_icmp .le 12, 3) := dk_164 0 12 (dk_at dksX4_numeral_1 19 rfl rfl)
theorem dX4_numeral_44 : decode cX4_numeral 44 = .ok (.aload_n 0, 1) := dk_42 (dk_at dksX4_numeral_1 22 rfl rfl)
theorem dX4_numeral_45 : decode cX4_numeral 45 = .ok (.iconst 4, 1) := dk_7 (dk_at dksX4_numeral_1 23 rfl rfl)
theorem dX4_numeral_46 : decode cX4_numeral 46 = .ok (.aload_n 0, 1) := dk_42 (dk_at dksX4_numeral_2 0 rfl rfl)
theorem dX4_numeral_47 : decode cX4_numeral 47 = .ok (.getfield 179, 3) := dk_180 0 179 (dk_at dksX4_numeral_2 1 rfl rfl)
theorem dX4_numeral_50 : decode cX4_numeral 50 = .ok (.invokevirtual 210, 3) := dk_182 0 210 (dk_at dksX4_numeral_2 4 rfl rfl)
theorem dX4_numeral_53 : decode cX4_numeral 53 = .ok (.aload_n 0, 1) := dk_42 (dk_at dksX4_numeral_2 7 rfl rfl)
theorem dX4_numeral_54 : decode cX4_numeral 54 = .ok (.getfield 204, 3) := dk_180 0 204 (dk_at dksX4_numeral_2 8 rfl rfl)
theorem dX4_numeral_57 : decode cX4_numeral 57 = .ok (.istore_n 3, 1) := dk_62 (dk_at dksX4_numeral_2 11 rfl rfl)
theorem dX4_numeral_58 : decode cX4_numeral 58 = .ok (.aload_n 0, 1) := dk_42 (dk_at dksX4_numeral_2 12 rfl rfl)
theorem dX4_numeral_59 : decode cX4_numeral 59 = .ok (.invokevirtual 214, 3) := dk_182 0 214 (dk_at dksX4_numeral_2 13 rfl rfl)
theorem dX4_numeral_62 : decode cX4_numeral 62 = .ok (.ifCond .eq 7, 3) := dk_153 0 7 (dk_at dksX4_numeral_2 16 rfl rfl)
theorem dX4_numeral_65 : decode cX4_numeral 65 = .ok (.aload_n 0, 1) := dk_42 (dk_at dksX4_numeral_2 19 rfl rfl)
theorem dX4_numeral_66 : decode cX4_numeral 66 = .ok (.invokevirtual 218, 3) := dk_182 0 218 (dk_at dksX4_numeral_2 20 rfl rfl)
theorem dX4_numeral_69 : decode cX4_numeral 69 = .ok (.aload_n 0, 1) := dk_42 (dk_at dksX4_numeral_2 23 rfl rfl)
theorem dX4_numeral_70 : decode cX4_numeral 70 = .ok (.invokevirtual 214, 3) := dk_182 0 214 (dk_at dksX4_numeral_3 0 rfl rfl)
theorem dX4_numeral_73 : decode cX4_numeral 73 = .ok (.ifCond .eq 7, 3) := dk_153 0 7 (dk_at dksX4_numeral_3 3 rfl rfl)
theorem dX4_numeral_76 : decode cX4_numeral 76 = .ok (.iload_n 3, 1) := dk_29 (dk_at dksX4_numeral_3 6 rfl rfl)
theorem dX4_numeral_77 : decode cX4_numeral 77 = .ok (.goto 4, 3) := dk_167 0 4 (dk_at dksX4_numeral_3 7 rfl rfl)
theorem dX4_numeral_80 : decode cX4_numeral 80 = .ok (.iload_n 1, 1) := dk_27 (dk_at dksX4_numeral_3 10 rfl rfl)
theorem dX4_numeral_81 : decode cX4_numeral 81 = .ok (.ireturn, 1) := dk_172 (dk_at dksX4_numeral_3 11 rfl rfl)
abbrev cX4_readTrunk : ByteArray := prog_22_method_24_code
def yX4_readTrunk : MethodName := ⟨RX4, "readTrunk", "()V"⟩
def dkwX4_readTrunk_12 : List UInt8 := [27, 42, 3, 16, 9, 182, 0, 231, 79, 42, 180, 0, 24, 42, 180, 0, 235, 92, 46, 4, 96, 79, 177]
abbrev dktX4_readTrunk_12 : List UInt8 := dkwX4_readTrunk_12 ++ []
def dkwX4_readTrunk_11 : List UInt8 := [182, 0, 214, 153, 0, 30, 42, 20, 0, 152, 182, 0, 224, 153, 0, 20, 42, 182, 0, 218, 42, 180, 0, 54]
abbrev dktX4_readTrunk_11 : List UInt8 := dkwX4_readTrunk_11 ++ dktX4_readTrunk_12
def dkwX4_readTrunk_10 : List UInt8 := [180, 0, 51, 27, 42, 20, 0, 150, 3, 16, 63, 182, 1, 9, 79, 42, 180, 0, 54, 27, 3, 79, 42]
abbrev dktX4_readTrunk_10 : List UInt8 := dkwX4_readTrunk_10 ++ dktX4_readTrunk_11
def dkwX4_readTrunk_9 : List UInt8 := [180, 0, 48, 27, 28, 79, 42, 42, 180, 0, 186, 5, 160, 0, 7, 4, 167, 0, 4, 3, 182, 0, 227, 42]
abbrev dktX4_readTrunk_9 : List UInt8 := dkwX4_readTrunk_9 ++ dktX4_readTrunk_10
def dkwX4_readTrunk_8 : List UInt8 := [167, 0, 22, 29, 42, 180, 0, 45, 27, 46, 162, 0, 12, 42, 6, 42, 180, 0, 179, 182, 0, 210, 42]
abbrev dktX4_readTrunk_8 : List UInt8 := dkwX4_readTrunk_8 ++ dktX4_readTrunk_9
def dkwX4_readTrunk_7 : List UInt8 := [159, 0, 10, 42, 182, 0, 221, 167, 0, 38, 28, 156, 0, 15, 42, 8, 42, 180, 0, 179, 182, 0, 210]
abbrev dktX4_readTrunk_7 : List UInt8 := dkwX4_readTrunk_7 ++ dktX4_readTrunk_8
def dkwX4_readTrunk_6 : List UInt8 := [42, 180, 0, 45, 21, 4, 46, 167, 0, 4, 3, 100, 62, 132, 4, 1, 167, 255, 222, 42, 180, 0, 186, 5]
abbrev dktX4_readTrunk_6 : List UInt8 := dkwX4_readTrunk_6 ++ dktX4_readTrunk_7
def dkwX4_readTrunk_5 : List UInt8 := [180, 0, 235, 104, 54, 4, 21, 4, 27, 162, 0, 34, 29, 42, 180, 0, 48, 21, 4, 46, 28, 160, 0, 13]
abbrev dktX4_readTrunk_5 : List UInt8 := dkwX4_readTrunk_5 ++ dktX4_readTrunk_6
def dkwX4_readTrunk_4 : List UInt8 := [156, 0, 7, 3, 167, 0, 16, 42, 180, 0, 42, 7, 42, 180, 0, 235, 104, 28, 96, 46, 62, 16, 6, 42]
abbrev dktX4_readTrunk_4 : List UInt8 := dkwX4_readTrunk_4 ++ dktX4_readTrunk_5
def dkwX4_readTrunk_3 : List UInt8 := [20, 0, 148, 182, 0, 224, 182, 0, 227, 42, 182, 0, 214, 154, 0, 4, 177, 42, 182, 1, 1, 61, 28]
abbrev dktX4_readTrunk_3 : List UInt8 := dkwX4_readTrunk_3 ++ dktX4_readTrunk_4
def dkwX4_readTrunk_2 : List UInt8 := [182, 1, 5, 80, 42, 180, 0, 45, 27, 42, 20, 0, 146, 4, 16, 20, 182, 1, 9, 79, 42, 42]
abbrev dktX4_readTrunk_2 : List UInt8 := dkwX4_readTrunk_2 ++ dktX4_readTrunk_3
def dkwX4_readTrunk_1 : List UInt8 := [42, 42, 180, 0, 67, 16, 6, 42, 180, 0, 235, 104, 42, 180, 0, 24, 42, 180, 0, 235, 46, 182, 1, 26]
abbrev dktX4_readTrunk_1 : List UInt8 := dkwX4_readTrunk_1 ++ dktX4_readTrunk_2
def dkwX4_readTrunk_0 : List UInt8 := [16, 6, 42, 180, 0, 235, 104, 42, 180, 0, 24, 42, 180, 0, 235, 46, 96, 60, 42, 180, 0, 67, 27, 42]
abbrev dktX4_readTrunk_0 : List UInt8 := dkwX4_readTrunk_0 ++ dktX4_readTrunk_1
theorem dksX4_readTrunk_0 : cX4_readTrunk.data.toList.drop 0 = dktX4_readTrunk_0 := by decide +kernel
theorem dksX4_readTrunk_1 : cX4_readTrunk.data.toList.drop 24 = dktX4_readTrunk_1 := dk_seg dksX4_readTrunk_0 24 rfl rfl
theorem dksX4_readTrunk_2 : cX4_readTrunk.data.toList.drop 48 = dktX4_readTrunk_2 := dk_seg dksX4_readTrunk_1 24 rfl rfl
theorem dksX4_readTrunk_3 : cX4_readTrunk.data.toList.drop 70 = dktX4_readTrunk_3 := dk_seg dksX4_readTrunk_2 22 rfl rfl
theorem dksX4_readTrunk_4 : cX4_readTrunk.data.toList.drop 93 = dktX4_readTrunk_4 := dk_seg dksX4_readTrunk_3 23 rfl rfl
theorem dksX4_readTrunk_5 : cX4_readTrunk.data.toList.drop 117 = dktX4_readTrunk_5 := dk_seg dksX4_readTrunk_4 24 rfl rfl
theorem dksX4_readTrunk_6 : cX4_readTrunk.data.toList.drop 141 = dktX4_readTrunk_6 := dk_seg dksX4_readTrunk_5 24 rfl rfl
theorem dksX4_readTrunk_7 : cX4_readTrunk.data.toList.drop 165 = dktX4_readTrunk_7 := dk_seg dksX4_readTrunk_6 24 rfl rfl
theorem dksX4_readTrunk_8 : cX4_readTrunk.data.toList.drop 188 = dktX4_readTrunk_8 := dk_seg dksX4_readTrunk_7 23 rfl rfl
theorem dksX4_readTrunk_9 : cX4_readTrunk.data.toList.drop 211 = dktX4_readTrunk_9 := dk_seg dksX4_readTrunk_8 23 rfl rfl
theorem dksX4_readTrunk_10 : cX4_readTrunk.data.toList.drop 235 = dktX4_readTrunk_10 := dk_seg dksX4_readTrunk_9 24 rfl rfl
theorem dksX4_readTrunk_11 : cX4_readTrunk.data.toList.drop 258 = dktX4_readTrunk_11 := dk_seg dksX4_readTrunk_10 23 rfl rfl
theorem dksX4_readTrunk_12 : cX4_readTrunk.data.toList.drop 282 = dktX4_readTrunk_12 := dk_seg dksX4_readTrunk_11 24 rfl rfl
theorem dX4_readTrunk_0 : decode cX4_readTrunk 0 = .ok (.bipush 6, 2) := dk_16 6 (dk_at dksX4_readTrunk_0 0 rfl rfl)
theorem dX4_readTrunk_2 : decode cX4_readTrunk 2 = .ok (.aload_n 0, 1) := dk_42 (dk_at dksX4_readTrunk_0 2 rfl rfl)
theorem dX4_readTrunk_3 : decode cX4_readTrunk 3 = .ok (.getfield 235, 3) := dk_180 0 235 (dk_at dksX4_readTrunk_0 3 rfl rfl)
theorem dX4_readTrunk_6 : decode cX4_readTrunk 6 = .ok (.imul, 1) := dk_104 (dk_at dksX4_readTrunk_0 6 rfl rfl)
theorem dX4_readTrunk_7 : decode cX4_readTrunk 7 = .ok (.aload_n 0, 1) := dk_42 (dk_at dksX4_readTrunk_0 7 rfl rfl)
theorem dX4_readTrunk_8 : decode cX4_readTrunk 8 = .ok (.getfield 24, 3) := dk_180 0 24 (dk_at dksX4_readTrunk_0 8 rfl rfl)
theorem dX4_readTrunk_11 : decode cX4_readTrunk 11 = .ok (.aload_n 0, 1) := dk_42 (dk_at dksX4_readTrunk_0 11 rfl rfl)
theorem dX4_readTrunk_12 : decode cX4_readTrunk 12 = .ok (.getfield 235, 3) := dk_180 0 235 (dk_at dksX4_readTrunk_0 12 rfl rfl)
theorem dX4_readTrunk_15 : decode cX4_readTrunk 15 = .ok (.iaload, 1) := dk_46 (dk_at dksX4_readTrunk_0 15 rfl rfl)
theorem dX4_readTrunk_16 : decode cX4_readTrunk 16 = .ok (.iadd, 1) := dk_96 (dk_at dksX4_readTrunk_0 16 rfl rfl)
theorem dX4_readTrunk_17 : decode cX4_readTrunk 17 = .ok (.istore_n 1, 1) := dk_60 (dk_at dksX4_readTrunk_0 17 rfl rfl)
theorem dX4_readTrunk_18 : decode cX4_readTrunk 18 = .ok (.aload_n 0, 1) := dk_42 (dk_at dksX4_readTrunk_0 18 rfl rfl)
theorem dX4_readTrunk_19 : decode cX4_readTrunk 19 = .ok (.getfield 67, 3) := dk_180 0 67 (dk_at dksX4_readTrunk_0 19 rfl rfl)
theorem dX4_readTrunk_22 : decode cX4_readTrunk 22 = .ok (.iload_n 1, 1) := dk_27 (dk_at dksX4_readTrunk_0 22 rfl rfl)
theorem dX4_readTrunk_23 : decode cX4_readTrunk 23 = .ok (.aload_n 0, 1) := dk_42 (dk_at dksX4_readTrunk_0 23 rfl rfl)
theorem dX4_readTrunk_24 : decode cX4_readTrunk 24 = .ok (.aload_n 0, 1) := dk_42 (dk_at dksX4_readTrunk_1 0 rfl rfl)
theorem dX4_readTrunk_25 : decode cX4_readTrunk 25 = .ok (.aload_n 0, 1) := dk_42 (dk_at dksX4_readTrunk_1 1 rfl rfl)
theorem dX4_readTrunk_26 : decode cX4_readTrunk 26 = .ok (.getfield 67, 3) := dk_180 0 67 (dk_at dksX4_readTrunk_1 2 rfl rfl)
theorem dX4_readTrunk_29 : decode cX4_readTrunk 29 = .ok (.bipush 6, 2) := dk_16 6 (dk_at dksX4_readTrunk_1 5 rfl rfl)
theorem dX4_readTrunk_31 : decode cX4_readTrunk 31 = .ok (.aload_n 0, 1) := dk_42 (dk_at dksX4_readTrunk_1 7 rfl rfl)
theorem dX4_readTrunk_32 : decode cX4_readTrunk 32 = .ok (.getfield 235, 3) := dk_180 0 235 (dk_at dksX4_readTrunk_1 8 rfl rfl)
theorem dX4_readTrunk_35 : decode cX4_readTrunk 35 = .ok (.imul, 1) := dk_104 (dk_at dksX4_readTrunk_1 11 rfl rfl)
theorem dX4_readTrunk_36 : decode cX4_readTrunk 36 = .ok (.aload_n 0, 1) := dk_42 (dk_at dksX4_readTrunk_1 12 rfl rfl)
theorem dX4_readTrunk_37 : decode cX4_readTrunk 37 = .ok (.getfield 24, 3) := dk_180 0 24 (dk_at dksX4_readTrunk_1 13 rfl rfl)
theorem dX4_readTrunk_40 : decode cX4_readTrunk 40 = .ok (.aload_n 0, 1) := dk_42 (dk_at dksX4_readTrunk_1 16 rfl rfl)
theorem dX4_readTrunk_41 : decode cX4_readTrunk 41 = .ok (.getfield 235, 3) := dk_180 0 235 (dk_at dksX4_readTrunk_1 17 rfl rfl)
theorem dX4_readTrunk_44 : decode cX4_readTrunk 44 = .ok (.iaload, 1) := dk_46 (dk_at dksX4_readTrunk_1 20 rfl rfl)
theorem dX4_readTrunk_45 : decode cX4_readTrunk 45 = .ok (.invokevirtual 282, 3) := dk_182 1 26 (dk_at dksX4_readTrunk_1 21 rfl rfl)
theorem dX4_readTrunk_48 : decode cX4_readTrunk 48 = .ok (.invokevirtual 261, 3) := dk_182 1 5 (dk_at dksX4_readTrunk_2 0 rfl rfl)
theorem dX4_readTrunk_51 : decode cX4_readTrunk 51 = .ok (.lastore, 1) := dk_80 (dk_at dksX4_readTrunk_2 3 rfl rfl)
theorem dX4_readTrunk_52 : decode cX4_readTrunk 52 = .ok (.aload_n 0, 1) := dk_42 (dk_at dksX4_readTrunk_2 4 rfl rfl)
theorem dX4_readTrunk_53 : decode cX4_readTrunk 53 = .ok (.getfield 45, 3) := dk_180 0 45 (dk_at dksX4_readTrunk_2 5 rfl rfl)
theorem dX4_readTrunk_56 : decode cX4_readTrunk 56 = .ok (.iload_n 1, 1) := dk_27 (dk_at dksX4_readTrunk_2 8 rfl rfl)
theorem dX4_readTrunk_57 : decode cX4_readTrunk 57 = .ok (.aload_n 0, 1) := dk_42 (dk_at dksX4_readTrunk_2 9 rfl rfl)
theorem dX4_readTrunk_58 : decode cX4_readTrunk 58 = .ok (.ldc2_w 146, 3) := dk_20 0 146 (dk_at dksX4_readTrunk_2 10 rfl rfl)
theorem dX4_readTrunk_61 : decode cX4_readTrunk 61 = .ok (.iconst 1, 1) := dk_4 (dk_at dksX4_readTrunk_2 13 rfl rfl)
theorem dX4_readTrunk_62 : decode cX4_readTrunk 62 = .ok (.bipush 20, 2) := dk_16 20 (dk_at dksX4_readTrunk_2 14 rfl rfl)
theorem dX4_readTrunk_64 : decode cX4_readTrunk 64 = .ok (.invokevirtual 265, 3) := dk_182 1 9 (dk_at dksX4_readTrunk_2 16 rfl rfl)
theorem dX4_readTrunk_67 : decode cX4_readTrunk 67 = .ok (.iastore, 1) := dk_79 (dk_at dksX4_readTrunk_2 19 rfl rfl)
theorem dX4_readTrunk_68 : decode cX4_readTrunk 68 = .ok (.aload_n 0, 1) := dk_42 (dk_at dksX4_readTrunk_2 20 rfl rfl)
theorem dX4_readTrunk_69 : decode cX4_readTrunk 69 = .ok (.aload_n 0, 1) := dk_42 (dk_at dksX4_readTrunk_2 21 rfl rfl)
theorem dX4_readTrunk_70 : decode cX4_readTrunk 70 = .ok (.ldc2_w 148, 3) := dk_20 0 148 (dk_at dksX4_readTrunk_3 0 rfl rfl)
theorem dX4_readTrunk_73 : decode cX4_readTrunk 73 = .ok (.invokevirtual 224, 3) := dk_182 0 224 (dk_at dksX4_readTrunk_3 3 rfl rfl)
theorem dX4_readTrunk_76 : decode cX4_readTrunk 76 = .ok (.invokevirtual 227, 3) := dk_182 0 227 (dk_at dksX4_readTrunk_3 6 rfl rfl)
theorem dX4_readTrunk_79 : decode cX4_readTrunk 79 = .ok (.aload_n 0, 1) := dk_42 (dk_at dksX4_readTrunk_3 9 rfl rfl)
theorem dX4_readTrunk_80 : decode cX4_readTrunk 80 = .ok (.invokevirtual 214, 3) := dk_182 0 214 (dk_at dksX4_readTrunk_3 10 rfl rfl)
theorem dX4_readTrunk_83 : decode cX4_readTrunk 83 = .ok (.ifCond .ne 4, 3) := dk_154 0 4 (dk_at dksX4_readTrunk_3 13 rfl rfl)
theorem dX4_readTrunk_86 : decode cX4_readTrunk 86 = .ok (.return_, 1) := dk_177 (dk_at dksX4_readTrunk_3 16 rfl rfl)
theorem dX4_readTrunk_87 : decode cX4_readTrunk 87 = .ok (.aload_n 0, 1) := dk_42 (dk_at dksX4_readTrunk_3 17 rfl rfl)
theorem dX4_readTrunk_88 : decode cX4_readTrunk 88 = .ok (.invokevirtual 257, 3) := dk_182 1 1 (dk_at dksX4_readTrunk_3 18 rfl rfl)
theorem dX4_readTrunk_91 : decode cX4_readTrunk 91 = .ok (.istore_n 2, 1) := dk_61 (dk_at dksX4_readTrunk_3 21 rfl rfl)
theorem dX4_readTrunk_92 : decode cX4_readTrunk 92 = .ok (.iload_n 2, 1) := dk_28 (dk_at dksX4_readTrunk_3 22 rfl rfl)
theorem dX4_readTrunk_93 : decode cX4_readTrunk 93 = .ok (.ifCond .ge 7, 3) := dk_156 0 7 (dk_at dksX4_readTrunk_4 0 rfl rfl)
theorem dX4_readTrunk_96 : decode cX4_readTrunk 96 = .ok (.iconst 0, 1) := dk_3 (dk_at dksX4_readTrunk_4 3 rfl rfl)
theorem dX4_readTrunk_97 : decode cX4_readTrunk 97 = .ok (.goto 16, 3) := dk_167 0 16 (dk_at dksX4_readTrunk_4 4 rfl rfl)
theorem dX4_readTrunk_100 : decode cX4_readTrunk 100 = .ok (.aload_n 0, 1) := dk_42 (dk_at dksX4_readTrunk_4 7 rfl rfl)
theorem dX4_readTrunk_101 : decode cX4_readTrunk 101 = .ok (.getfield 42, 3) := dk_180 0 42 (dk_at dksX4_readTrunk_4 8 rfl rfl)
theorem dX4_readTrunk_104 : decode cX4_readTrunk 104 = .ok (.iconst 4, 1) := dk_7 (dk_at dksX4_readTrunk_4 11 rfl rfl)
theorem dX4_readTrunk_105 : decode cX4_readTrunk 105 = .ok (.aload_n 0, 1) := dk_42 (dk_at dksX4_readTrunk_4 12 rfl rfl)
theorem dX4_readTrunk_106 : decode cX4_readTrunk 106 = .ok (.getfield 235, 3) := dk_180 0 235 (dk_at dksX4_readTrunk_4 13 rfl rfl)
theorem dX4_readTrunk_109 : decode cX4_readTrunk 109 = .ok (.imul, 1) := dk_104 (dk_at dksX4_readTrunk_4 16 rfl rfl)
theorem dX4_readTrunk_110 : decode cX4_readTrunk 110 = .ok (.iload_n 2, 1) := dk_28 (dk_at dksX4_readTrunk_4 17 rfl rfl)
theorem dX4_readTrunk_111 : decode cX4_readTrunk 111 = .ok (.iadd, 1) := dk_96 (dk_at dksX4_readTrunk_4 18 rfl rfl)
theorem dX4_readTrunk_112 : decode cX4_readTrunk 112 = .ok (.iaload, 1) := dk_46 (dk_at dksX4_readTrunk_4 19 rfl rfl)
theorem dX4_readTrunk_113 : decode cX4_readTrunk 113 = .ok (.istore_n 3, 1) := dk_62 (dk_at dksX4_readTrunk_4 20 rfl rfl)
theorem dX4_readTrunk_114 : decode cX4_readTrunk 114 = .ok (.bipush 6, 2) := dk_16 6 (dk_at dksX4_readTrunk_4 21 rfl rfl)
theorem dX4_readTrunk_116 : decode cX4_readTrunk 116 = .ok (.aload_n 0, 1) := dk_42 (dk_at dksX4_readTrunk_4 23 rfl rfl)
theorem dX4_readTrunk_117 : decode cX4_readTrunk 117 = .ok (.getfield 235, 3) := dk_180 0 235 (dk_at dksX4_readTrunk_5 0 rfl rfl)
theorem dX4_readTrunk_120 : decode cX4_readTrunk 120 = .ok (.imul, 1) := dk_104 (dk_at dksX4_readTrunk_5 3 rfl rfl)
theorem dX4_readTrunk_121 : decode cX4_readTrunk 121 = .ok (.istore 4, 2) := dk_54 4 (dk_at dksX4_readTrunk_5 4 rfl rfl)
theorem dX4_readTrunk_123 : decode cX4_readTrunk 123 = .ok (.iload 4, 2) := dk_21 4 (dk_at dksX4_readTrunk_5 6 rfl rfl)
theorem dX4_readTrunk_125 : decode cX4_readTrunk 125 = .ok (.iload_n 1, 1) := dk_27 (dk_at dksX4_readTrunk_5 8 rfl rfl)
theorem dX4_readTrunk_126 : decode cX4_readTrunk 126 = .ok (.if_icmp .ge 34, 3) := dk_162 0 34 (dk_at dksX4_readTrunk_5 9 rfl rfl)
theorem dX4_readTrunk_129 : decode cX4_readTrunk 129 = .ok (.iload_n 3, 1) := dk_29 (dk_at dksX4_readTrunk_5 12 rfl rfl)
theorem dX4_readTrunk_130 : decode cX4_readTrunk 130 = .ok (.aload_n 0, 1) := dk_42 (dk_at dksX4_readTrunk_5 13 rfl rfl)
theorem dX4_readTrunk_131 : decode cX4_readTrunk 131 = .ok (.getfield 48, 3) := dk_180 0 48 (dk_at dksX4_readTrunk_5 14 rfl rfl)
theorem dX4_readTrunk_134 : decode cX4_readTrunk 134 = .ok (.iload 4, 2) := dk_21 4 (dk_at dksX4_readTrunk_5 17 rfl rfl)
theorem dX4_readTrunk_136 : decode cX4_readTrunk 136 = .ok (.iaload, 1) := dk_46 (dk_at dksX4_readTrunk_5 19 rfl rfl)
theorem dX4_readTrunk_137 : decode cX4_readTrunk 137 = .ok (.iload_n 2, 1) := dk_28 (dk_at dksX4_readTrunk_5 20 rfl rfl)
theorem dX4_readTrunk_138 : decode cX4_readTrunk 138 = .ok (.if_icmp .ne 13, 3) := dk_160 0 13 (dk_at dksX4_readTrunk_5 21 rfl rfl)
theorem dX4_readTrunk_141 : decode cX4_readTrunk 141 = .ok (.aload_n 0, 1) := dk_42 (dk_at dksX4_readTrunk_6 0 rfl rfl)
theorem dX4_readTrunk_142 : decode cX4_readTrunk 142 = .ok (.getfield 45, 3) := dk_180 0 45 (dk_at dksX4_readTrunk_6 1 rfl rfl)
theorem dX4_readTrunk_145 : decode cX4_readTrunk 145 = .ok (.iload 4, 2) := dk_21 4 (dk_at dksX4_readTrunk_6 4 rfl rfl)
theorem dX4_readTrunk_147 : decode cX4_readTrunk 147 = .ok (.iaload, 1) := dk_46 (dk_at dksX4_readTrunk_6 6 rfl rfl)
theorem dX4_readTrunk_148 : decode cX4_readTrunk 148 = .ok (.goto 4, 3) := dk_167 0 4 (dk_at dksX4_readTrunk_6 7 rfl rfl)
theorem dX4_readTrunk_151 : decode cX4_readTrunk 151 = .ok (.iconst 0, 1) := dk_3 (dk_at dksX4_readTrunk_6 10 rfl rfl)
theorem dX4_readTrunk_152 : decode cX4_readTrunk 152 = .ok (.isub, 1) := dk_100 (dk_at dksX4_readTrunk_6 11 rfl rfl)
theorem dX4_readTrunk_153 : decode cX4_readTrunk 153 = .ok (.istore_n 3, 1) := dk_62 (dk_at dksX4_readTrunk_6 12 rfl rfl)
theorem dX4_readTrunk_154 : decode cX4_readTrunk 154 = .ok (.iinc 4 1, 3) := dk_132 4 1 (dk_at dksX4_readTrunk_6 13 rfl rfl)
theorem dX4_readTrunk_157 : decode cX4_readTrunk 157 = .ok (.goto (-34), 3) := dk_167 255 222 (dk_at dksX4_readTrunk_6 16 rfl rfl)
theorem dX4_readTrunk_160 : decode cX4_readTrunk 160 = .ok (.aload_n 0, 1) := dk_42 (dk_at dksX4_readTrunk_6 19 rfl rfl)
theorem dX4_readTrunk_161 : decode cX4_readTrunk 161 = .ok (.getfield 186, 3) := dk_180 0 186 (dk_at dksX4_readTrunk_6 20 rfl rfl)
theorem dX4_readTrunk_164 : decode cX4_readTrunk 164 = .ok (.iconst 2, 1) := dk_5 (dk_at dksX4_readTrunk_6 23 rfl rfl)
theorem dX4_readTrunk_165 : decode cX4_readTrunk 165 = .ok (.if_icmp .eq 10, 3) := dk_159 0 10 (dk_at dksX4_readTrunk_7 0 rfl rfl)
theorem dX4_readTrunk_168 : decode cX4_readTrunk 168 = .ok (.aload_n 0, 1) := dk_42 (dk_at dksX4_readTrunk_7 3 rfl rfl)
theorem dX4_readTrunk_169 : decode cX4_readTrunk 169 = .ok (.invokevirtual 221, 3) := dk_182 0 221 (dk_at dksX4_readTrunk_7 4 rfl rfl)
theorem dX4_readTrunk_172 : decode cX4_readTrunk 172 = .ok (.goto 38, 3) := dk_167 0 38 (dk_at dksX4_readTrunk_7 7 rfl rfl)
theorem dX4_readTrunk_175 : decode cX4_readTrunk 175 = .ok (.iload_n 2, 1) := dk_28 (dk_at dksX4_readTrunk_7 10 rfl rfl)
theorem dX4_readTrunk_176 : decode cX4_readTrunk 176 = .ok (.ifCond .ge 15, 3) := dk_156 0 15 (dk_at dksX4_readTrunk_7 11 rfl rfl)
theorem dX4_readTrunk_179 : decode cX4_readTrunk 179 = .ok (.aload_n 0, 1) := dk_42 (dk_at dksX4_readTrunk_7 14 rfl rfl)
theorem dX4_readTrunk_180 : decode cX4_readTrunk 180 = .ok (.iconst 5, 1) := dk_8 (dk_at dksX4_readTrunk_7 15 rfl rfl)
theorem dX4_readTrunk_181 : decode cX4_readTrunk 181 = .ok (.aload_n 0, 1) := dk_42 (dk_at dksX4_readTrunk_7 16 rfl rfl)
theorem dX4_readTrunk_182 : decode cX4_readTrunk 182 = .ok (.getfield 179, 3) := dk_180 0 179 (dk_at dksX4_readTrunk_7 17 rfl rfl)
theorem dX4_readTrunk_185 : decode cX4_readTrunk 185 = .ok (.invokevirtual 210, 3) := dk_182 0 210 (dk_at dksX4_readTrunk_7 20 rfl rfl)
theorem dX4_readTrunk_188 : decode cX4_readTrunk 188 = .ok (.goto 22, 3) := dk_167 0 22 (dk_at dksX4_readTrunk_8 0 rfl rfl)
theorem dX4_readTrunk_191 : decode cX4_readTrunk 191 = .ok (.iload_n 3, 1) := dk_29 (dk_at dksX4_readTrunk_8 3 rfl rfl)
theorem dX4_readTrunk_192 : decode cX4_readTrunk 192 = .ok (.aload_n 0, 1) := dk_42 (dk_at dksX4_readTrunk_8 4 rfl rfl)
theorem dX4_readTrunk_193 : decode cX4_readTrunk 193 = .ok (.getfield 45, 3) := dk_180 0 45 (dk_at dksX4_readTrunk_8 5 rfl rfl)
theorem dX4_readTrunk_196 : decode cX4_readTrunk 196 = .ok (.iload_n 1, 1) := dk_27 (dk_at dksX4_readTrunk_8 8 rfl rfl)
theorem dX4_readTrunk_197 : decode cX4_readTrunk 197 = .ok (.iaload, 1) := dk_46 (dk_at dksX4_readTrunk_8 9 rfl rfl)
theorem dX4_readTrunk_198 : decode cX4_readTrunk 198 = .ok (.if_icmp .ge 12, 3) := dk_162 0 12 (dk_at dksX4_readTrunk_8 10 rfl rfl)
theorem dX4_readTrunk_201 : decode cX4_readTrunk 201 = .ok (.aload_n 0, 1) := dk_42 (dk_at dksX4_readTrunk_8 13 rfl rfl)
theorem dX4_readTrunk_202 : decode cX4_readTrunk 202 = .ok (.iconst 3, 1) := dk_6 (dk_at dksX4_readTrunk_8 14 rfl rfl)
theorem dX4_readTrunk_203 : decode cX4_readTrunk 203 = .ok (.aload_n 0, 1) := dk_42 (dk_at dksX4_readTrunk_8 15 rfl rfl)
theorem dX4_readTrunk_204 : decode cX4_readTrunk 204 = .ok (.getfield 179, 3) := dk_180 0 179 (dk_at dksX4_readTrunk_8 16 rfl rfl)
theorem dX4_readTrunk_207 : decode cX4_readTrunk 207 = .ok (.invokevirtual 210, 3) := dk_182 0 210 (dk_at dksX4_readTrunk_8 19 rfl rfl)
theorem dX4_readTrunk_210 : decode cX4_readTrunk 210 = .ok (.aload_n 0, 1) := dk_42 (dk_at dksX4_readTrunk_8 22 rfl rfl)
theorem dX4_readTrunk_211 : decode cX4_readTrunk 211 = .ok (.getfield 48, 3) := dk_180 0 48 (dk_at dksX4_readTrunk_9 0 rfl rfl)
theorem dX4_readTrunk_214 : decode cX4_readTrunk 214 = .ok (.iload_n 1, 1) := dk_27 (dk_at dksX4_readTrunk_9 3 rfl rfl)
theorem dX4_readTrunk_215 : decode cX4_readTrunk 215 = .ok (.iload_n 2, 1) := dk_28 (dk_at dksX4_readTrunk_9 4 rfl rfl)
theorem dX4_readTrunk_216 : decode cX4_readTrunk 216 = .ok (.iastore, 1) := dk_79 (dk_at dksX4_readTrunk_9 5 rfl rfl)
theorem dX4_readTrunk_217 : decode cX4_readTrunk 217 = .ok (.aload_n 0, 1) := dk_42 (dk_at dksX4_readTrunk_9 6 rfl rfl)
theorem dX4_readTrunk_218 : decode cX4_readTrunk 218 = .ok (.aload_n 0, 1) := dk_42 (dk_at dksX4_readTrunk_9 7 rfl rfl)
theorem dX4_readTrunk_219 : decode cX4_readTrunk 219 = .ok (.getfield 186, 3) := dk_180 0 186 (dk_at dksX4_readTrunk_9 8 rfl rfl)
theorem dX4_readTrunk_222 : decode cX4_readTrunk 222 = .ok (.iconst 2, 1) := dk_5 (dk_at dksX4_readTrunk_9 11 rfl rfl)
theorem dX4_readTrunk_223 : decode cX4_readTrunk 223 = .ok (.if_icmp .ne 7, 3) := dk_160 0 7 (dk_at dksX4_readTrunk_9 12 rfl rfl)
theorem dX4_readTrunk_226 : decode cX4_readTrunk 226 = .ok (.iconst 1, 1) := dk_4 (dk_at dksX4_readTrunk_9 15 rfl rfl)
theorem dX4_readTrunk_227 : decode cX4_readTrunk 227 = .ok (.goto 4, 3) := dk_167 0 4 (dk_at dksX4_readTrunk_9 16 rfl rfl)
theorem dX4_readTrunk_230 : decode cX4_readTrunk 230 = .ok (.iconst 0, 1) := dk_3 (dk_at dksX4_readTrunk_9 19 rfl rfl)
theorem dX4_readTrunk_231 : decode cX4_readTrunk 231 = .ok (.invokevirtual 227, 3) := dk_182 0 227 (dk_at dksX4_readTrunk_9 20 rfl rfl)
theorem dX4_readTrunk_234 : decode cX4_readTrunk 234 = .ok (.aload_n 0, 1) := dk_42 (dk_at dksX4_readTrunk_9 23 rfl rfl)
theorem dX4_readTrunk_235 : decode cX4_readTrunk 235 = .ok (.getfield 51, 3) := dk_180 0 51 (dk_at dksX4_readTrunk_10 0 rfl rfl)
theorem dX4_readTrunk_238 : decode cX4_readTrunk 238 = .ok (.iload_n 1, 1) := dk_27 (dk_at dksX4_readTrunk_10 3 rfl rfl)
theorem dX4_readTrunk_239 : decode cX4_readTrunk 239 = .ok (.aload_n 0, 1) := dk_42 (dk_at dksX4_readTrunk_10 4 rfl rfl)
theorem dX4_readTrunk_240 : decode cX4_readTrunk 240 = .ok (.ldc2_w 150, 3) := dk_20 0 150 (dk_at dksX4_readTrunk_10 5 rfl rfl)
theorem dX4_readTrunk_243 : decode cX4_readTrunk 243 = .ok (.iconst 0, 1) := dk_3 (dk_at dksX4_readTrunk_10 8 rfl rfl)
theorem dX4_readTrunk_244 : decode cX4_readTrunk 244 = .ok (.bipush 63, 2) := dk_16 63 (dk_at dksX4_readTrunk_10 9 rfl rfl)
theorem dX4_readTrunk_246 : decode cX4_readTrunk 246 = .ok (.invokevirtual 265, 3) := dk_182 1 9 (dk_at dksX4_readTrunk_10 11 rfl rfl)
theorem dX4_readTrunk_249 : decode cX4_readTrunk 249 = .ok (.iastore, 1) := dk_79 (dk_at dksX4_readTrunk_10 14 rfl rfl)
theorem dX4_readTrunk_250 : decode cX4_readTrunk 250 = .ok (.aload_n 0, 1) := dk_42 (dk_at dksX4_readTrunk_10 15 rfl rfl)
theorem dX4_readTrunk_251 : decode cX4_readTrunk 251 = .ok (.getfield 54, 3) := dk_180 0 54 (dk_at dksX4_readTrunk_10 16 rfl rfl)
theorem dX4_readTrunk_254 : decode cX4_readTrunk 254 = .ok (.iload_n 1, 1) := dk_27 (dk_at dksX4_readTrunk_10 19 rfl rfl)
theorem dX4_readTrunk_255 : decode cX4_readTrunk 255 = .ok (.iconst 0, 1) := dk_3 (dk_at dksX4_readTrunk_10 20 rfl rfl)
theorem dX4_readTrunk_256 : decode cX4_readTrunk 256 = .ok (.iastore, 1) := dk_79 (dk_at dksX4_readTrunk_10 21 rfl rfl)
theorem dX4_readTrunk_257 : decode cX4_readTrunk 257 = .ok (.aload_n 0, 1) := dk_42 (dk_at dksX4_readTrunk_10 22 rfl rfl)
theorem dX4_readTrunk_258 : decode cX4_readTrunk 258 = .ok (.invokevirtual 214, 3) := dk_182 0 214 (dk_at dksX4_readTrunk_11 0 rfl rfl)
theorem dX4_readTrunk_261 : decode cX4_readTrunk 261 = .ok (.ifCond .eq 30, 3) := dk_153 0 30 (dk_at dksX4_readTrunk_11 3 rfl rfl)
theorem dX4_readTrunk_264 : decode cX4_readTrunk 264 = .ok (.aload_n 0, 1) := dk_42 (dk_at dksX4_readTrunk_11 6 rfl rfl)
theorem dX4_readTrunk_265 : decode cX4_readTrunk 265 = .ok (.ldc2_w 152, 3) := dk_20 0 152 (dk_at dksX4_readTrunk_11 7 rfl rfl)
theorem dX4_readTrunk_268 : decode cX4_readTrunk 268 = .ok (.invokevirtual 224, 3) := dk_182 0 224 (dk_at dksX4_readTrunk_11 10 rfl rfl)
theorem dX4_readTrunk_271 : decode cX4_readTrunk 271 = .ok (.ifCond .eq 20, 3) := dk_153 0 20 (dk_at dksX4_readTrunk_11 13 rfl rfl)
theorem dX4_readTrunk_274 : decode cX4_readTrunk 274 = .ok (.aload_n 0, 1) := dk_42 (dk_at dksX4_readTrunk_11 16 rfl rfl)
theorem dX4_readTrunk_275 : decode cX4_readTrunk 275 = .ok (.invokevirtual 218, 3) := dk_182 0 218 (dk_at dksX4_readTrunk_11 17 rfl rfl)
theorem dX4_readTrunk_278 : decode cX4_readTrunk 278 = .ok (.aload_n 0, 1) := dk_42 (dk_at dksX4_readTrunk_11 20 rfl rfl)
theorem dX4_readTrunk_279 : decode cX4_readTrunk 279 = .ok (.getfield 54, 3) := dk_180 0 54 (dk_at dksX4_readTrunk_11 21 rfl rfl)
theorem dX4_readTrunk_282 : decode cX4_readTrunk 282 = .ok (.iload_n 1, 1) := dk_27 (dk_at dksX4_readTrunk_12 0 rfl rfl)
theorem dX4_readTrunk_283 : decode cX4_readTrunk 283 = .ok (.aload_n 0, 1) := dk_42 (dk_at dksX4_readTrunk_12 1 rfl rfl)
theorem dX4_readTrunk_284 : decode cX4_readTrunk 284 = .ok (.iconst 0, 1) := dk_3 (dk_at dksX4_readTrunk_12 2 rfl rfl)
theorem dX4_readTrunk_285 : decode cX4_readTrunk 285 = .ok (.bipush 9, 2) := dk_16 9 (dk_at dksX4_readTrunk_12 3 rfl rfl)
theorem dX4_readTrunk_287 : decode cX4_readTrunk 287 = .ok (.invokevirtual 231, 3) := dk_182 0 231 (dk_at dksX4_readTrunk_12 5 rfl rfl)
theorem dX4_readTrunk_290 : decode cX4_readTrunk 290 = .ok (.iastore, 1) := dk_79 (dk_at dksX4_readTrunk_12 8 rfl rfl)
theorem dX4_readTrunk_291 : decode cX4_readTrunk 291 = .ok (.aload_n 0, 1) := dk_42 (dk_at dksX4_readTrunk_12 9 rfl rfl)
theorem dX4_readTrunk_292 : decode cX4_readTrunk 292 = .ok (.getfield 24, 3) := dk_180 0 24 (dk_at dksX4_readTrunk_12 10 rfl rfl)
theorem dX4_readTrunk_295 : decode cX4_readTrunk 295 = .ok (.aload_n 0, 1) := dk_42 (dk_at dksX4_readTrunk_12 13 rfl rfl)
theorem dX4_readTrunk_296 : decode cX4_readTrunk 296 = .ok (.getfield 235, 3) := dk_180 0 235 (dk_at dksX4_readTrunk_12 14 rfl rfl)
theorem dX4_readTrunk_299 : decode cX4_readTrunk 299 = .ok (.dup2, 1) := dk_92 (dk_at dksX4_readTrunk_12 17 rfl rfl)
theorem dX4_readTrunk_300 : decode cX4_readTrunk 300 = .ok (.iaload, 1) := dk_46 (dk_at dksX4_readTrunk_12 18 rfl rfl)
theorem dX4_readTrunk_301 : decode cX4_readTrunk 301 = .ok (.iconst 1, 1) := dk_4 (dk_at dksX4_readTrunk_12 19 rfl rfl)
theorem dX4_readTrunk_302 : decode cX4_readTrunk 302 = .ok (.iadd, 1) := dk_96 (dk_at dksX4_readTrunk_12 20 rfl rfl)
theorem dX4_readTrunk_303 : decode cX4_readTrunk 303 = .ok (.iastore, 1) := dk_79 (dk_at dksX4_readTrunk_12 21 rfl rfl)
theorem dX4_readTrunk_304 : decode cX4_readTrunk 304 = .ok (.return_, 1) := dk_177 (dk_at dksX4_readTrunk_12 22 rfl rfl)
abbrev cX4_readRule : ByteArray := prog_22_method_25_code
def yX4_readRule : MethodName := ⟨RX4, "readRule", "()V"⟩
def dkwX4_readRule_2 : List UInt8 := [79, 177]
abbrev dktX4_readRule_2 : List UInt8 := dkwX4_readRule_2 ++ []
def dkwX4_readRule_1 : List UInt8 := [180, 0, 235, 42, 180, 0, 238, 79, 42, 182, 1, 33, 42, 180, 0, 60, 42, 180, 0, 235, 42, 180, 0, 238]
abbrev dktX4_readRule_1 : List UInt8 := dkwX4_readRule_1 ++ dktX4_readRule_2
def dkwX4_readRule_0 : List UInt8 := [42, 180, 0, 39, 42, 180, 0, 235, 92, 46, 4, 128, 79, 42, 3, 181, 1, 30, 42, 180, 0, 57, 42]
abbrev dktX4_readRule_0 : List UInt8 := dkwX4_readRule_0 ++ dktX4_readRule_1
theorem dksX4_readRule_0 : cX4_readRule.data.toList.drop 0 = dktX4_readRule_0 := by decide +kernel
theorem dksX4_readRule_1 : cX4_readRule.data.toList.drop 23 = dktX4_readRule_1 := dk_seg dksX4_readRule_0 23 rfl rfl
theorem dksX4_readRule_2 : cX4_readRule.data.toList.drop 47 = dktX4_readRule_2 := dk_seg dksX4_readRule_1 24 rfl rfl
theorem dX4_readRule_0 : decode cX4_readRule 0 = .ok (.aload_n 0, 1) := dk_42 (dk_at dksX4_readRule_0 0 rfl rfl)
theorem dX4_readRule_1 : decode cX4_readRule 1 = .ok (.getfield 39, 3) := dk_180 0 39 (dk_at dksX4_readRule_0 1 rfl rfl)
theorem dX4_readRule_4 : decode cX4_readRule 4 = .ok (.aload_n 0, 1) := dk_42 (dk_at dksX4_readRule_0 4 rfl rfl)
theorem dX4_readRule_5 : decode cX4_readRule 5 = .ok (.getfield 235, 3) := dk_180 0 235 (dk_at dksX4_readRule_0 5 rfl rfl)
theorem dX4_readRule_8 : decode cX4_readRule 8 = .ok (.dup2, 1) := dk_92 (dk_at dksX4_readRule_0 8 rfl rfl)
theorem dX4_readRule_9 : decode cX4_readRule 9 = .ok (.iaload, 1) := dk_46 (dk_at dksX4_readRule_0 9 rfl rfl)
theorem dX4_readRule_10 : decode cX4_readRule 10 = .ok (.iconst 1, 1) := dk_4 (dk_at dksX4_readRule_0 10 rfl rfl)
theorem dX4_readRule_11 : decode cX4_readRule 11 = .ok (.ior, 1) := dk_128 (dk_at dksX4_readRule_0 11 rfl rfl)
theorem dX4_readRule_12 : decode cX4_readRule 12 = .ok (.iastore, 1) := dk_79 (dk_at dksX4_readRule_0 12 rfl rfl)
theorem dX4_readRule_13 : decode cX4_readRule 13 = .ok (.aload_n 0, 1) := dk_42 (dk_at dksX4_readRule_0 13 rfl rfl)
theorem dX4_readRule_14 : decode cX4_readRule 14 = .ok (.iconst 0, 1) := dk_3 (dk_at dksX4_readRule_0 14 rfl rfl)
theorem dX4_readRule_15 : decode cX4_readRule 15 = .ok (.putfield 286, 3) := dk_181 1 30 (dk_at dksX4_readRule_0 15 rfl rfl)
theorem dX4_readRule_18 : decode cX4_readRule 18 = .ok (.aload_n 0, 1) := dk_42 (dk_at dksX4_readRule_0 18 rfl rfl)
theorem dX4_readRule_19 : decode cX4_readRule 19 = .ok (.getfield 57, 3) := dk_180 0 57 (dk_at dksX4_readRule_0 19 rfl rfl)
theorem dX4_readRule_22 : decode cX4_readRule 22 = .ok (.aload_n 0, 1) := dk_42 (dk_at dksX4_readRule_0 22 rfl rfl)
theorem dX4_readRule_23 : decode cX4_readRule 23 = .ok (.getfield 235, 3) := dk_180 0 235 (dk_at dksX4_readRule_1 0 rfl rfl)
theorem dX4_readRule_26 : decode cX4_readRule 26 = .ok (.aload_n 0, 1) := dk_42 (dk_at dksX4_readRule_1 3 rfl rfl)
theorem dX4_readRule_27 : decode cX4_readRule 27 = .ok (.getfield 238, 3) := dk_180 0 238 (dk_at dksX4_readRule_1 4 rfl rfl)
theorem dX4_readRule_30 : decode cX4_readRule 30 = .ok (.iastore, 1) := dk_79 (dk_at dksX4_readRule_1 7 rfl rfl)
theorem dX4_readRule_31 : decode cX4_readRule 31 = .ok (.aload_n 0, 1) := dk_42 (dk_at dksX4_readRule_1 8 rfl rfl)
theorem dX4_readRule_32 : decode cX4_readRule 32 = .ok (.invokevirtual 289, 3) := dk_182 1 33 (dk_at dksX4_readRule_1 9 rfl rfl)
theorem dX4_readRule_35 : decode cX4_readRule 35 = .ok (.aload_n 0, 1) := dk_42 (dk_at dksX4_readRule_1 12 rfl rfl)
theorem dX4_readRule_36 : decode cX4_readRule 36 = .ok (.getfield 60, 3) := dk_180 0 60 (dk_at dksX4_readRule_1 13 rfl rfl)
theorem dX4_readRule_39 : decode cX4_readRule 39 = .ok (.aload_n 0, 1) := dk_42 (dk_at dksX4_readRule_1 16 rfl rfl)
theorem dX4_readRule_40 : decode cX4_readRule 40 = .ok (.getfield 235, 3) := dk_180 0 235 (dk_at dksX4_readRule_1 17 rfl rfl)
theorem dX4_readRule_43 : decode cX4_readRule 43 = .ok (.aload_n 0, 1) := dk_42 (dk_at dksX4_readRule_1 20 rfl rfl)
theorem dX4_readRule_44 : decode cX4_readRule 44 = .ok (.getfield 238, 3) := dk_180 0 238 (dk_at dksX4_readRule_1 21 rfl rfl)
theorem dX4_readRule_47 : decode cX4_readRule 47 = .ok (.iastore, 1) := dk_79 (dk_at dksX4_readRule_2 0 rfl rfl)
theorem dX4_readRule_48 : decode cX4_readRule 48 = .ok (.return_, 1) := dk_177 (dk_at dksX4_readRule_2 1 rfl rfl)
abbrev cX4_e : ByteArray := prog_22_method_28_code
def yX4_e : MethodName := ⟨RX4, "e", "()V"⟩
def dkwX4_e_2 : List UInt8 := [182, 1, 48, 60, 167, 255, 226, 177]
abbrev dktX4_e_2 : List UInt8 := dkwX4_e_2 ++ []
def dkwX4_e_1 : List UInt8 := [153, 0, 29, 42, 180, 1, 36, 158, 0, 22, 27, 153, 0, 10, 42, 182, 1, 45, 167, 0, 7, 42]
abbrev dktX4_e_1 : List UInt8 := dkwX4_e_1 ++ dktX4_e_2
def dkwX4_e_0 : List UInt8 := [42, 3, 181, 1, 36, 42, 3, 181, 1, 39, 42, 16, 8, 3, 182, 1, 42, 4, 60, 42, 182, 0, 214]
abbrev dktX4_e_0 : List UInt8 := dkwX4_e_0 ++ dktX4_e_1
theorem dksX4_e_0 : cX4_e.data.toList.drop 0 = dktX4_e_0 := by decide +kernel
theorem dksX4_e_1 : cX4_e.data.toList.drop 23 = dktX4_e_1 := dk_seg dksX4_e_0 23 rfl rfl
theorem dksX4_e_2 : cX4_e.data.toList.drop 45 = dktX4_e_2 := dk_seg dksX4_e_1 22 rfl rfl
theorem dX4_e_0 : decode cX4_e 0 = .ok (.aload_n 0, 1) := dk_42 (dk_at dksX4_e_0 0 rfl rfl)
theorem dX4_e_1 : decode cX4_e 1 = .ok (.iconst 0, 1) := dk_3 (dk_at dksX4_e_0 1 rfl rfl)
theorem dX4_e_2 : decode cX4_e 2 = .ok (.putfield 292, 3) := dk_181 1 36 (dk_at dksX4_e_0 2 rfl rfl)
theorem dX4_e_5 : decode cX4_e 5 = .ok (.aload_n 0, 1) := dk_42 (dk_at dksX4_e_0 5 rfl rfl)
theorem dX4_e_6 : decode cX4_e 6 = .ok (.iconst 0, 1) := dk_3 (dk_at dksX4_e_0 6 rfl rfl)
theorem dX4_e_7 : decode cX4_e 7 = .ok (.putfield 295, 3) := dk_181 1 39 (dk_at dksX4_e_0 7 rfl rfl)
theorem dX4_e_10 : decode cX4_e 10 = .ok (.aload_n 0, 1) := dk_42 (dk_at dksX4_e_0 10 rfl rfl)
theorem dX4_e_11 : decode cX4_e 11 = .ok (.bipush 8, 2) := dk_16 8 (dk_at dksX4_e_0 11 rfl rfl)
theorem dX4_e_13 : decode cX4_e 13 = .ok (.iconst 0, 1) := dk_3 (dk_at dksX4_e_0 13 rfl rfl)
theorem dX4_e_14 : decode cX4_e 14 = .ok (.invokevirtual 298, 3) := dk_182 1 42 (dk_at dksX4_e_0 14 rfl rfl)
theorem dX4_e_17 : decode cX4_e 17 = .ok (.iconst 1, 1) := dk_4 (dk_at dksX4_e_0 17 rfl rfl)
theorem dX4_e_18 : decode cX4_e 18 = .ok (.istore_n 1, 1) := dk_60 (dk_at dksX4_e_0 18 rfl rfl)
theorem dX4_e_19 : decode cX4_e 19 = .ok (.aload_n 0, 1) := dk_42 (dk_at dksX4_e_0 19 rfl rfl)
theorem dX4_e_20 : decode cX4_e 20 = .ok (.invokevirtual 214, 3) := dk_182 0 214 (dk_at dksX4_e_0 20 rfl rfl)
theorem dX4_e_23 : decode cX4_e 23 = .ok (.ifCond .eq 29, 3) := dk_153 0 29 (dk_at dksX4_e_1 0 rfl rfl)
theorem dX4_e_26 : decode cX4_e 26 = .ok (.aload_n 0, 1) := dk_42 (dk_at dksX4_e_1 3 rfl rfl)
theorem dX4_e_27 : decode cX4_e 27 = .ok (.getfield 292, 3) := dk_180 1 36 (dk_at dksX4_e_1 4 rfl rfl)
theorem dX4_e_30 : decode cX4_e 30 = .ok (.ifCond .le 22, 3) := dk_158 0 22 (dk_at dksX4_e_1 7 rfl rfl)
theorem dX4_e_33 : decode cX4_e 33 = .ok (.iload_n 1, 1) := dk_27 (dk_at dksX4_e_1 10 rfl rfl)
theorem dX4_e_34 : decode cX4_e 34 = .ok (.ifCond .eq 10, 3) := dk_153 0 10 (dk_at dksX4_e_1 11 rfl rfl)
theorem dX4_e_37 : decode cX4_e 37 = .ok (.aload_n 0, 1) := dk_42 (dk_at dksX4_e_1 14 rfl rfl)
theorem dX4_e_38 : decode cX4_e 38 = .ok (.invokevirtual 301, 3) := dk_182 1 45 (dk_at dksX4_e_1 15 rfl rfl)
theorem dX4_e_41 : decode cX4_e 41 = .ok (.goto 7, 3) := dk_167 0 7 (dk_at dksX4_e_1 18 rfl rfl)
theorem dX4_e_44 : decode cX4_e 44 = .ok (.aload_n 0, 1) := dk_42 (dk_at dksX4_e_1 21 rfl rfl)
theorem dX4_e_45 : decode cX4_e 45 = .ok (.invokevirtual 304, 3) := dk_182 1 48 (dk_at dksX4_e_2 0 rfl rfl)
theorem dX4_e_48 : decode cX4_e 48 = .ok (.istore_n 1, 1) := dk_60 (dk_at dksX4_e_2 3 rfl rfl)
theorem dX4_e_49 : decode cX4_e 49 = .ok (.goto (-30), 3) := dk_167 255 226 (dk_at dksX4_e_2 4 rfl rfl)
theorem dX4_e_52 : decode cX4_e 52 = .ok (.return_, 1) := dk_177 (dk_at dksX4_e_2 7 rfl rfl)
abbrev cX4_pushE : ByteArray := prog_22_method_27_code
def yX4_pushE : MethodName := ⟨RX4, "pushE", "(II)V"⟩
def dkwX4_pushE_1 : List UInt8 := [180, 1, 36, 4, 96, 181, 1, 36, 177]
abbrev dktX4_pushE_1 : List UInt8 := dkwX4_pushE_1 ++ []
def dkwX4_pushE_0 : List UInt8 := [42, 180, 0, 76, 42, 180, 1, 36, 27, 79, 42, 180, 0, 79, 42, 180, 1, 36, 28, 79, 42, 89]
abbrev dktX4_pushE_0 : List UInt8 := dkwX4_pushE_0 ++ dktX4_pushE_1
theorem dksX4_pushE_0 : cX4_pushE.data.toList.drop 0 = dktX4_pushE_0 := by decide +kernel
theorem dksX4_pushE_1 : cX4_pushE.data.toList.drop 22 = dktX4_pushE_1 := dk_seg dksX4_pushE_0 22 rfl rfl
theorem dX4_pushE_0 : decode cX4_pushE 0 = .ok (.aload_n 0, 1) := dk_42 (dk_at dksX4_pushE_0 0 rfl rfl)
theorem dX4_pushE_1 : decode cX4_pushE 1 = .ok (.getfield 76, 3) := dk_180 0 76 (dk_at dksX4_pushE_0 1 rfl rfl)
theorem dX4_pushE_4 : decode cX4_pushE 4 = .ok (.aload_n 0, 1) := dk_42 (dk_at dksX4_pushE_0 4 rfl rfl)
theorem dX4_pushE_5 : decode cX4_pushE 5 = .ok (.getfield 292, 3) := dk_180 1 36 (dk_at dksX4_pushE_0 5 rfl rfl)
theorem dX4_pushE_8 : decode cX4_pushE 8 = .ok (.iload_n 1, 1) := dk_27 (dk_at dksX4_pushE_0 8 rfl rfl)
theorem dX4_pushE_9 : decode cX4_pushE 9 = .ok (.iastore, 1) := dk_79 (dk_at dksX4_pushE_0 9 rfl rfl)
theorem dX4_pushE_10 : decode cX4_pushE 10 = .ok (.aload_n 0, 1) := dk_42 (dk_at dksX4_pushE_0 10 rfl rfl)
theorem dX4_pushE_11 : decode cX4_pushE 11 = .ok (.getfield 79, 3) := dk_180 0 79 (dk_at dksX4_pushE_0 11 rfl rfl)
theorem dX4_pushE_14 : decode cX4_pushE 14 = .ok (.aload_n 0, 1) := dk_42 (dk_at dksX4_pushE_0 14 rfl rfl)
theorem dX4_pushE_15 : decode cX4_pushE 15 = .ok (.getfield 292, 3) := dk_180 1 36 (dk_at dksX4_pushE_0 15 rfl rfl)
theorem dX4_pushE_18 : decode cX4_pushE 18 = .ok (.iload_n 2, 1) := dk_28 (dk_at dksX4_pushE_0 18 rfl rfl)
theorem dX4_pushE_19 : decode cX4_pushE 19 = .ok (.iastore, 1) := dk_79 (dk_at dksX4_pushE_0 19 rfl rfl)
theorem dX4_pushE_20 : decode cX4_pushE 20 = .ok (.aload_n 0, 1) := dk_42 (dk_at dksX4_pushE_0 20 rfl rfl)
theorem dX4_pushE_21 : decode cX4_pushE 21 = .ok (.dup, 1) := dk_89 (dk_at dksX4_pushE_0 21 rfl rfl)
theorem dX4_pushE_22 : decode cX4_pushE 22 = .ok (.getfield 292, 3) := dk_180 1 36 (dk_at dksX4_pushE_1 0 rfl rfl)
theorem dX4_pushE_25 : decode cX4_pushE 25 = .ok (.iconst 1, 1) := dk_4 (dk_at dksX4_pushE_1 3 rfl rfl)
theorem dX4_pushE_26 : decode cX4_pushE 26 = .ok (.iadd, 1) := dk_96 (dk_at dksX4_pushE_1 4 rfl rfl)
theorem dX4_pushE_27 : decode cX4_pushE 27 = .ok (.putfield 292, 3) := dk_181 1 36 (dk_at dksX4_pushE_1 5 rfl rfl)
theorem dX4_pushE_30 : decode cX4_pushE 30 = .ok (.return_, 1) := dk_177 (dk_at dksX4_pushE_1 8 rfl rfl)
abbrev cX4_unit : ByteArray := prog_22_method_30_code
def yX4_unit : MethodName := ⟨RX4, "unit", "()Z"⟩
def dkwX4_unit_11 : List UInt8 := [167, 0, 5, 21, 4, 21, 6, 182, 1, 54, 3, 172]
abbrev dktX4_unit_11 : List UInt8 := dkwX4_unit_11 ++ []
def dkwX4_unit_10 : List UInt8 := [182, 1, 42, 42, 89, 180, 1, 39, 4, 96, 181, 1, 39, 4, 172, 42, 21, 4, 154, 0, 8, 16, 110]
abbrev dktX4_unit_10 : List UInt8 := dkwX4_unit_10 ++ dktX4_unit_11
def dkwX4_unit_9 : List UInt8 := [182, 0, 218, 28, 154, 0, 7, 29, 153, 0, 31, 42, 28, 153, 0, 7, 6, 167, 0, 5, 16, 7, 16, 126]
abbrev dktX4_unit_9 : List UInt8 := dkwX4_unit_9 ++ dktX4_unit_10
def dkwX4_unit_8 : List UInt8 := [167, 0, 4, 4, 96, 181, 1, 30, 21, 4, 154, 0, 10, 42, 180, 0, 204, 167, 0, 4, 3, 54, 6, 42]
abbrev dktX4_unit_8 : List UInt8 := dkwX4_unit_8 ++ dktX4_unit_9
def dkwX4_unit_7 : List UInt8 := [92, 46, 28, 153, 0, 7, 3, 167, 0, 4, 4, 96, 79, 42, 89, 180, 1, 30, 28, 153, 0, 7, 3]
abbrev dktX4_unit_7 : List UInt8 := dkwX4_unit_7 ++ dktX4_unit_8
def dkwX4_unit_6 : List UInt8 := [160, 0, 7, 42, 182, 0, 221, 42, 182, 0, 214, 154, 0, 5, 4, 172, 42, 180, 0, 27, 42, 180, 0, 235]
abbrev dktX4_unit_6 : List UInt8 := dkwX4_unit_6 ++ dktX4_unit_7
def dkwX4_unit_5 : List UInt8 := [153, 0, 25, 21, 5, 154, 0, 20, 28, 154, 0, 7, 29, 153, 0, 16, 42, 180, 1, 39, 16, 7]
abbrev dktX4_unit_5 : List UInt8 := dkwX4_unit_5 ++ dktX4_unit_6
def dkwX4_unit_4 : List UInt8 := [167, 0, 4, 3, 54, 5, 28, 154, 0, 25, 21, 4, 154, 0, 15, 42, 180, 0, 186, 7, 159, 0, 7, 29]
abbrev dktX4_unit_4 : List UInt8 := dkwX4_unit_4 ++ dktX4_unit_5
def dkwX4_unit_3 : List UInt8 := [180, 0, 27, 42, 180, 0, 235, 46, 16, 60, 159, 0, 12, 42, 180, 1, 30, 16, 30, 160, 0, 7, 4]
abbrev dktX4_unit_3 : List UInt8 := dkwX4_unit_3 ++ dktX4_unit_4
def dkwX4_unit_2 : List UInt8 := [153, 0, 7, 4, 167, 0, 4, 3, 61, 42, 16, 40, 182, 1, 23, 62, 42, 182, 1, 51, 54, 4, 42]
abbrev dktX4_unit_2 : List UInt8 := dkwX4_unit_2 ++ dktX4_unit_3
def dkwX4_unit_1 : List UInt8 := [100, 46, 16, 7, 161, 0, 7, 4, 167, 0, 4, 3, 60, 27, 153, 0, 17, 42, 20, 0, 174, 182, 0, 224]
abbrev dktX4_unit_1 : List UInt8 := dkwX4_unit_1 ++ dktX4_unit_2
def dkwX4_unit_0 : List UInt8 := [42, 180, 0, 76, 42, 180, 1, 36, 4, 100, 46, 6, 164, 0, 19, 42, 180, 0, 76, 42, 180, 1, 36, 4]
abbrev dktX4_unit_0 : List UInt8 := dkwX4_unit_0 ++ dktX4_unit_1
theorem dksX4_unit_0 : cX4_unit.data.toList.drop 0 = dktX4_unit_0 := by decide +kernel
theorem dksX4_unit_1 : cX4_unit.data.toList.drop 24 = dktX4_unit_1 := dk_seg dksX4_unit_0 24 rfl rfl
theorem dksX4_unit_2 : cX4_unit.data.toList.drop 48 = dktX4_unit_2 := dk_seg dksX4_unit_1 24 rfl rfl
theorem dksX4_unit_3 : cX4_unit.data.toList.drop 71 = dktX4_unit_3 := dk_seg dksX4_unit_2 23 rfl rfl
theorem dksX4_unit_4 : cX4_unit.data.toList.drop 94 = dktX4_unit_4 := dk_seg dksX4_unit_3 23 rfl rfl
theorem dksX4_unit_5 : cX4_unit.data.toList.drop 118 = dktX4_unit_5 := dk_seg dksX4_unit_4 24 rfl rfl
theorem dksX4_unit_6 : cX4_unit.data.toList.drop 140 = dktX4_unit_6 := dk_seg dksX4_unit_5 22 rfl rfl
theorem dksX4_unit_7 : cX4_unit.data.toList.drop 164 = dktX4_unit_7 := dk_seg dksX4_unit_6 24 rfl rfl
theorem dksX4_unit_8 : cX4_unit.data.toList.drop 187 = dktX4_unit_8 := dk_seg dksX4_unit_7 23 rfl rfl
theorem dksX4_unit_9 : cX4_unit.data.toList.drop 211 = dktX4_unit_9 := dk_seg dksX4_unit_8 24 rfl rfl
theorem dksX4_unit_10 : cX4_unit.data.toList.drop 235 = dktX4_unit_10 := dk_seg dksX4_unit_9 24 rfl rfl
theorem dksX4_unit_11 : cX4_unit.data.toList.drop 258 = dktX4_unit_11 := dk_seg dksX4_unit_10 23 rfl rfl
theorem dX4_unit_0 : decode cX4_unit 0 = .ok (.aload_n 0, 1) := dk_42 (dk_at dksX4_unit_0 0 rfl rfl)
theorem dX4_unit_1 : decode cX4_unit 1 = .ok (.getfield 76, 3) := dk_180 0 76 (dk_at dksX4_unit_0 1 rfl rfl)
theorem dX4_unit_4 : decode cX4_unit 4 = .ok (.aload_n 0, 1) := dk_42 (dk_at dksX4_unit_0 4 rfl rfl)
theorem dX4_unit_5 : decode cX4_unit 5 = .ok (.getfield 292, 3) := dk_180 1 36 (dk_at dksX4_unit_0 5 rfl rfl)
theorem dX4_unit_8 : decode cX4_unit 8 = .ok (.iconst 1, 1) := dk_4 (dk_at dksX4_unit_0 8 rfl rfl)
theorem dX4_unit_9 : decode cX4_unit 9 = .ok (.isub, 1) := dk_100 (dk_at dksX4_unit_0 9 rfl rfl)
theorem dX4_unit_10 : decode cX4_unit 10 = .ok (.iaload, 1) := dk_46 (dk_at dksX4_unit_0 10 rfl rfl)
theorem dX4_unit_11 : decode cX4_unit 11 = .ok (.iconst 3, 1) := dk_6 (dk_at dksX4_unit_0 11 rfl rfl)
theorem dX4_unit_12 : decode cX4_unit 12 = .ok (.if_icmp .le 19, 3) := dk_164 0 19 (dk_at dksX4_unit_0 12 rfl rfl)
theorem dX4_unit_15 : decode cX4_unit 15 = .ok (.aload_n 0, 1) := dk_42 (dk_at dksX4_unit_0 15 rfl rfl)
theorem dX4_unit_16 : decode cX4_unit 16 = .ok (.getfield 76, 3) := dk_180 0 76 (dk_at dksX4_unit_0 16 rfl rfl)
theorem dX4_unit_19 : decode cX4_unit 19 = .ok (.aload_n 0, 1) := dk_42 (dk_at dksX4_unit_0 19 rfl rfl)
theorem dX4_unit_20 : decode cX4_unit 20 = .ok (.getfield 292, 3) := dk_180 1 36 (dk_at dksX4_unit_0 20 rfl rfl)
theorem dX4_unit_23 : decode cX4_unit 23 = .ok (.iconst 1, 1) := dk_4 (dk_at dksX4_unit_0 23 rfl rfl)
theorem dX4_unit_24 : decode cX4_unit 24 = .ok (.isub, 1) := dk_100 (dk_at dksX4_unit_1 0 rfl rfl)
theorem dX4_unit_25 : decode cX4_unit 25 = .ok (.iaload, 1) := dk_46 (dk_at dksX4_unit_1 1 rfl rfl)
theorem dX4_unit_26 : decode cX4_unit 26 = .ok (.bipush 7, 2) := dk_16 7 (dk_at dksX4_unit_1 2 rfl rfl)
theorem dX4_unit_28 : decode cX4_unit 28 = .ok (.if_icmp .lt 7, 3) := dk_161 0 7 (dk_at dksX4_unit_1 4 rfl rfl)
theorem dX4_unit_31 : decode cX4_unit 31 = .ok (.iconst 1, 1) := dk_4 (dk_at dksX4_unit_1 7 rfl rfl)
theorem dX4_unit_32 : decode cX4_unit 32 = .ok (.goto 4, 3) := dk_167 0 4 (dk_at dksX4_unit_1 8 rfl rfl)
theorem dX4_unit_35 : decode cX4_unit 35 = .ok (.iconst 0, 1) := dk_3 (dk_at dksX4_unit_1 11 rfl rfl)
theorem dX4_unit_36 : decode cX4_unit 36 = .ok (.istore_n 1, 1) := dk_60 (dk_at dksX4_unit_1 12 rfl rfl)
theorem dX4_unit_37 : decode cX4_unit 37 = .ok (.iload_n 1, 1) := dk_27 (dk_at dksX4_unit_1 13 rfl rfl)
theorem dX4_unit_38 : decode cX4_unit 38 = .ok (.ifCond .eq 17, 3) := dk_153 0 17 (dk_at dksX4_unit_1 14 rfl rfl)
theorem dX4_unit_41 : decode cX4_unit 41 = .ok (.aload_n 0, 1) := dk_42 (dk_at dksX4_unit_1 17 rfl rfl)
theorem dX4_unit_42 : decode cX4_unit 42 = .ok (.ldc2_w 174, 3) := dk_20 0 174 (dk_at dksX4_unit_1 18 rfl rfl)
theorem dX4_unit_45 : decode cX4_unit 45 = .ok (.invokevirtual 224, 3) := dk_182 0 224 (dk_at dksX4_unit_1 21 rfl rfl)
theorem dX4_unit_48 : decode cX4_unit 48 = .ok (.ifCond .eq 7, 3) := dk_153 0 7 (dk_at dksX4_unit_2 0 rfl rfl)
theorem dX4_unit_51 : decode cX4_unit 51 = .ok (.iconst 1, 1) := dk_4 (dk_at dksX4_unit_2 3 rfl rfl)
theorem dX4_unit_52 : decode cX4_unit 52 = .ok (.goto 4, 3) := dk_167 0 4 (dk_at dksX4_unit_2 4 rfl rfl)
theorem dX4_unit_55 : decode cX4_unit 55 = .ok (.iconst 0, 1) := dk_3 (dk_at dksX4_unit_2 7 rfl rfl)
theorem dX4_unit_56 : decode cX4_unit 56 = .ok (.istore_n 2, 1) := dk_61 (dk_at dksX4_unit_2 8 rfl rfl)
theorem dX4_unit_57 : decode cX4_unit 57 = .ok (.aload_n 0, 1) := dk_42 (dk_at dksX4_unit_2 9 rfl rfl)
theorem dX4_unit_58 : decode cX4_unit 58 = .ok (.bipush 40, 2) := dk_16 40 (dk_at dksX4_unit_2 10 rfl rfl)
theorem dX4_unit_60 : decode cX4_unit 60 = .ok (.invokevirtual 279, 3) := dk_182 1 23 (dk_at dksX4_unit_2 12 rfl rfl)
theorem dX4_unit_63 : decode cX4_unit 63 = .ok (.istore_n 3, 1) := dk_62 (dk_at dksX4_unit_2 15 rfl rfl)
theorem dX4_unit_64 : decode cX4_unit 64 = .ok (.aload_n 0, 1) := dk_42 (dk_at dksX4_unit_2 16 rfl rfl)
theorem dX4_unit_65 : decode cX4_unit 65 = .ok (.invokevirtual 307, 3) := dk_182 1 51 (dk_at dksX4_unit_2 17 rfl rfl)
theorem dX4_unit_68 : decode cX4_unit 68 = .ok (.istore 4, 2) := dk_54 4 (dk_at dksX4_unit_2 20 rfl rfl)
theorem dX4_unit_70 : decode cX4_unit 70 = .ok (.aload_n 0, 1) := dk_42 (dk_at dksX4_unit_2 22 rfl rfl)
theorem dX4_unit_71 : decode cX4_unit 71 = .ok (.getfield 27, 3) := dk_180 0 27 (dk_at dksX4_unit_3 0 rfl rfl)
theorem dX4_unit_74 : decode cX4_unit 74 = .ok (.aload_n 0, 1) := dk_42 (dk_at dksX4_unit_3 3 rfl rfl)
theorem dX4_unit_75 : decode cX4_unit 75 = .ok (.getfield 235, 3) := dk_180 0 235 (dk_at dksX4_unit_3 4 rfl rfl)
theorem dX4_unit_78 : decode cX4_unit 78 = .ok (.iaload, 1) := dk_46 (dk_at dksX4_unit_3 7 rfl rfl)
theorem dX4_unit_79 : decode cX4_unit 79 = .ok (.bipush 60, 2) := dk_16 60 (dk_at dksX4_unit_3 8 rfl rfl)
theorem dX4_unit_81 : decode cX4_unit 81 = .ok (.if_icmp .eq 12, 3) := dk_159 0 12 (dk_at dksX4_unit_3 10 rfl rfl)
theorem dX4_unit_84 : decode cX4_unit 84 = .ok (.aload_n 0, 1) := dk_42 (dk_at dksX4_unit_3 13 rfl rfl)
theorem dX4_unit_85 : decode cX4_unit 85 = .ok (.getfield 286, 3) := dk_180 1 30 (dk_at dksX4_unit_3 14 rfl rfl)
theorem dX4_unit_88 : decode cX4_unit 88 = .ok (.bipush 30, 2) := dk_16 30 (dk_at dksX4_unit_3 17 rfl rfl)
theorem dX4_unit_90 : decode cX4_unit 90 = .ok (.if_icmp .ne 7, 3) := dk_160 0 7 (dk_at dksX4_unit_3 19 rfl rfl)
theorem dX4_unit_93 : decode cX4_unit 93 = .ok (.iconst 1, 1) := dk_4 (dk_at dksX4_unit_3 22 rfl rfl)
theorem dX4_unit_94 : decode cX4_unit 94 = .ok (.goto 4, 3) := dk_167 0 4 (dk_at dksX4_unit_4 0 rfl rfl)
theorem dX4_unit_97 : decode cX4_unit 97 = .ok (.iconst 0, 1) := dk_3 (dk_at dksX4_unit_4 3 rfl rfl)
theorem dX4_unit_98 : decode cX4_unit 98 = .ok (.istore 5, 2) := dk_54 5 (dk_at dksX4_unit_4 4 rfl rfl)
theorem dX4_unit_100 : decode cX4_unit 100 = .ok (.iload_n 2, 1) := dk_28 (dk_at dksX4_unit_4 6 rfl rfl)
theorem dX4_unit_101 : decode cX4_unit 101 = .ok (.ifCond .ne 25, 3) := dk_154 0 25 (dk_at dksX4_unit_4 7 rfl rfl)
theorem dX4_unit_104 : decode cX4_unit 104 = .ok (.iload 4, 2) := dk_21 4 (dk_at dksX4_unit_4 10 rfl rfl)
theorem dX4_unit_106 : decode cX4_unit 106 = .ok (.ifCond .ne 15, 3) := dk_154 0 15 (dk_at dksX4_unit_4 12 rfl rfl)
theorem dX4_unit_109 : decode cX4_unit 109 = .ok (.aload_n 0, 1) := dk_42 (dk_at dksX4_unit_4 15 rfl rfl)
theorem dX4_unit_110 : decode cX4_unit 110 = .ok (.getfield 186, 3) := dk_180 0 186 (dk_at dksX4_unit_4 16 rfl rfl)
theorem dX4_unit_113 : decode cX4_unit 113 = .ok (.iconst 4, 1) := dk_7 (dk_at dksX4_unit_4 19 rfl rfl)
theorem dX4_unit_114 : decode cX4_unit 114 = .ok (.if_icmp .eq 7, 3) := dk_159 0 7 (dk_at dksX4_unit_4 20 rfl rfl)
theorem dX4_unit_117 : decode cX4_unit 117 = .ok (.iload_n 3, 1) := dk_29 (dk_at dksX4_unit_4 23 rfl rfl)
theorem dX4_unit_118 : decode cX4_unit 118 = .ok (.ifCond .eq 25, 3) := dk_153 0 25 (dk_at dksX4_unit_5 0 rfl rfl)
theorem dX4_unit_121 : decode cX4_unit 121 = .ok (.iload 5, 2) := dk_21 5 (dk_at dksX4_unit_5 3 rfl rfl)
theorem dX4_unit_123 : decode cX4_unit 123 = .ok (.ifCond .ne 20, 3) := dk_154 0 20 (dk_at dksX4_unit_5 5 rfl rfl)
theorem dX4_unit_126 : decode cX4_unit 126 = .ok (.iload_n 2, 1) := dk_28 (dk_at dksX4_unit_5 8 rfl rfl)
theorem dX4_unit_127 : decode cX4_unit 127 = .ok (.ifCond .ne 7, 3) := dk_154 0 7 (dk_at dksX4_unit_5 9 rfl rfl)
theorem dX4_unit_130 : decode cX4_unit 130 = .ok (.iload_n 3, 1) := dk_29 (dk_at dksX4_unit_5 12 rfl rfl)
theorem dX4_unit_131 : decode cX4_unit 131 = .ok (.ifCond .eq 16, 3) := dk_153 0 16 (dk_at dksX4_unit_5 13 rfl rfl)
theorem dX4_unit_134 : decode cX4_unit 134 = .ok (.aload_n 0, 1) := dk_42 (dk_at dksX4_unit_5 16 rfl rfl)
theorem dX4_unit_135 : decode cX4_unit 135 = .ok (.getfield 295, 3) := dk_180 1 39 (dk_at dksX4_unit_5 17 rfl rfl)
theorem dX4_unit_138 : decode cX4_unit 138 = .ok (.bipush 7, 2) := dk_16 7 (dk_at dksX4_unit_5 20 rfl rfl)
theorem dX4_unit_140 : decode cX4_unit 140 = .ok (.if_icmp .ne 7, 3) := dk_160 0 7 (dk_at dksX4_unit_6 0 rfl rfl)
theorem dX4_unit_143 : decode cX4_unit 143 = .ok (.aload_n 0, 1) := dk_42 (dk_at dksX4_unit_6 3 rfl rfl)
theorem dX4_unit_144 : decode cX4_unit 144 = .ok (.invokevirtual 221, 3) := dk_182 0 221 (dk_at dksX4_unit_6 4 rfl rfl)
theorem dX4_unit_147 : decode cX4_unit 147 = .ok (.aload_n 0, 1) := dk_42 (dk_at dksX4_unit_6 7 rfl rfl)
theorem dX4_unit_148 : decode cX4_unit 148 = .ok (.invokevirtual 214, 3) := dk_182 0 214 (dk_at dksX4_unit_6 8 rfl rfl)
theorem dX4_unit_151 : decode cX4_unit 151 = .ok (.ifCond .ne 5, 3) := dk_154 0 5 (dk_at dksX4_unit_6 11 rfl rfl)
theorem dX4_unit_154 : decode cX4_unit 154 = .ok (.iconst 1, 1) := dk_4 (dk_at dksX4_unit_6 14 rfl rfl)
theorem dX4_unit_155 : decode cX4_unit 155 = .ok (.ireturn, 1) := dk_172 (dk_at dksX4_unit_6 15 rfl rfl)
theorem dX4_unit_156 : decode cX4_unit 156 = .ok (.aload_n 0, 1) := dk_42 (dk_at dksX4_unit_6 16 rfl rfl)
theorem dX4_unit_157 : decode cX4_unit 157 = .ok (.getfield 27, 3) := dk_180 0 27 (dk_at dksX4_unit_6 17 rfl rfl)
theorem dX4_unit_160 : decode cX4_unit 160 = .ok (.aload_n 0, 1) := dk_42 (dk_at dksX4_unit_6 20 rfl rfl)
theorem dX4_unit_161 : decode cX4_unit 161 = .ok (.getfield 235, 3) := dk_180 0 235 (dk_at dksX4_unit_6 21 rfl rfl)
theorem dX4_unit_164 : decode cX4_unit 164 = .ok (.dup2, 1) := dk_92 (dk_at dksX4_unit_7 0 rfl rfl)
theorem dX4_unit_165 : decode cX4_unit 165 = .ok (.iaload, 1) := dk_46 (dk_at dksX4_unit_7 1 rfl rfl)
theorem dX4_unit_166 : decode cX4_unit 166 = .ok (.iload_n 2, 1) := dk_28 (dk_at dksX4_unit_7 2 rfl rfl)
theorem dX4_unit_167 : decode cX4_unit 167 = .ok (.ifCond .eq 7, 3) := dk_153 0 7 (dk_at dksX4_unit_7 3 rfl rfl)
theorem dX4_unit_170 : decode cX4_unit 170 = .ok (.iconst 0, 1) := dk_3 (dk_at dksX4_unit_7 6 rfl rfl)
theorem dX4_unit_171 : decode cX4_unit 171 = .ok (.goto 4, 3) := dk_167 0 4 (dk_at dksX4_unit_7 7 rfl rfl)
theorem dX4_unit_174 : decode cX4_unit 174 = .ok (.iconst 1, 1) := dk_4 (dk_at dksX4_unit_7 10 rfl rfl)
theorem dX4_unit_175 : decode cX4_unit 175 = .ok (.iadd, 1) := dk_96 (dk_at dksX4_unit_7 11 rfl rfl)
theorem dX4_unit_176 : decode cX4_unit 176 = .ok (.iastore, 1) := dk_79 (dk_at dksX4_unit_7 12 rfl rfl)
theorem dX4_unit_177 : decode cX4_unit 177 = .ok (.aload_n 0, 1) := dk_42 (dk_at dksX4_unit_7 13 rfl rfl)
theorem dX4_unit_178 : decode cX4_unit 178 = .ok (.dup, 1) := dk_89 (dk_at dksX4_unit_7 14 rfl rfl)
theorem dX4_unit_179 : decode cX4_unit 179 = .ok (.getfield 286, 3) := dk_180 1 30 (dk_at dksX4_unit_7 15 rfl rfl)
theorem dX4_unit_182 : decode cX4_unit 182 = .ok (.iload_n 2, 1) := dk_28 (dk_at dksX4_unit_7 18 rfl rfl)
theorem dX4_unit_183 : decode cX4_unit 183 = .ok (.ifCond .eq 7, 3) := dk_153 0 7 (dk_at dksX4_unit_7 19 rfl rfl)
theorem dX4_unit_186 : decode cX4_unit 186 = .ok (.iconst 0, 1) := dk_3 (dk_at dksX4_unit_7 22 rfl rfl)
theorem dX4_unit_187 : decode cX4_unit 187 = .ok (.goto 4, 3) := dk_167 0 4 (dk_at dksX4_unit_8 0 rfl rfl)
theorem dX4_unit_190 : decode cX4_unit 190 = .ok (.iconst 1, 1) := dk_4 (dk_at dksX4_unit_8 3 rfl rfl)
theorem dX4_unit_191 : decode cX4_unit 191 = .ok (.iadd, 1) := dk_96 (dk_at dksX4_unit_8 4 rfl rfl)
theorem dX4_unit_192 : decode cX4_unit 192 = .ok (.putfield 286, 3) := dk_181 1 30 (dk_at dksX4_unit_8 5 rfl rfl)
theorem dX4_unit_195 : decode cX4_unit 195 = .ok (.iload 4, 2) := dk_21 4 (dk_at dksX4_unit_8 8 rfl rfl)
theorem dX4_unit_197 : decode cX4_unit 197 = .ok (.ifCond .ne 10, 3) := dk_154 0 10 (dk_at dksX4_unit_8 10 rfl rfl)
theorem dX4_unit_200 : decode cX4_unit 200 = .ok (.aload_n 0, 1) := dk_42 (dk_at dksX4_unit_8 13 rfl rfl)
theorem dX4_unit_201 : decode cX4_unit 201 = .ok (.getfield 204, 3) := dk_180 0 204 (dk_at dksX4_unit_8 14 rfl rfl)
theorem dX4_unit_204 : decode cX4_unit 204 = .ok (.goto 4, 3) := dk_167 0 4 (dk_at dksX4_unit_8 17 rfl rfl)
theorem dX4_unit_207 : decode cX4_unit 207 = .ok (.iconst 0, 1) := dk_3 (dk_at dksX4_unit_8 20 rfl rfl)
theorem dX4_unit_208 : decode cX4_unit 208 = .ok (.istore 6, 2) := dk_54 6 (dk_at dksX4_unit_8 21 rfl rfl)
theorem dX4_unit_210 : decode cX4_unit 210 = .ok (.aload_n 0, 1) := dk_42 (dk_at dksX4_unit_8 23 rfl rfl)
theorem dX4_unit_211 : decode cX4_unit 211 = .ok (.invokevirtual 218, 3) := dk_182 0 218 (dk_at dksX4_unit_9 0 rfl rfl)
theorem dX4_unit_214 : decode cX4_unit 214 = .ok (.iload_n 2, 1) := dk_28 (dk_at dksX4_unit_9 3 rfl rfl)
theorem dX4_unit_215 : decode cX4_unit 215 = .ok (.ifCond .ne 7, 3) := dk_154 0 7 (dk_at dksX4_unit_9 4 rfl rfl)
theorem dX4_unit_218 : decode cX4_unit 218 = .ok (.iload_n 3, 1) := dk_29 (dk_at dksX4_unit_9 7 rfl rfl)
theorem dX4_unit_219 : decode cX4_unit 219 = .ok (.ifCond .eq 31, 3) := dk_153 0 31 (dk_at dksX4_unit_9 8 rfl rfl)
theorem dX4_unit_222 : decode cX4_unit 222 = .ok (.aload_n 0, 1) := dk_42 (dk_at dksX4_unit_9 11 rfl rfl)
theorem dX4_unit_223 : decode cX4_unit 223 = .ok (.iload_n 2, 1) := dk_28 (dk_at dksX4_unit_9 12 rfl rfl)
theorem dX4_unit_224 : decode cX4_unit 224 = .ok (.ifCond .eq 7, 3) := dk_153 0 7 (dk_at dksX4_unit_9 13 rfl rfl)
theorem dX4_unit_227 : decode cX4_unit 227 = .ok (.iconst 3, 1) := dk_6 (dk_at dksX4_unit_9 16 rfl rfl)
theorem dX4_unit_228 : decode cX4_unit 228 = .ok (.goto 5, 3) := dk_167 0 5 (dk_at dksX4_unit_9 17 rfl rfl)
theorem dX4_unit_231 : decode cX4_unit 231 = .ok (.bipush 7, 2) := dk_16 7 (dk_at dksX4_unit_9 20 rfl rfl)
theorem dX4_unit_233 : decode cX4_unit 233 = .ok (.bipush 126, 2) := dk_16 126 (dk_at dksX4_unit_9 22 rfl rfl)
theorem dX4_unit_235 : decode cX4_unit 235 = .ok (.invokevirtual 298, 3) := dk_182 1 42 (dk_at dksX4_unit_10 0 rfl rfl)
theorem dX4_unit_238 : decode cX4_unit 238 = .ok (.aload_n 0, 1) := dk_42 (dk_at dksX4_unit_10 3 rfl rfl)
theorem dX4_unit_239 : decode cX4_unit 239 = .ok (.dup, 1) := dk_89 (dk_at dksX4_unit_10 4 rfl rfl)
theorem dX4_unit_240 : decode cX4_unit 240 = .ok (.getfield 295, 3) := dk_180 1 39 (dk_at dksX4_unit_10 5 rfl rfl)
theorem dX4_unit_243 : decode cX4_unit 243 = .ok (.iconst 1, 1) := dk_4 (dk_at dksX4_unit_10 8 rfl rfl)
theorem dX4_unit_244 : decode cX4_unit 244 = .ok (.iadd, 1) := dk_96 (dk_at dksX4_unit_10 9 rfl rfl)
theorem dX4_unit_245 : decode cX4_unit 245 = .ok (.putfield 295, 3) := dk_181 1 39 (dk_at dksX4_unit_10 10 rfl rfl)
theorem dX4_unit_248 : decode cX4_unit 248 = .ok (.iconst 1, 1) := dk_4 (dk_at dksX4_unit_10 13 rfl rfl)
theorem dX4_unit_249 : decode cX4_unit 249 = .ok (.ireturn, 1) := dk_172 (dk_at dksX4_unit_10 14 rfl rfl)
theorem dX4_unit_250 : decode cX4_unit 250 = .ok (.aload_n 0, 1) := dk_42 (dk_at dksX4_unit_10 15 rfl rfl)
theorem dX4_unit_251 : decode cX4_unit 251 = .ok (.iload 4, 2) := dk_21 4 (dk_at dksX4_unit_10 16 rfl rfl)
theorem dX4_unit_253 : decode cX4_unit 253 = .ok (.ifCond .ne 8, 3) := dk_154 0 8 (dk_at dksX4_unit_10 18 rfl rfl)
theorem dX4_unit_256 : decode cX4_unit 256 = .ok (.bipush 110, 2) := dk_16 110 (dk_at dksX4_unit_10 21 rfl rfl)
theorem dX4_unit_258 : decode cX4_unit 258 = .ok (.goto 5, 3) := dk_167 0 5 (dk_at dksX4_unit_11 0 rfl rfl)
theorem dX4_unit_261 : decode cX4_unit 261 = .ok (.iload 4, 2) := dk_21 4 (dk_at dksX4_unit_11 3 rfl rfl)
theorem dX4_unit_263 : decode cX4_unit 263 = .ok (.iload 6, 2) := dk_21 6 (dk_at dksX4_unit_11 5 rfl rfl)
theorem dX4_unit_265 : decode cX4_unit 265 = .ok (.invokevirtual 310, 3) := dk_182 1 54 (dk_at dksX4_unit_11 7 rfl rfl)
theorem dX4_unit_268 : decode cX4_unit 268 = .ok (.iconst 0, 1) := dk_3 (dk_at dksX4_unit_11 10 rfl rfl)
theorem dX4_unit_269 : decode cX4_unit 269 = .ok (.ireturn, 1) := dk_172 (dk_at dksX4_unit_11 11 rfl rfl)
abbrev cX4_isSignHere : ByteArray := prog_22_method_10_code
def yX4_isSignHere : MethodName := ⟨RX4, "isSignHere", "(I)Z"⟩
def dkwX4_isSignHere_1 : List UInt8 := [3, 172]
abbrev dktX4_isSignHere_1 : List UInt8 := dkwX4_isSignHere_1 ++ []
def dkwX4_isSignHere_0 : List UInt8 := [42, 180, 0, 186, 8, 160, 0, 19, 42, 42, 180, 0, 179, 182, 0, 182, 27, 160, 0, 7, 4, 167, 0, 4]
abbrev dktX4_isSignHere_0 : List UInt8 := dkwX4_isSignHere_0 ++ dktX4_isSignHere_1
theorem dksX4_isSignHere_0 : cX4_isSignHere.data.toList.drop 0 = dktX4_isSignHere_0 := by decide +kernel
theorem dksX4_isSignHere_1 : cX4_isSignHere.data.toList.drop 24 = dktX4_isSignHere_1 := dk_seg dksX4_isSignHere_0 24 rfl rfl
theorem dX4_isSignHere_0 : decode cX4_isSignHere 0 = .ok (.aload_n 0, 1) := dk_42 (dk_at dksX4_isSignHere_0 0 rfl rfl)
theorem dX4_isSignHere_1 : decode cX4_isSignHere 1 = .ok (.getfield 186, 3) := dk_180 0 186 (dk_at dksX4_isSignHere_0 1 rfl rfl)
theorem dX4_isSignHere_4 : decode cX4_isSignHere 4 = .ok (.iconst 5, 1) := dk_8 (dk_at dksX4_isSignHere_0 4 rfl rfl)
theorem dX4_isSignHere_5 : decode cX4_isSignHere 5 = .ok (.if_icmp .ne 19, 3) := dk_160 0 19 (dk_at dksX4_isSignHere_0 5 rfl rfl)
theorem dX4_isSignHere_8 : decode cX4_isSignHere 8 = .ok (.aload_n 0, 1) := dk_42 (dk_at dksX4_isSignHere_0 8 rfl rfl)
theorem dX4_isSignHere_9 : decode cX4_isSignHere 9 = .ok (.aload_n 0, 1) := dk_42 (dk_at dksX4_isSignHere_0 9 rfl rfl)
theorem dX4_isSignHere_10 : decode cX4_isSignHere 10 = .ok (.getfield 179, 3) := dk_180 0 179 (dk_at dksX4_isSignHere_0 10 rfl rfl)
theorem dX4_isSignHere_13 : decode cX4_isSignHere 13 = .ok (.invokevirtual 182, 3) := dk_182 0 182 (dk_at dksX4_isSignHere_0 13 rfl rfl)
theorem dX4_isSignHere_16 : decode cX4_isSignHere 16 = .ok (.iload_n 1, 1) := dk_27 (dk_at dksX4_isSignHere_0 16 rfl rfl)
theorem dX4_isSignHere_17 : decode cX4_isSignHere 17 = .ok (.if_icmp .ne 7, 3) := dk_160 0 7 (dk_at dksX4_isSignHere_0 17 rfl rfl)
theorem dX4_isSignHere_20 : decode cX4_isSignHere 20 = .ok (.iconst 1, 1) := dk_4 (dk_at dksX4_isSignHere_0 20 rfl rfl)
theorem dX4_isSignHere_21 : decode cX4_isSignHere 21 = .ok (.goto 4, 3) := dk_167 0 4 (dk_at dksX4_isSignHere_0 21 rfl rfl)
theorem dX4_isSignHere_24 : decode cX4_isSignHere 24 = .ok (.iconst 0, 1) := dk_3 (dk_at dksX4_isSignHere_1 0 rfl rfl)
theorem dX4_isSignHere_25 : decode cX4_isSignHere 25 = .ok (.ireturn, 1) := dk_172 (dk_at dksX4_isSignHere_1 1 rfl rfl)
abbrev cX4_wordHere : ByteArray := prog_22_method_29_code
def yX4_wordHere : MethodName := ⟨RX4, "wordHere", "()I"⟩
def dkwX4_wordHere_2 : List UInt8 := [153, 0, 6, 16, 109, 172, 42, 20, 0, 168, 182, 0, 224, 153, 0, 8, 16, 121, 167, 0, 4, 3, 172]
abbrev dktX4_wordHere_2 : List UInt8 := dkwX4_wordHere_2 ++ []
def dkwX4_wordHere_1 : List UInt8 := [16, 97, 172, 42, 20, 0, 164, 182, 0, 224, 153, 0, 6, 16, 108, 172, 42, 20, 0, 166, 182, 0, 224]
abbrev dktX4_wordHere_1 : List UInt8 := dkwX4_wordHere_1 ++ dktX4_wordHere_2
def dkwX4_wordHere_0 : List UInt8 := [42, 20, 0, 146, 182, 0, 224, 153, 0, 6, 16, 98, 172, 42, 20, 0, 162, 182, 0, 224, 153, 0, 6]
abbrev dktX4_wordHere_0 : List UInt8 := dkwX4_wordHere_0 ++ dktX4_wordHere_1
theorem dksX4_wordHere_0 : cX4_wordHere.data.toList.drop 0 = dktX4_wordHere_0 := by decide +kernel
theorem dksX4_wordHere_1 : cX4_wordHere.data.toList.drop 23 = dktX4_wordHere_1 := dk_seg dksX4_wordHere_0 23 rfl rfl
theorem dksX4_wordHere_2 : cX4_wordHere.data.toList.drop 46 = dktX4_wordHere_2 := dk_seg dksX4_wordHere_1 23 rfl rfl
theorem dX4_wordHere_0 : decode cX4_wordHere 0 = .ok (.aload_n 0, 1) := dk_42 (dk_at dksX4_wordHere_0 0 rfl rfl)
theorem dX4_wordHere_1 : decode cX4_wordHere 1 = .ok (.ldc2_w 146, 3) := dk_20 0 146 (dk_at dksX4_wordHere_0 1 rfl rfl)
theorem dX4_wordHere_4 : decode cX4_wordHere 4 = .ok (.invokevirtual 224, 3) := dk_182 0 224 (dk_at dksX4_wordHere_0 4 rfl rfl)
theorem dX4_wordHere_7 : decode cX4_wordHere 7 = .ok (.ifCond .eq 6, 3) := dk_153 0 6 (dk_at dksX4_wordHere_0 7 rfl rfl)
theorem dX4_wordHere_10 : decode cX4_wordHere 10 = .ok (.bipush 98, 2) := dk_16 98 (dk_at dksX4_wordHere_0 10 rfl rfl)
theorem dX4_wordHere_12 : decode cX4_wordHere 12 = .ok (.ireturn, 1) := dk_172 (dk_at dksX4_wordHere_0 12 rfl rfl)
theorem dX4_wordHere_13 : decode cX4_wordHere 13 = .ok (.aload_n 0, 1) := dk_42 (dk_at dksX4_wordHere_0 13 rfl rfl)
theorem dX4_wordHere_14 : decode cX4_wordHere 14 = .ok (.ldc2_w 162, 3) := dk_20 0 162 (dk_at dksX4_wordHere_0 14 rfl rfl)
theorem dX4_wordHere_17 : decode cX4_wordHere 17 = .ok (.invokevirtual 224, 3) := dk_182 0 224 (dk_at dksX4_wordHere_0 17 rfl rfl)
theorem dX4_wordHere_20 : decode cX4_wordHere 20 = .ok (.ifCond .eq 6, 3) := dk_153 0 6 (dk_at dksX4_wordHere_0 20 rfl rfl)
theorem dX4_wordHere_23 : decode cX4_wordHere 23 = .ok (.bipush 97, 2) := dk_16 97 (dk_at dksX4_wordHere_1 0 rfl rfl)
theorem dX4_wordHere_25 : decode cX4_wordHere 25 = .ok (.ireturn, 1) := dk_172 (dk_at dksX4_wordHere_1 2 rfl rfl)
theorem dX4_wordHere_26 : decode cX4_wordHere 26 = .ok (.aload_n 0, 1) := dk_42 (dk_at dksX4_wordHere_1 3 rfl rfl)
theorem dX4_wordHere_27 : decode cX4_wordHere 27 = .ok (.ldc2_w 164, 3) := dk_20 0 164 (dk_at dksX4_wordHere_1 4 rfl rfl)
theorem dX4_wordHere_30 : decode cX4_wordHere 30 = .ok (.invokevirtual 224, 3) := dk_182 0 224 (dk_at dksX4_wordHere_1 7 rfl rfl)
theorem dX4_wordHere_33 : decode cX4_wordHere 33 = .ok (.ifCond .eq 6, 3) := dk_153 0 6 (dk_at dksX4_wordHere_1 10 rfl rfl)
theorem dX4_wordHere_36 : decode cX4_wordHere 36 = .ok (.bipush 108, 2) := dk_16 108 (dk_at dksX4_wordHere_1 13 rfl rfl)
theorem dX4_wordHere_38 : decode cX4_wordHere 38 = .ok (.ireturn, 1) := dk_172 (dk_at dksX4_wordHere_1 15 rfl rfl)
theorem dX4_wordHere_39 : decode cX4_wordHere 39 = .ok (.aload_n 0, 1) := dk_42 (dk_at dksX4_wordHere_1 16 rfl rfl)
theorem dX4_wordHere_40 : decode cX4_wordHere 40 = .ok (.ldc2_w 166, 3) := dk_20 0 166 (dk_at dksX4_wordHere_1 17 rfl rfl)
theorem dX4_wordHere_43 : decode cX4_wordHere 43 = .ok (.invokevirtual 224, 3) := dk_182 0 224 (dk_at dksX4_wordHere_1 20 rfl rfl)
theorem dX4_wordHere_46 : decode cX4_wordHere 46 = .ok (.ifCond .eq 6, 3) := dk_153 0 6 (dk_at dksX4_wordHere_2 0 rfl rfl)
theorem dX4_wordHere_49 : decode cX4_wordHere 49 = .ok (.bipush 109, 2) := dk_16 109 (dk_at dksX4_wordHere_2 3 rfl rfl)
theorem dX4_wordHere_51 : decode cX4_wordHere 51 = .ok (.ireturn, 1) := dk_172 (dk_at dksX4_wordHere_2 5 rfl rfl)
theorem dX4_wordHere_52 : decode cX4_wordHere 52 = .ok (.aload_n 0, 1) := dk_42 (dk_at dksX4_wordHere_2 6 rfl rfl)
theorem dX4_wordHere_53 : decode cX4_wordHere 53 = .ok (.ldc2_w 168, 3) := dk_20 0 168 (dk_at dksX4_wordHere_2 7 rfl rfl)
theorem dX4_wordHere_56 : decode cX4_wordHere 56 = .ok (.invokevirtual 224, 3) := dk_182 0 224 (dk_at dksX4_wordHere_2 10 rfl rfl)
theorem dX4_wordHere_59 : decode cX4_wordHere 59 = .ok (.ifCond .eq 8, 3) := dk_153 0 8 (dk_at dksX4_wordHere_2 13 rfl rfl)
theorem dX4_wordHere_62 : decode cX4_wordHere 62 = .ok (.bipush 121, 2) := dk_16 121 (dk_at dksX4_wordHere_2 16 rfl rfl)
theorem dX4_wordHere_64 : decode cX4_wordHere 64 = .ok (.goto 4, 3) := dk_167 0 4 (dk_at dksX4_wordHere_2 18 rfl rfl)
theorem dX4_wordHere_67 : decode cX4_wordHere 67 = .ok (.iconst 0, 1) := dk_3 (dk_at dksX4_wordHere_2 21 rfl rfl)
theorem dX4_wordHere_68 : decode cX4_wordHere 68 = .ok (.ireturn, 1) := dk_172 (dk_at dksX4_wordHere_2 22 rfl rfl)
abbrev cX4_emit : ByteArray := prog_22_method_26_code
def yX4_emit : MethodName := ⟨RX4, "emit", "(II)V"⟩
def dkwX4_emit_1 : List UInt8 := [180, 0, 238, 4, 96, 181, 0, 238, 177]
abbrev dktX4_emit_1 : List UInt8 := dkwX4_emit_1 ++ []
def dkwX4_emit_0 : List UInt8 := [42, 180, 0, 70, 42, 180, 0, 238, 27, 79, 42, 180, 0, 73, 42, 180, 0, 238, 28, 79, 42, 89]
abbrev dktX4_emit_0 : List UInt8 := dkwX4_emit_0 ++ dktX4_emit_1
theorem dksX4_emit_0 : cX4_emit.data.toList.drop 0 = dktX4_emit_0 := by decide +kernel
theorem dksX4_emit_1 : cX4_emit.data.toList.drop 22 = dktX4_emit_1 := dk_seg dksX4_emit_0 22 rfl rfl
theorem dX4_emit_0 : decode cX4_emit 0 = .ok (.aload_n 0, 1) := dk_42 (dk_at dksX4_emit_0 0 rfl rfl)
theorem dX4_emit_1 : decode cX4_emit 1 = .ok (.getfield 70, 3) := dk_180 0 70 (dk_at dksX4_emit_0 1 rfl rfl)
theorem dX4_emit_4 : decode cX4_emit 4 = .ok (.aload_n 0, 1) := dk_42 (dk_at dksX4_emit_0 4 rfl rfl)
theorem dX4_emit_5 : decode cX4_emit 5 = .ok (.getfield 238, 3) := dk_180 0 238 (dk_at dksX4_emit_0 5 rfl rfl)
theorem dX4_emit_8 : decode cX4_emit 8 = .ok (.iload_n 1, 1) := dk_27 (dk_at dksX4_emit_0 8 rfl rfl)
theorem dX4_emit_9 : decode cX4_emit 9 = .ok (.iastore, 1) := dk_79 (dk_at dksX4_emit_0 9 rfl rfl)
theorem dX4_emit_10 : decode cX4_emit 10 = .ok (.aload_n 0, 1) := dk_42 (dk_at dksX4_emit_0 10 rfl rfl)
theorem dX4_emit_11 : decode cX4_emit 11 = .ok (.getfield 73, 3) := dk_180 0 73 (dk_at dksX4_emit_0 11 rfl rfl)
theorem dX4_emit_14 : decode cX4_emit 14 = .ok (.aload_n 0, 1) := dk_42 (dk_at dksX4_emit_0 14 rfl rfl)
theorem dX4_emit_15 : decode cX4_emit 15 = .ok (.getfield 238, 3) := dk_180 0 238 (dk_at dksX4_emit_0 15 rfl rfl)
theorem dX4_emit_18 : decode cX4_emit 18 = .ok (.iload_n 2, 1) := dk_28 (dk_at dksX4_emit_0 18 rfl rfl)
theorem dX4_emit_19 : decode cX4_emit 19 = .ok (.iastore, 1) := dk_79 (dk_at dksX4_emit_0 19 rfl rfl)
theorem dX4_emit_20 : decode cX4_emit 20 = .ok (.aload_n 0, 1) := dk_42 (dk_at dksX4_emit_0 20 rfl rfl)
theorem dX4_emit_21 : decode cX4_emit 21 = .ok (.dup, 1) := dk_89 (dk_at dksX4_emit_0 21 rfl rfl)
theorem dX4_emit_22 : decode cX4_emit 22 = .ok (.getfield 238, 3) := dk_180 0 238 (dk_at dksX4_emit_1 0 rfl rfl)
theorem dX4_emit_25 : decode cX4_emit 25 = .ok (.iconst 1, 1) := dk_4 (dk_at dksX4_emit_1 3 rfl rfl)
theorem dX4_emit_26 : decode cX4_emit 26 = .ok (.iadd, 1) := dk_96 (dk_at dksX4_emit_1 4 rfl rfl)
theorem dX4_emit_27 : decode cX4_emit 27 = .ok (.putfield 238, 3) := dk_181 0 238 (dk_at dksX4_emit_1 5 rfl rfl)
theorem dX4_emit_30 : decode cX4_emit 30 = .ok (.return_, 1) := dk_177 (dk_at dksX4_emit_1 8 rfl rfl)
abbrev cX4_behindUnit : ByteArray := prog_22_method_33_code
def yX4_behindUnit : MethodName := ⟨RX4, "behindUnit", "()Z"⟩
def dkwX4_behindUnit_8 : List UInt8 := [182, 0, 227, 3, 172]
abbrev dktX4_behindUnit_8 : List UInt8 := dkwX4_behindUnit_8 ++ []
def dkwX4_behindUnit_7 : List UInt8 := [16, 7, 160, 0, 23, 42, 89, 180, 1, 39, 4, 100, 181, 1, 39, 42, 42, 16, 41, 182, 1, 23]
abbrev dktX4_behindUnit_7 : List UInt8 := dkwX4_behindUnit_7 ++ dktX4_behindUnit_8
def dkwX4_behindUnit_6 : List UInt8 := [182, 0, 218, 4, 172, 42, 89, 180, 1, 36, 4, 100, 181, 1, 36, 42, 180, 0, 76, 42, 180, 1, 36, 46]
abbrev dktX4_behindUnit_6 : List UInt8 := dkwX4_behindUnit_6 ++ dktX4_behindUnit_7
def dkwX4_behindUnit_5 : List UInt8 := [27, 4, 160, 0, 8, 16, 124, 167, 0, 11, 42, 42, 180, 0, 179, 182, 0, 182, 182, 1, 42, 42]
abbrev dktX4_behindUnit_5 : List UInt8 := dkwX4_behindUnit_5 ++ dktX4_behindUnit_6
def dkwX4_behindUnit_4 : List UInt8 := [46, 3, 182, 1, 54, 167, 255, 178, 27, 158, 0, 42, 42, 27, 27, 5, 160, 0, 8, 16, 38, 167, 0, 21]
abbrev dktX4_behindUnit_4 : List UInt8 := dkwX4_behindUnit_4 ++ dktX4_behindUnit_5
def dkwX4_behindUnit_3 : List UInt8 := [46, 6, 160, 0, 13, 42, 89, 180, 1, 39, 4, 100, 181, 1, 39, 42, 42, 180, 0, 79, 42, 180, 1, 36]
abbrev dktX4_behindUnit_3 : List UInt8 := dkwX4_behindUnit_3 ++ dktX4_behindUnit_4
def dkwX4_behindUnit_2 : List UInt8 := [100, 46, 27, 161, 0, 53, 42, 89, 180, 1, 36, 4, 100, 181, 1, 36, 42, 180, 0, 76, 42, 180, 1, 36]
abbrev dktX4_behindUnit_2 : List UInt8 := dkwX4_behindUnit_2 ++ dktX4_behindUnit_3
def dkwX4_behindUnit_1 : List UInt8 := [180, 0, 76, 42, 180, 1, 36, 4, 100, 46, 16, 6, 163, 0, 68, 42, 180, 0, 76, 42, 180, 1, 36, 4]
abbrev dktX4_behindUnit_1 : List UInt8 := dkwX4_behindUnit_1 ++ dktX4_behindUnit_2
def dkwX4_behindUnit_0 : List UInt8 := [42, 182, 1, 57, 60, 27, 7, 160, 0, 16, 42, 182, 1, 60, 153, 0, 9, 42, 182, 0, 221, 4, 172, 42]
abbrev dktX4_behindUnit_0 : List UInt8 := dkwX4_behindUnit_0 ++ dktX4_behindUnit_1
theorem dksX4_behindUnit_0 : cX4_behindUnit.data.toList.drop 0 = dktX4_behindUnit_0 := by decide +kernel
theorem dksX4_behindUnit_1 : cX4_behindUnit.data.toList.drop 24 = dktX4_behindUnit_1 := dk_seg dksX4_behindUnit_0 24 rfl rfl
theorem dksX4_behindUnit_2 : cX4_behindUnit.data.toList.drop 48 = dktX4_behindUnit_2 := dk_seg dksX4_behindUnit_1 24 rfl rfl
theorem dksX4_behindUnit_3 : cX4_behindUnit.data.toList.drop 72 = dktX4_behindUnit_3 := dk_seg dksX4_behindUnit_2 24 rfl rfl
theorem dksX4_behindUnit_4 : cX4_behindUnit.data.toList.drop 96 = dktX4_behindUnit_4 := dk_seg dksX4_behindUnit_3 24 rfl rfl
theorem dksX4_behindUnit_5 : cX4_behindUnit.data.toList.drop 120 = dktX4_behindUnit_5 := dk_seg dksX4_behindUnit_4 24 rfl rfl
theorem dksX4_behindUnit_6 : cX4_behindUnit.data.toList.drop 142 = dktX4_behindUnit_6 := dk_seg dksX4_behindUnit_5 22 rfl rfl
theorem dksX4_behindUnit_7 : cX4_behindUnit.data.toList.drop 166 = dktX4_behindUnit_7 := dk_seg dksX4_behindUnit_6 24 rfl rfl
theorem dksX4_behindUnit_8 : cX4_behindUnit.data.toList.drop 188 = dktX4_behindUnit_8 := dk_seg dksX4_behindUnit_7 22 rfl rfl
theorem dX4_behindUnit_0 : decode cX4_behindUnit 0 = .ok (.aload_n 0, 1) := dk_42 (dk_at dksX4_behindUnit_0 0 rfl rfl)
theorem dX4_behindUnit_1 : decode cX4_behindUnit 1 = .ok (.invokevirtual 313, 3) := dk_182 1 57 (dk_at dksX4_behindUnit_0 1 rfl rfl)
theorem dX4_behindUnit_4 : decode cX4_behindUnit 4 = .ok (.istore_n 1, 1) := dk_60 (dk_at dksX4_behindUnit_0 4 rfl rfl)
theorem dX4_behindUnit_5 : decode cX4_behindUnit 5 = .ok (.iload_n 1, 1) := dk_27 (dk_at dksX4_behindUnit_0 5 rfl rfl)
theorem dX4_behindUnit_6 : decode cX4_behindUnit 6 = .ok (.iconst 4, 1) := dk_7 (dk_at dksX4_behindUnit_0 6 rfl rfl)
theorem dX4_behindUnit_7 : decode cX4_behindUnit 7 = .ok (.if_icmp .ne 16, 3) := dk_160 0 16 (dk_at dksX4_behindUnit_0 7 rfl rfl)
theorem dX4_behindUnit_10 : decode cX4_behindUnit 10 = .ok (.aload_n 0, 1) := dk_42 (dk_at dksX4_behindUnit_0 10 rfl rfl)
theorem dX4_behindUnit_11 : decode cX4_behindUnit 11 = .ok (.invokevirtual 316, 3) := dk_182 1 60 (dk_at dksX4_behindUnit_0 11 rfl rfl)
theorem dX4_behindUnit_14 : decode cX4_behindUnit 14 = .ok (.ifCond .eq 9, 3) := dk_153 0 9 (dk_at dksX4_behindUnit_0 14 rfl rfl)
theorem dX4_behindUnit_17 : decode cX4_behindUnit 17 = .ok (.aload_n 0, 1) := dk_42 (dk_at dksX4_behindUnit_0 17 rfl rfl)
theorem dX4_behindUnit_18 : decode cX4_behindUnit 18 = .ok (.invokevirtual 221, 3) := dk_182 0 221 (dk_at dksX4_behindUnit_0 18 rfl rfl)
theorem dX4_behindUnit_21 : decode cX4_behindUnit 21 = .ok (.iconst 1, 1) := dk_4 (dk_at dksX4_behindUnit_0 21 rfl rfl)
theorem dX4_behindUnit_22 : decode cX4_behindUnit 22 = .ok (.ireturn, 1) := dk_172 (dk_at dksX4_behindUnit_0 22 rfl rfl)
theorem dX4_behindUnit_23 : decode cX4_behindUnit 23 = .ok (.aload_n 0, 1) := dk_42 (dk_at dksX4_behindUnit_0 23 rfl rfl)
theorem dX4_behindUnit_24 : decode cX4_behindUnit 24 = .ok (.getfield 76, 3) := dk_180 0 76 (dk_at dksX4_behindUnit_1 0 rfl rfl)
theorem dX4_behindUnit_27 : decode cX4_behindUnit 27 = .ok (.aload_n 0, 1) := dk_42 (dk_at dksX4_behindUnit_1 3 rfl rfl)
theorem dX4_behindUnit_28 : decode cX4_behindUnit 28 = .ok (.getfield 292, 3) := dk_180 1 36 (dk_at dksX4_behindUnit_1 4 rfl rfl)
theorem dX4_behindUnit_31 : decode cX4_behindUnit 31 = .ok (.iconst 1, 1) := dk_4 (dk_at dksX4_behindUnit_1 7 rfl rfl)
theorem dX4_behindUnit_32 : decode cX4_behindUnit 32 = .ok (.isub, 1) := dk_100 (dk_at dksX4_behindUnit_1 8 rfl rfl)
theorem dX4_behindUnit_33 : decode cX4_behindUnit 33 = .ok (.iaload, 1) := dk_46 (dk_at dksX4_behindUnit_1 9 rfl rfl)
theorem dX4_behindUnit_34 : decode cX4_behindUnit 34 = .ok (.bipush 6, 2) := dk_16 6 (dk_at dksX4_behindUnit_1 10 rfl rfl)
theorem dX4_behindUnit_36 : decode cX4_behindUnit 36 = .ok (.if_icmp .gt 68, 3) := dk_163 0 68 (dk_at dksX4_behindUnit_1 12 rfl rfl)
theorem dX4_behindUnit_39 : decode cX4_behindUnit 39 = .ok (.aload_n 0, 1) := dk_42 (dk_at dksX4_behindUnit_1 15 rfl rfl)
theorem dX4_behindUnit_40 : decode cX4_behindUnit 40 = .ok (.getfield 76, 3) := dk_180 0 76 (dk_at dksX4_behindUnit_1 16 rfl rfl)
theorem dX4_behindUnit_43 : decode cX4_behindUnit 43 = .ok (.aload_n 0, 1) := dk_42 (dk_at dksX4_behindUnit_1 19 rfl rfl)
theorem dX4_behindUnit_44 : decode cX4_behindUnit 44 = .ok (.getfield 292, 3) := dk_180 1 36 (dk_at dksX4_behindUnit_1 20 rfl rfl)
theorem dX4_behindUnit_47 : decode cX4_behindUnit 47 = .ok (.iconst 1, 1) := dk_4 (dk_at dksX4_behindUnit_1 23 rfl rfl)
theorem dX4_behindUnit_48 : decode cX4_behindUnit 48 = .ok (.isub, 1) := dk_100 (dk_at dksX4_behindUnit_2 0 rfl rfl)
theorem dX4_behindUnit_49 : decode cX4_behindUnit 49 = .ok (.iaload, 1) := dk_46 (dk_at dksX4_behindUnit_2 1 rfl rfl)
theorem dX4_behindUnit_50 : decode cX4_behindUnit 50 = .ok (.iload_n 1, 1) := dk_27 (dk_at dksX4_behindUnit_2 2 rfl rfl)
theorem dX4_behindUnit_51 : decode cX4_behindUnit 51 = .ok (.if_icmp .lt 53, 3) := dk_161 0 53 (dk_at dksX4_behindUnit_2 3 rfl rfl)
theorem dX4_behindUnit_54 : decode cX4_behindUnit 54 = .ok (.aload_n 0, 1) := dk_42 (dk_at dksX4_behindUnit_2 6 rfl rfl)
theorem dX4_behindUnit_55 : decode cX4_behindUnit 55 = .ok (.dup, 1) := dk_89 (dk_at dksX4_behindUnit_2 7 rfl rfl)
theorem dX4_behindUnit_56 : decode cX4_behindUnit 56 = .ok (.getfield 292, 3) := dk_180 1 36 (dk_at dksX4_behindUnit_2 8 rfl rfl)
theorem dX4_behindUnit_59 : decode cX4_behindUnit 59 = .ok (.iconst 1, 1) := dk_4 (dk_at dksX4_behindUnit_2 11 rfl rfl)
theorem dX4_behindUnit_60 : decode cX4_behindUnit 60 = .ok (.isub, 1) := dk_100 (dk_at dksX4_behindUnit_2 12 rfl rfl)
theorem dX4_behindUnit_61 : decode cX4_behindUnit 61 = .ok (.putfield 292, 3) := dk_181 1 36 (dk_at dksX4_behindUnit_2 13 rfl rfl)
theorem dX4_behindUnit_64 : decode cX4_behindUnit 64 = .ok (.aload_n 0, 1) := dk_42 (dk_at dksX4_behindUnit_2 16 rfl rfl)
theorem dX4_behindUnit_65 : decode cX4_behindUnit 65 = .ok (.getfield 76, 3) := dk_180 0 76 (dk_at dksX4_behindUnit_2 17 rfl rfl)
theorem dX4_behindUnit_68 : decode cX4_behindUnit 68 = .ok (.aload_n 0, 1) := dk_42 (dk_at dksX4_behindUnit_2 20 rfl rfl)
theorem dX4_behindUnit_69 : decode cX4_behindUnit 69 = .ok (.getfield 292, 3) := dk_180 1 36 (dk_at dksX4_behindUnit_2 21 rfl rfl)
theorem dX4_behindUnit_72 : decode cX4_behindUnit 72 = .ok (.iaload, 1) := dk_46 (dk_at dksX4_behindUnit_3 0 rfl rfl)
theorem dX4_behindUnit_73 : decode cX4_behindUnit 73 = .ok (.iconst 3, 1) := dk_6 (dk_at dksX4_behindUnit_3 1 rfl rfl)
theorem dX4_behindUnit_74 : decode cX4_behindUnit 74 = .ok (.if_icmp .ne 13, 3) := dk_160 0 13 (dk_at dksX4_behindUnit_3 2 rfl rfl)
theorem dX4_behindUnit_77 : decode cX4_behindUnit 77 = .ok (.aload_n 0, 1) := dk_42 (dk_at dksX4_behindUnit_3 5 rfl rfl)
theorem dX4_behindUnit_78 : decode cX4_behindUnit 78 = .ok (.dup, 1) := dk_89 (dk_at dksX4_behindUnit_3 6 rfl rfl)
theorem dX4_behindUnit_79 : decode cX4_behindUnit 79 = .ok (.getfield 295, 3) := dk_180 1 39 (dk_at dksX4_behindUnit_3 7 rfl rfl)
theorem dX4_behindUnit_82 : decode cX4_behindUnit 82 = .ok (.iconst 1, 1) := dk_4 (dk_at dksX4_behindUnit_3 10 rfl rfl)
theorem dX4_behindUnit_83 : decode cX4_behindUnit 83 = .ok (.isub, 1) := dk_100 (dk_at dksX4_behindUnit_3 11 rfl rfl)
theorem dX4_behindUnit_84 : decode cX4_behindUnit 84 = .ok (.putfield 295, 3) := dk_181 1 39 (dk_at dksX4_behindUnit_3 12 rfl rfl)
theorem dX4_behindUnit_87 : decode cX4_behindUnit 87 = .ok (.aload_n 0, 1) := dk_42 (dk_at dksX4_behindUnit_3 15 rfl rfl)
theorem dX4_behindUnit_88 : decode cX4_behindUnit 88 = .ok (.aload_n 0, 1) := dk_42 (dk_at dksX4_behindUnit_3 16 rfl rfl)
theorem dX4_behindUnit_89 : decode cX4_behindUnit 89 = .ok (.getfield 79, 3) := dk_180 0 79 (dk_at dksX4_behindUnit_3 17 rfl rfl)
theorem dX4_behindUnit_92 : decode cX4_behindUnit 92 = .ok (.aload_n 0, 1) := dk_42 (dk_at dksX4_behindUnit_3 20 rfl rfl)
theorem dX4_behindUnit_93 : decode cX4_behindUnit 93 = .ok (.getfield 292, 3) := dk_180 1 36 (dk_at dksX4_behindUnit_3 21 rfl rfl)
theorem dX4_behindUnit_96 : decode cX4_behindUnit 96 = .ok (.iaload, 1) := dk_46 (dk_at dksX4_behindUnit_4 0 rfl rfl)
theorem dX4_behindUnit_97 : decode cX4_behindUnit 97 = .ok (.iconst 0, 1) := dk_3 (dk_at dksX4_behindUnit_4 1 rfl rfl)
theorem dX4_behindUnit_98 : decode cX4_behindUnit 98 = .ok (.invokevirtual 310, 3) := dk_182 1 54 (dk_at dksX4_behindUnit_4 2 rfl rfl)
theorem dX4_behindUnit_101 : decode cX4_behindUnit 101 = .ok (.goto (-78), 3) := dk_167 255 178 (dk_at dksX4_behindUnit_4 5 rfl rfl)
theorem dX4_behindUnit_104 : decode cX4_behindUnit 104 = .ok (.iload_n 1, 1) := dk_27 (dk_at dksX4_behindUnit_4 8 rfl rfl)
theorem dX4_behindUnit_105 : decode cX4_behindUnit 105 = .ok (.ifCond .le 42, 3) := dk_158 0 42 (dk_at dksX4_behindUnit_4 9 rfl rfl)
theorem dX4_behindUnit_108 : decode cX4_behindUnit 108 = .ok (.aload_n 0, 1) := dk_42 (dk_at dksX4_behindUnit_4 12 rfl rfl)
theorem dX4_behindUnit_109 : decode cX4_behindUnit 109 = .ok (.iload_n 1, 1) := dk_27 (dk_at dksX4_behindUnit_4 13 rfl rfl)
theorem dX4_behindUnit_110 : decode cX4_behindUnit 110 = .ok (.iload_n 1, 1) := dk_27 (dk_at dksX4_behindUnit_4 14 rfl rfl)
theorem dX4_behindUnit_111 : decode cX4_behindUnit 111 = .ok (.iconst 2, 1) := dk_5 (dk_at dksX4_behindUnit_4 15 rfl rfl)
theorem dX4_behindUnit_112 : decode cX4_behindUnit 112 = .ok (.if_icmp .ne 8, 3) := dk_160 0 8 (dk_at dksX4_behindUnit_4 16 rfl rfl)
theorem dX4_behindUnit_115 : decode cX4_behindUnit 115 = .ok (.bipush 38, 2) := dk_16 38 (dk_at dksX4_behindUnit_4 19 rfl rfl)
theorem dX4_behindUnit_117 : decode cX4_behindUnit 117 = .ok (.goto 21, 3) := dk_167 0 21 (dk_at dksX4_behindUnit_4 21 rfl rfl)
theorem dX4_behindUnit_120 : decode cX4_behindUnit 120 = .ok (.iload_n 1, 1) := dk_27 (dk_at dksX4_behindUnit_5 0 rfl rfl)
theorem dX4_behindUnit_121 : decode cX4_behindUnit 121 = .ok (.iconst 1, 1) := dk_4 (dk_at dksX4_behindUnit_5 1 rfl rfl)
theorem dX4_behindUnit_122 : decode cX4_behindUnit 122 = .ok (.if_icmp .ne 8, 3) := dk_160 0 8 (dk_at dksX4_behindUnit_5 2 rfl rfl)
theorem dX4_behindUnit_125 : decode cX4_behindUnit 125 = .ok (.bipush 124, 2) := dk_16 124 (dk_at dksX4_behindUnit_5 5 rfl rfl)
theorem dX4_behindUnit_127 : decode cX4_behindUnit 127 = .ok (.goto 11, 3) := dk_167 0 11 (dk_at dksX4_behindUnit_5 7 rfl rfl)
theorem dX4_behindUnit_130 : decode cX4_behindUnit 130 = .ok (.aload_n 0, 1) := dk_42 (dk_at dksX4_behindUnit_5 10 rfl rfl)
theorem dX4_behindUnit_131 : decode cX4_behindUnit 131 = .ok (.aload_n 0, 1) := dk_42 (dk_at dksX4_behindUnit_5 11 rfl rfl)
theorem dX4_behindUnit_132 : decode cX4_behindUnit 132 = .ok (.getfield 179, 3) := dk_180 0 179 (dk_at dksX4_behindUnit_5 12 rfl rfl)
theorem dX4_behindUnit_135 : decode cX4_behindUnit 135 = .ok (.invokevirtual 182, 3) := dk_182 0 182 (dk_at dksX4_behindUnit_5 15 rfl rfl)
theorem dX4_behindUnit_138 : decode cX4_behindUnit 138 = .ok (.invokevirtual 298, 3) := dk_182 1 42 (dk_at dksX4_behindUnit_5 18 rfl rfl)
theorem dX4_behindUnit_141 : decode cX4_behindUnit 141 = .ok (.aload_n 0, 1) := dk_42 (dk_at dksX4_behindUnit_5 21 rfl rfl)
theorem dX4_behindUnit_142 : decode cX4_behindUnit 142 = .ok (.invokevirtual 218, 3) := dk_182 0 218 (dk_at dksX4_behindUnit_6 0 rfl rfl)
theorem dX4_behindUnit_145 : decode cX4_behindUnit 145 = .ok (.iconst 1, 1) := dk_4 (dk_at dksX4_behindUnit_6 3 rfl rfl)
theorem dX4_behindUnit_146 : decode cX4_behindUnit 146 = .ok (.ireturn, 1) := dk_172 (dk_at dksX4_behindUnit_6 4 rfl rfl)
theorem dX4_behindUnit_147 : decode cX4_behindUnit 147 = .ok (.aload_n 0, 1) := dk_42 (dk_at dksX4_behindUnit_6 5 rfl rfl)
theorem dX4_behindUnit_148 : decode cX4_behindUnit 148 = .ok (.dup, 1) := dk_89 (dk_at dksX4_behindUnit_6 6 rfl rfl)
theorem dX4_behindUnit_149 : decode cX4_behindUnit 149 = .ok (.getfield 292, 3) := dk_180 1 36 (dk_at dksX4_behindUnit_6 7 rfl rfl)
theorem dX4_behindUnit_152 : decode cX4_behindUnit 152 = .ok (.iconst 1, 1) := dk_4 (dk_at dksX4_behindUnit_6 10 rfl rfl)
theorem dX4_behindUnit_153 : decode cX4_behindUnit 153 = .ok (.isub, 1) := dk_100 (dk_at dksX4_behindUnit_6 11 rfl rfl)
theorem dX4_behindUnit_154 : decode cX4_behindUnit 154 = .ok (.putfield 292, 3) := dk_181 1 36 (dk_at dksX4_behindUnit_6 12 rfl rfl)
theorem dX4_behindUnit_157 : decode cX4_behindUnit 157 = .ok (.aload_n 0, 1) := dk_42 (dk_at dksX4_behindUnit_6 15 rfl rfl)
theorem dX4_behindUnit_158 : decode cX4_behindUnit 158 = .ok (.getfield 76, 3) := dk_180 0 76 (dk_at dksX4_behindUnit_6 16 rfl rfl)
theorem dX4_behindUnit_161 : decode cX4_behindUnit 161 = .ok (.aload_n 0, 1) := dk_42 (dk_at dksX4_behindUnit_6 19 rfl rfl)
theorem dX4_behindUnit_162 : decode cX4_behindUnit 162 = .ok (.getfield 292, 3) := dk_180 1 36 (dk_at dksX4_behindUnit_6 20 rfl rfl)
theorem dX4_behindUnit_165 : decode cX4_behindUnit 165 = .ok (.iaload, 1) := dk_46 (dk_at dksX4_behindUnit_6 23 rfl rfl)
theorem dX4_behindUnit_166 : decode cX4_behindUnit 166 = .ok (.bipush 7, 2) := dk_16 7 (dk_at dksX4_behindUnit_7 0 rfl rfl)
theorem dX4_behindUnit_168 : decode cX4_behindUnit 168 = .ok (.if_icmp .ne 23, 3) := dk_160 0 23 (dk_at dksX4_behindUnit_7 2 rfl rfl)
theorem dX4_behindUnit_171 : decode cX4_behindUnit 171 = .ok (.aload_n 0, 1) := dk_42 (dk_at dksX4_behindUnit_7 5 rfl rfl)
theorem dX4_behindUnit_172 : decode cX4_behindUnit 172 = .ok (.dup, 1) := dk_89 (dk_at dksX4_behindUnit_7 6 rfl rfl)
theorem dX4_behindUnit_173 : decode cX4_behindUnit 173 = .ok (.getfield 295, 3) := dk_180 1 39 (dk_at dksX4_behindUnit_7 7 rfl rfl)
theorem dX4_behindUnit_176 : decode cX4_behindUnit 176 = .ok (.iconst 1, 1) := dk_4 (dk_at dksX4_behindUnit_7 10 rfl rfl)
theorem dX4_behindUnit_177 : decode cX4_behindUnit 177 = .ok (.isub, 1) := dk_100 (dk_at dksX4_behindUnit_7 11 rfl rfl)
theorem dX4_behindUnit_178 : decode cX4_behindUnit 178 = .ok (.putfield 295, 3) := dk_181 1 39 (dk_at dksX4_behindUnit_7 12 rfl rfl)
theorem dX4_behindUnit_181 : decode cX4_behindUnit 181 = .ok (.aload_n 0, 1) := dk_42 (dk_at dksX4_behindUnit_7 15 rfl rfl)
theorem dX4_behindUnit_182 : decode cX4_behindUnit 182 = .ok (.aload_n 0, 1) := dk_42 (dk_at dksX4_behindUnit_7 16 rfl rfl)
theorem dX4_behindUnit_183 : decode cX4_behindUnit 183 = .ok (.bipush 41, 2) := dk_16 41 (dk_at dksX4_behindUnit_7 17 rfl rfl)
theorem dX4_behindUnit_185 : decode cX4_behindUnit 185 = .ok (.invokevirtual 279, 3) := dk_182 1 23 (dk_at dksX4_behindUnit_7 19 rfl rfl)
theorem dX4_behindUnit_188 : decode cX4_behindUnit 188 = .ok (.invokevirtual 227, 3) := dk_182 0 227 (dk_at dksX4_behindUnit_8 0 rfl rfl)
theorem dX4_behindUnit_191 : decode cX4_behindUnit 191 = .ok (.iconst 0, 1) := dk_3 (dk_at dksX4_behindUnit_8 3 rfl rfl)
theorem dX4_behindUnit_192 : decode cX4_behindUnit 192 = .ok (.ireturn, 1) := dk_172 (dk_at dksX4_behindUnit_8 4 rfl rfl)
abbrev cX4_rankHere : ByteArray := prog_22_method_31_code
def yX4_rankHere : MethodName := ⟨RX4, "rankHere", "()I"⟩
def dkwX4_rankHere_4 : List UInt8 := [182, 1, 23, 153, 0, 8, 16, 6, 167, 0, 4, 3, 172]
abbrev dktX4_rankHere_4 : List UInt8 := dkwX4_rankHere_4 ++ []
def dkwX4_rankHere_3 : List UInt8 := [172, 42, 16, 42, 182, 1, 23, 154, 0, 21, 42, 16, 47, 182, 1, 23, 154, 0, 12, 42, 16, 37]
abbrev dktX4_rankHere_3 : List UInt8 := dkwX4_rankHere_3 ++ dktX4_rankHere_4
def dkwX4_rankHere_2 : List UInt8 := [153, 0, 5, 7, 172, 42, 16, 43, 182, 1, 23, 154, 0, 12, 42, 16, 45, 182, 1, 23, 153, 0, 5, 8]
abbrev dktX4_rankHere_2 : List UInt8 := dkwX4_rankHere_2 ++ dktX4_rankHere_3
def dkwX4_rankHere_1 : List UInt8 := [42, 16, 60, 182, 1, 23, 154, 0, 21, 42, 16, 62, 182, 1, 23, 154, 0, 12, 42, 16, 61, 182, 1, 23]
abbrev dktX4_rankHere_1 : List UInt8 := dkwX4_rankHere_1 ++ dktX4_rankHere_2
def dkwX4_rankHere_0 : List UInt8 := [42, 20, 0, 172, 182, 0, 224, 153, 0, 5, 5, 172, 42, 20, 0, 170, 182, 0, 224, 153, 0, 5, 4, 172]
abbrev dktX4_rankHere_0 : List UInt8 := dkwX4_rankHere_0 ++ dktX4_rankHere_1
theorem dksX4_rankHere_0 : cX4_rankHere.data.toList.drop 0 = dktX4_rankHere_0 := by decide +kernel
theorem dksX4_rankHere_1 : cX4_rankHere.data.toList.drop 24 = dktX4_rankHere_1 := dk_seg dksX4_rankHere_0 24 rfl rfl
theorem dksX4_rankHere_2 : cX4_rankHere.data.toList.drop 48 = dktX4_rankHere_2 := dk_seg dksX4_rankHere_1 24 rfl rfl
theorem dksX4_rankHere_3 : cX4_rankHere.data.toList.drop 72 = dktX4_rankHere_3 := dk_seg dksX4_rankHere_2 24 rfl rfl
theorem dksX4_rankHere_4 : cX4_rankHere.data.toList.drop 94 = dktX4_rankHere_4 := dk_seg dksX4_rankHere_3 22 rfl rfl
theorem dX4_rankHere_0 : decode cX4_rankHere 0 = .ok (.aload_n 0, 1) := dk_42 (dk_at dksX4_rankHere_0 0 rfl rfl)
theorem dX4_rankHere_1 : decode cX4_rankHere 1 = .ok (.ldc2_w 172, 3) := dk_20 0 172 (dk_at dksX4_rankHere_0 1 rfl rfl)
theorem dX4_rankHere_4 : decode cX4_rankHere 4 = .ok (.invokevirtual 224, 3) := dk_182 0 224 (dk_at dksX4_rankHere_0 4 rfl rfl)
theorem dX4_rankHere_7 : decode cX4_rankHere 7 = .ok (.ifCond .eq 5, 3) := dk_153 0 5 (dk_at dksX4_rankHere_0 7 rfl rfl)
theorem dX4_rankHere_10 : decode cX4_rankHere 10 = .ok (.iconst 2, 1) := dk_5 (dk_at dksX4_rankHere_0 10 rfl rfl)
theorem dX4_rankHere_11 : decode cX4_rankHere 11 = .ok (.ireturn, 1) := dk_172 (dk_at dksX4_rankHere_0 11 rfl rfl)
theorem dX4_rankHere_12 : decode cX4_rankHere 12 = .ok (.aload_n 0, 1) := dk_42 (dk_at dksX4_rankHere_0 12 rfl rfl)
theorem dX4_rankHere_13 : decode cX4_rankHere 13 = .ok (.ldc2_w 170, 3) := dk_20 0 170 (dk_at dksX4_rankHere_0 13 rfl rfl)
theorem dX4_rankHere_16 : decode cX4_rankHere 16 = .ok (.invokevirtual 224, 3) := dk_182 0 224 (dk_at dksX4_rankHere_0 16 rfl rfl)
theorem dX4_rankHere_19 : decode cX4_rankHere 19 = .ok (.ifCond .eq 5, 3) := dk_153 0 5 (dk_at dksX4_rankHere_0 19 rfl rfl)
theorem dX4_rankHere_22 : decode cX4_rankHere 22 = .ok (.iconst 1, 1) := dk_4 (dk_at dksX4_rankHere_0 22 rfl rfl)
theorem dX4_rankHere_23 : decode cX4_rankHere 23 = .ok (.ireturn, 1) := dk_172 (dk_at dksX4_rankHere_0 23 rfl rfl)
theorem dX4_rankHere_24 : decode cX4_rankHere 24 = .ok (.aload_n 0, 1) := dk_42 (dk_at dksX4_rankHere_1 0 rfl rfl)
theorem dX4_rankHere_25 : decode cX4_rankHere 25 = .ok (.bipush 60, 2) := dk_16 60 (dk_at dksX4_rankHere_1 1 rfl rfl)
theorem dX4_rankHere_27 : decode cX4_rankHere 27 = .ok (.invokevirtual 279, 3) := dk_182 1 23 (dk_at dksX4_rankHere_1 3 rfl rfl)
theorem dX4_rankHere_30 : decode cX4_rankHere 30 = .ok (.ifCond .ne 21, 3) := dk_154 0 21 (dk_at dksX4_rankHere_1 6 rfl rfl)
theorem dX4_rankHere_33 : decode cX4_rankHere 33 = .ok (.aload_n 0, 1) := dk_42 (dk_at dksX4_rankHere_1 9 rfl rfl)
theorem dX4_rankHere_34 : decode cX4_rankHere 34 = .ok (.bipush 62, 2) := dk_16 62 (dk_at dksX4_rankHere_1 10 rfl rfl)
theorem dX4_rankHere_36 : decode cX4_rankHere 36 = .ok (.invokevirtual 279, 3) := dk_182 1 23 (dk_at dksX4_rankHere_1 12 rfl rfl)
theorem dX4_rankHere_39 : decode cX4_rankHere 39 = .ok (.ifCond .ne 12, 3) := dk_154 0 12 (dk_at dksX4_rankHere_1 15 rfl rfl)
theorem dX4_rankHere_42 : decode cX4_rankHere 42 = .ok (.aload_n 0, 1) := dk_42 (dk_at dksX4_rankHere_1 18 rfl rfl)
theorem dX4_rankHere_43 : decode cX4_rankHere 43 = .ok (.bipush 61, 2) := dk_16 61 (dk_at dksX4_rankHere_1 19 rfl rfl)
theorem dX4_rankHere_45 : decode cX4_rankHere 45 = .ok (.invokevirtual 279, 3) := dk_182 1 23 (dk_at dksX4_rankHere_1 21 rfl rfl)
theorem dX4_rankHere_48 : decode cX4_rankHere 48 = .ok (.ifCond .eq 5, 3) := dk_153 0 5 (dk_at dksX4_rankHere_2 0 rfl rfl)
theorem dX4_rankHere_51 : decode cX4_rankHere 51 = .ok (.iconst 4, 1) := dk_7 (dk_at dksX4_rankHere_2 3 rfl rfl)
theorem dX4_rankHere_52 : decode cX4_rankHere 52 = .ok (.ireturn, 1) := dk_172 (dk_at dksX4_rankHere_2 4 rfl rfl)
theorem dX4_rankHere_53 : decode cX4_rankHere 53 = .ok (.aload_n 0, 1) := dk_42 (dk_at dksX4_rankHere_2 5 rfl rfl)
theorem dX4_rankHere_54 : decode cX4_rankHere 54 = .ok (.bipush 43, 2) := dk_16 43 (dk_at dksX4_rankHere_2 6 rfl rfl)
theorem dX4_rankHere_56 : decode cX4_rankHere 56 = .ok (.invokevirtual 279, 3) := dk_182 1 23 (dk_at dksX4_rankHere_2 8 rfl rfl)
theorem dX4_rankHere_59 : decode cX4_rankHere 59 = .ok (.ifCond .ne 12, 3) := dk_154 0 12 (dk_at dksX4_rankHere_2 11 rfl rfl)
theorem dX4_rankHere_62 : decode cX4_rankHere 62 = .ok (.aload_n 0, 1) := dk_42 (dk_at dksX4_rankHere_2 14 rfl rfl)
theorem dX4_rankHere_63 : decode cX4_rankHere 63 = .ok (.bipush 45, 2) := dk_16 45 (dk_at dksX4_rankHere_2 15 rfl rfl)
theorem dX4_rankHere_65 : decode cX4_rankHere 65 = .ok (.invokevirtual 279, 3) := dk_182 1 23 (dk_at dksX4_rankHere_2 17 rfl rfl)
theorem dX4_rankHere_68 : decode cX4_rankHere 68 = .ok (.ifCond .eq 5, 3) := dk_153 0 5 (dk_at dksX4_rankHere_2 20 rfl rfl)
theorem dX4_rankHere_71 : decode cX4_rankHere 71 = .ok (.iconst 5, 1) := dk_8 (dk_at dksX4_rankHere_2 23 rfl rfl)
theorem dX4_rankHere_72 : decode cX4_rankHere 72 = .ok (.ireturn, 1) := dk_172 (dk_at dksX4_rankHere_3 0 rfl rfl)
theorem dX4_rankHere_73 : decode cX4_rankHere 73 = .ok (.aload_n 0, 1) := dk_42 (dk_at dksX4_rankHere_3 1 rfl rfl)
theorem dX4_rankHere_74 : decode cX4_rankHere 74 = .ok (.bipush 42, 2) := dk_16 42 (dk_at dksX4_rankHere_3 2 rfl rfl)
theorem dX4_rankHere_76 : decode cX4_rankHere 76 = .ok (.invokevirtual 279, 3) := dk_182 1 23 (dk_at dksX4_rankHere_3 4 rfl rfl)
theorem dX4_rankHere_79 : decode cX4_rankHere 79 = .ok (.ifCond .ne 21, 3) := dk_154 0 21 (dk_at dksX4_rankHere_3 7 rfl rfl)
theorem dX4_rankHere_82 : decode cX4_rankHere 82 = .ok (.aload_n 0, 1) := dk_42 (dk_at dksX4_rankHere_3 10 rfl rfl)
theorem dX4_rankHere_83 : decode cX4_rankHere 83 = .ok (.bipush 47, 2) := dk_16 47 (dk_at dksX4_rankHere_3 11 rfl rfl)
theorem dX4_rankHere_85 : decode cX4_rankHere 85 = .ok (.invokevirtual 279, 3) := dk_182 1 23 (dk_at dksX4_rankHere_3 13 rfl rfl)
theorem dX4_rankHere_88 : decode cX4_rankHere 88 = .ok (.ifCond .ne 12, 3) := dk_154 0 12 (dk_at dksX4_rankHere_3 16 rfl rfl)
theorem dX4_rankHere_91 : decode cX4_rankHere 91 = .ok (.aload_n 0, 1) := dk_42 (dk_at dksX4_rankHere_3 19 rfl rfl)
theorem dX4_rankHere_92 : decode cX4_rankHere 92 = .ok (.bipush 37, 2) := dk_16 37 (dk_at dksX4_rankHere_3 20 rfl rfl)
theorem dX4_rankHere_94 : decode cX4_rankHere 94 = .ok (.invokevirtual 279, 3) := dk_182 1 23 (dk_at dksX4_rankHere_4 0 rfl rfl)
theorem dX4_rankHere_97 : decode cX4_rankHere 97 = .ok (.ifCond .eq 8, 3) := dk_153 0 8 (dk_at dksX4_rankHere_4 3 rfl rfl)
theorem dX4_rankHere_100 : decode cX4_rankHere 100 = .ok (.bipush 6, 2) := dk_16 6 (dk_at dksX4_rankHere_4 6 rfl rfl)
theorem dX4_rankHere_102 : decode cX4_rankHere 102 = .ok (.goto 4, 3) := dk_167 0 4 (dk_at dksX4_rankHere_4 8 rfl rfl)
theorem dX4_rankHere_105 : decode cX4_rankHere 105 = .ok (.iconst 0, 1) := dk_3 (dk_at dksX4_rankHere_4 11 rfl rfl)
theorem dX4_rankHere_106 : decode cX4_rankHere 106 = .ok (.ireturn, 1) := dk_172 (dk_at dksX4_rankHere_4 12 rfl rfl)
abbrev cX4_isCompared : ByteArray := prog_22_method_32_code
def yX4_isCompared : MethodName := ⟨RX4, "isCompared", "()Z"⟩
def dkwX4_isCompared_2 : List UInt8 := [167, 0, 4, 3, 172]
abbrev dktX4_isCompared_2 : List UInt8 := dkwX4_isCompared_2 ++ []
def dkwX4_isCompared_1 : List UInt8 := [16, 6, 160, 0, 9, 132, 1, 255, 167, 255, 232, 42, 180, 0, 76, 27, 46, 7, 160, 0, 7, 4]
abbrev dktX4_isCompared_1 : List UInt8 := dkwX4_isCompared_1 ++ dktX4_isCompared_2
def dkwX4_isCompared_0 : List UInt8 := [42, 180, 1, 36, 4, 100, 60, 42, 180, 0, 76, 27, 46, 8, 159, 0, 14, 42, 180, 0, 76, 27, 46]
abbrev dktX4_isCompared_0 : List UInt8 := dkwX4_isCompared_0 ++ dktX4_isCompared_1
theorem dksX4_isCompared_0 : cX4_isCompared.data.toList.drop 0 = dktX4_isCompared_0 := by decide +kernel
theorem dksX4_isCompared_1 : cX4_isCompared.data.toList.drop 23 = dktX4_isCompared_1 := dk_seg dksX4_isCompared_0 23 rfl rfl
theorem dksX4_isCompared_2 : cX4_isCompared.data.toList.drop 45 = dktX4_isCompared_2 := dk_seg dksX4_isCompared_1 22 rfl rfl
theorem dX4_isCompared_0 : decode cX4_isCompared 0 = .ok (.aload_n 0, 1) := dk_42 (dk_at dksX4_isCompared_0 0 rfl rfl)
theorem dX4_isCompared_1 : decode cX4_isCompared 1 = .ok (.getfield 292, 3) := dk_180 1 36 (dk_at dksX4_isCompared_0 1 rfl rfl)
theorem dX4_isCompared_4 : decode cX4_isCompared 4 = .ok (.iconst 1, 1) := dk_4 (dk_at dksX4_isCompared_0 4 rfl rfl)
theorem dX4_isCompared_5 : decode cX4_isCompared 5 = .ok (.isub, 1) := dk_100 (dk_at dksX4_isCompared_0 5 rfl rfl)
theorem dX4_isCompared_6 : decode cX4_isCompared 6 = .ok (.istore_n 1, 1) := dk_60 (dk_at dksX4_isCompared_0 6 rfl rfl)
theorem dX4_isCompared_7 : decode cX4_isCompared 7 = .ok (.aload_n 0, 1) := dk_42 (dk_at dksX4_isCompared_0 7 rfl rfl)
theorem dX4_isCompared_8 : decode cX4_isCompared 8 = .ok (.getfield 76, 3) := dk_180 0 76 (dk_at dksX4_isCompared_0 8 rfl rfl)
theorem dX4_isCompared_11 : decode cX4_isCompared 11 = .ok (.iload_n 1, 1) := dk_27 (dk_at dksX4_isCompared_0 11 rfl rfl)
theorem dX4_isCompared_12 : decode cX4_isCompared 12 = .ok (.iaload, 1) := dk_46 (dk_at dksX4_isCompared_0 12 rfl rfl)
theorem dX4_isCompared_13 : decode cX4_isCompared 13 = .ok (.iconst 5, 1) := dk_8 (dk_at dksX4_isCompared_0 13 rfl rfl)
theorem dX4_isCompared_14 : decode cX4_isCompared 14 = .ok (.if_icmp .eq 14, 3) := dk_159 0 14 (dk_at dksX4_isCompared_0 14 rfl rfl)
theorem dX4_isCompared_17 : decode cX4_isCompared 17 = .ok (.aload_n 0, 1) := dk_42 (dk_at dksX4_isCompared_0 17 rfl rfl)
theorem dX4_isCompared_18 : decode cX4_isCompared 18 = .ok (.getfield 76, 3) := dk_180 0 76 (dk_at dksX4_isCompared_0 18 rfl rfl)
theorem dX4_isCompared_21 : decode cX4_isCompared 21 = .ok (.iload_n 1, 1) := dk_27 (dk_at dksX4_isCompared_0 21 rfl rfl)
theorem dX4_isCompared_22 : decode cX4_isCompared 22 = .ok (.iaload, 1) := dk_46 (dk_at dksX4_isCompared_0 22 rfl rfl)
theorem dX4_isCompared_23 : decode cX4_isCompared 23 = .ok (.bipush 6, 2) := dk_16 6 (dk_at dksX4_isCompared_1 0 rfl rfl)
theorem dX4_isCompared_25 : decode cX4_isCompared 25 = .ok (.if_icmp .ne 9, 3) := dk_160 0 9 (dk_at dksX4_isCompared_1 2 rfl rfl)
theorem dX4_isCompared_28 : decode cX4_isCompared 28 = .ok (.iinc 1 (-1), 3) := dk_132 1 255 (dk_at dksX4_isCompared_1 5 rfl rfl)
theorem dX4_isCompared_31 : decode cX4_isCompared 31 = .ok (.goto (-24), 3) := dk_167 255 232 (dk_at dksX4_isCompared_1 8 rfl rfl)
theorem dX4_isCompared_34 : decode cX4_isCompared 34 = .ok (.aload_n 0, 1) := dk_42 (dk_at dksX4_isCompared_1 11 rfl rfl)
theorem dX4_isCompared_35 : decode cX4_isCompared 35 = .ok (.getfield 76, 3) := dk_180 0 76 (dk_at dksX4_isCompared_1 12 rfl rfl)
theorem dX4_isCompared_38 : decode cX4_isCompared 38 = .ok (.iload_n 1, 1) := dk_27 (dk_at dksX4_isCompared_1 15 rfl rfl)
theorem dX4_isCompared_39 : decode cX4_isCompared 39 = .ok (.iaload, 1) := dk_46 (dk_at dksX4_isCompared_1 16 rfl rfl)
theorem dX4_isCompared_40 : decode cX4_isCompared 40 = .ok (.iconst 4, 1) := dk_7 (dk_at dksX4_isCompared_1 17 rfl rfl)
theorem dX4_isCompared_41 : decode cX4_isCompared 41 = .ok (.if_icmp .ne 7, 3) := dk_160 0 7 (dk_at dksX4_isCompared_1 18 rfl rfl)
theorem dX4_isCompared_44 : decode cX4_isCompared 44 = .ok (.iconst 1, 1) := dk_4 (dk_at dksX4_isCompared_1 21 rfl rfl)
theorem dX4_isCompared_45 : decode cX4_isCompared 45 = .ok (.goto 4, 3) := dk_167 0 4 (dk_at dksX4_isCompared_2 0 rfl rfl)
theorem dX4_isCompared_48 : decode cX4_isCompared 48 = .ok (.iconst 0, 1) := dk_3 (dk_at dksX4_isCompared_2 3 rfl rfl)
theorem dX4_isCompared_49 : decode cX4_isCompared 49 = .ok (.ireturn, 1) := dk_172 (dk_at dksX4_isCompared_2 4 rfl rfl)
abbrev cX4_once : ByteArray := prog_22_method_19_code
def yX4_once : MethodName := ⟨RX4, "once", "(III)I"⟩
def dkwX4_once_0 : List UInt8 := [42, 180, 0, 39, 42, 180, 0, 235, 92, 46, 4, 27, 120, 128, 79, 42, 28, 29, 182, 0, 231, 172]
abbrev dktX4_once_0 : List UInt8 := dkwX4_once_0 ++ []
theorem dksX4_once_0 : cX4_once.data.toList.drop 0 = dktX4_once_0 := by decide +kernel
theorem dX4_once_0 : decode cX4_once 0 = .ok (.aload_n 0, 1) := dk_42 (dk_at dksX4_once_0 0 rfl rfl)
theorem dX4_once_1 : decode cX4_once 1 = .ok (.getfield 39, 3) := dk_180 0 39 (dk_at dksX4_once_0 1 rfl rfl)
theorem dX4_once_4 : decode cX4_once 4 = .ok (.aload_n 0, 1) := dk_42 (dk_at dksX4_once_0 4 rfl rfl)
theorem dX4_once_5 : decode cX4_once 5 = .ok (.getfield 235, 3) := dk_180 0 235 (dk_at dksX4_once_0 5 rfl rfl)
theorem dX4_once_8 : decode cX4_once 8 = .ok (.dup2, 1) := dk_92 (dk_at dksX4_once_0 8 rfl rfl)
theorem dX4_once_9 : decode cX4_once 9 = .ok (.iaload, 1) := dk_46 (dk_at dksX4_once_0 9 rfl rfl)
theorem dX4_once_10 : decode cX4_once 10 = .ok (.iconst 1, 1) := dk_4 (dk_at dksX4_once_0 10 rfl rfl)
theorem dX4_once_11 : decode cX4_once 11 = .ok (.iload_n 1, 1) := dk_27 (dk_at dksX4_once_0 11 rfl rfl)
theorem dX4_once_12 : decode cX4_once 12 = .ok (.ishl, 1) := dk_120 (dk_at dksX4_once_0 12 rfl rfl)
theorem dX4_once_13 : decode cX4_once 13 = .ok (.ior, 1) := dk_128 (dk_at dksX4_once_0 13 rfl rfl)
theorem dX4_once_14 : decode cX4_once 14 = .ok (.iastore, 1) := dk_79 (dk_at dksX4_once_0 14 rfl rfl)
theorem dX4_once_15 : decode cX4_once 15 = .ok (.aload_n 0, 1) := dk_42 (dk_at dksX4_once_0 15 rfl rfl)
theorem dX4_once_16 : decode cX4_once 16 = .ok (.iload_n 2, 1) := dk_28 (dk_at dksX4_once_0 16 rfl rfl)
theorem dX4_once_17 : decode cX4_once 17 = .ok (.iload_n 3, 1) := dk_29 (dk_at dksX4_once_0 17 rfl rfl)
theorem dX4_once_18 : decode cX4_once 18 = .ok (.invokevirtual 231, 3) := dk_182 0 231 (dk_at dksX4_once_0 18 rfl rfl)
theorem dX4_once_21 : decode cX4_once 21 = .ok (.ireturn, 1) := dk_172 (dk_at dksX4_once_0 21 rfl rfl)
abbrev cX4_fault : ByteArray := prog_22_method_37_code
def yX4_fault : MethodName := ⟨RX4, "fault", "(I)I"⟩
def dkwX4_fault_1 : List UInt8 := [172]
abbrev dktX4_fault_1 : List UInt8 := dkwX4_fault_1 ++ []
def dkwX4_fault_0 : List UInt8 := [27, 154, 0, 10, 42, 180, 0, 137, 167, 0, 16, 27, 4, 160, 0, 10, 42, 180, 0, 16, 167, 0, 4, 2]
abbrev dktX4_fault_0 : List UInt8 := dkwX4_fault_0 ++ dktX4_fault_1
theorem dksX4_fault_0 : cX4_fault.data.toList.drop 0 = dktX4_fault_0 := by decide +kernel
theorem dksX4_fault_1 : cX4_fault.data.toList.drop 24 = dktX4_fault_1 := dk_seg dksX4_fault_0 24 rfl rfl
theorem dX4_fault_0 : decode cX4_fault 0 = .ok (.iload_n 1, 1) := dk_27 (dk_at dksX4_fault_0 0 rfl rfl)
theorem dX4_fault_1 : decode cX4_fault 1 = .ok (.ifCond .ne 10, 3) := dk_154 0 10 (dk_at dksX4_fault_0 1 rfl rfl)
theorem dX4_fault_4 : decode cX4_fault 4 = .ok (.aload_n 0, 1) := dk_42 (dk_at dksX4_fault_0 4 rfl rfl)
theorem dX4_fault_5 : decode cX4_fault 5 = .ok (.getfield 137, 3) := dk_180 0 137 (dk_at dksX4_fault_0 5 rfl rfl)
theorem dX4_fault_8 : decode cX4_fault 8 = .ok (.goto 16, 3) := dk_167 0 16 (dk_at dksX4_fault_0 8 rfl rfl)
theorem dX4_fault_11 : decode cX4_fault 11 = .ok (.iload_n 1, 1) := dk_27 (dk_at dksX4_fault_0 11 rfl rfl)
theorem dX4_fault_12 : decode cX4_fault 12 = .ok (.iconst 1, 1) := dk_4 (dk_at dksX4_fault_0 12 rfl rfl)
theorem dX4_fault_13 : decode cX4_fault 13 = .ok (.if_icmp .ne 10, 3) := dk_160 0 10 (dk_at dksX4_fault_0 13 rfl rfl)
theorem dX4_fault_16 : decode cX4_fault 16 = .ok (.aload_n 0, 1) := dk_42 (dk_at dksX4_fault_0 16 rfl rfl)
theorem dX4_fault_17 : decode cX4_fault 17 = .ok (.getfield 16, 3) := dk_180 0 16 (dk_at dksX4_fault_0 17 rfl rfl)
theorem dX4_fault_20 : decode cX4_fault 20 = .ok (.goto 4, 3) := dk_167 0 4 (dk_at dksX4_fault_0 20 rfl rfl)
theorem dX4_fault_23 : decode cX4_fault 23 = .ok (.iconst (-1), 1) := dk_2 (dk_at dksX4_fault_0 23 rfl rfl)
theorem dX4_fault_24 : decode cX4_fault 24 = .ok (.ireturn, 1) := dk_172 (dk_at dksX4_fault_1 0 rfl rfl)
abbrev cX4_room : ByteArray := prog_22_method_66_code
def yX4_room : MethodName := ⟨RX4, "room", "(II)I"⟩
def dkwX4_room_2 : List UInt8 := [42, 27, 182, 1, 94, 172, 42, 27, 182, 1, 72, 172, 42, 27, 182, 1, 97, 172, 2, 172]
abbrev dktX4_room_2 : List UInt8 := dkwX4_room_2 ++ []
def dkwX4_room_1 : List UInt8 := [170, 0, 0, 0, 43, 0, 0, 0, 0, 0, 0, 0, 2, 0, 0, 0, 25, 0, 0, 0, 31, 0, 0, 0, 37]
abbrev dktX4_room_1 : List UInt8 := dkwX4_room_1 ++ dktX4_room_2
def dkwX4_room_0 : List UInt8 := [42, 27, 182, 1, 152, 154, 0, 5, 2, 172, 28]
abbrev dktX4_room_0 : List UInt8 := dkwX4_room_0 ++ dktX4_room_1
theorem dksX4_room_0 : cX4_room.data.toList.drop 0 = dktX4_room_0 := by decide +kernel
theorem dksX4_room_1 : cX4_room.data.toList.drop 11 = dktX4_room_1 := dk_seg dksX4_room_0 11 rfl rfl
theorem dksX4_room_2 : cX4_room.data.toList.drop 36 = dktX4_room_2 := dk_seg dksX4_room_1 25 rfl rfl
theorem dX4_room_0 : decode cX4_room 0 = .ok (.aload_n 0, 1) := dk_42 (dk_at dksX4_room_0 0 rfl rfl)
theorem dX4_room_1 : decode cX4_room 1 = .ok (.iload_n 1, 1) := dk_27 (dk_at dksX4_room_0 1 rfl rfl)
theorem dX4_room_2 : decode cX4_room 2 = .ok (.invokevirtual 408, 3) := dk_182 1 152 (dk_at dksX4_room_0 2 rfl rfl)
theorem dX4_room_5 : decode cX4_room 5 = .ok (.ifCond .ne 5, 3) := dk_154 0 5 (dk_at dksX4_room_0 5 rfl rfl)
theorem dX4_room_8 : decode cX4_room 8 = .ok (.iconst (-1), 1) := dk_2 (dk_at dksX4_room_0 8 rfl rfl)
theorem dX4_room_9 : decode cX4_room 9 = .ok (.ireturn, 1) := dk_172 (dk_at dksX4_room_0 9 rfl rfl)
theorem dX4_room_10 : decode cX4_room 10 = .ok (.iload_n 2, 1) := dk_28 (dk_at dksX4_room_0 10 rfl rfl)
theorem dX4_room_11 : decode cX4_room 11 = .ok (.tableswitch 43 0 2 #[25, 31, 37], 25) := by decide +kernel
theorem dX4_room_36 : decode cX4_room 36 = .ok (.aload_n 0, 1) := dk_42 (dk_at dksX4_room_2 0 rfl rfl)
theorem dX4_room_37 : decode cX4_room 37 = .ok (.iload_n 1, 1) := dk_27 (dk_at dksX4_room_2 1 rfl rfl)
theorem dX4_room_38 : decode cX4_room 38 = .ok (.invokevirtual 350, 3) := dk_182 1 94 (dk_at dksX4_room_2 2 rfl rfl)
theorem dX4_room_41 : decode cX4_room 41 = .ok (.ireturn, 1) := dk_172 (dk_at dksX4_room_2 5 rfl rfl)
theorem dX4_room_42 : decode cX4_room 42 = .ok (.aload_n 0, 1) := dk_42 (dk_at dksX4_room_2 6 rfl rfl)
theorem dX4_room_43 : decode cX4_room 43 = .ok (.iload_n 1, 1) := dk_27 (dk_at dksX4_room_2 7 rfl rfl)
theorem dX4_room_44 : decode cX4_room 44 = .ok (.invokevirtual 328, 3) := dk_182 1 72 (dk_at dksX4_room_2 8 rfl rfl)
theorem dX4_room_47 : decode cX4_room 47 = .ok (.ireturn, 1) := dk_172 (dk_at dksX4_room_2 11 rfl rfl)
theorem dX4_room_48 : decode cX4_room 48 = .ok (.aload_n 0, 1) := dk_42 (dk_at dksX4_room_2 12 rfl rfl)
theorem dX4_room_49 : decode cX4_room 49 = .ok (.iload_n 1, 1) := dk_27 (dk_at dksX4_room_2 13 rfl rfl)
theorem dX4_room_50 : decode cX4_room 50 = .ok (.invokevirtual 353, 3) := dk_182 1 97 (dk_at dksX4_room_2 14 rfl rfl)
theorem dX4_room_53 : decode cX4_room 53 = .ok (.ireturn, 1) := dk_172 (dk_at dksX4_room_2 17 rfl rfl)
theorem dX4_room_54 : decode cX4_room 54 = .ok (.iconst (-1), 1) := dk_2 (dk_at dksX4_room_2 18 rfl rfl)
theorem dX4_room_55 : decode cX4_room 55 = .ok (.ireturn, 1) := dk_172 (dk_at dksX4_room_2 19 rfl rfl)
abbrev cX4_isRoom : ByteArray := prog_22_method_43_code
def yX4_isRoom : MethodName := ⟨RX4, "isRoom", "(I)Z"⟩
def dkwX4_isRoom_0 : List UInt8 := [27, 3, 42, 182, 1, 87, 4, 100, 184, 1, 90, 172]
abbrev dktX4_isRoom_0 : List UInt8 := dkwX4_isRoom_0 ++ []
theorem dksX4_isRoom_0 : cX4_isRoom.data.toList.drop 0 = dktX4_isRoom_0 := by decide +kernel
theorem dX4_isRoom_0 : decode cX4_isRoom 0 = .ok (.iload_n 1, 1) := dk_27 (dk_at dksX4_isRoom_0 0 rfl rfl)
theorem dX4_isRoom_1 : decode cX4_isRoom 1 = .ok (.iconst 0, 1) := dk_3 (dk_at dksX4_isRoom_0 1 rfl rfl)
theorem dX4_isRoom_2 : decode cX4_isRoom 2 = .ok (.aload_n 0, 1) := dk_42 (dk_at dksX4_isRoom_0 2 rfl rfl)
theorem dX4_isRoom_3 : decode cX4_isRoom 3 = .ok (.invokevirtual 343, 3) := dk_182 1 87 (dk_at dksX4_isRoom_0 3 rfl rfl)
theorem dX4_isRoom_6 : decode cX4_isRoom 6 = .ok (.iconst 1, 1) := dk_4 (dk_at dksX4_isRoom_0 6 rfl rfl)
theorem dX4_isRoom_7 : decode cX4_isRoom 7 = .ok (.isub, 1) := dk_100 (dk_at dksX4_isRoom_0 7 rfl rfl)
theorem dX4_isRoom_8 : decode cX4_isRoom 8 = .ok (.invokestatic 346, 3) := dk_184 1 90 (dk_at dksX4_isRoom_0 8 rfl rfl)
theorem dX4_isRoom_11 : decode cX4_isRoom 11 = .ok (.ireturn, 1) := dk_172 (dk_at dksX4_isRoom_0 11 rfl rfl)
abbrev cX4_chambers : ByteArray := prog_22_method_42_code
def yX4_chambers : MethodName := ⟨RX4, "chambers", "()I"⟩
def dkwX4_chambers_0 : List UInt8 := [42, 180, 0, 20, 42, 180, 0, 244, 46, 172]
abbrev dktX4_chambers_0 : List UInt8 := dkwX4_chambers_0 ++ []
theorem dksX4_chambers_0 : cX4_chambers.data.toList.drop 0 = dktX4_chambers_0 := by decide +kernel
theorem dX4_chambers_0 : decode cX4_chambers 0 = .ok (.aload_n 0, 1) := dk_42 (dk_at dksX4_chambers_0 0 rfl rfl)
theorem dX4_chambers_1 : decode cX4_chambers 1 = .ok (.getfield 20, 3) := dk_180 0 20 (dk_at dksX4_chambers_0 1 rfl rfl)
theorem dX4_chambers_4 : decode cX4_chambers 4 = .ok (.aload_n 0, 1) := dk_42 (dk_at dksX4_chambers_0 4 rfl rfl)
theorem dX4_chambers_5 : decode cX4_chambers 5 = .ok (.getfield 244, 3) := dk_180 0 244 (dk_at dksX4_chambers_0 5 rfl rfl)
theorem dX4_chambers_8 : decode cX4_chambers 8 = .ok (.iaload, 1) := dk_46 (dk_at dksX4_chambers_0 8 rfl rfl)
theorem dX4_chambers_9 : decode cX4_chambers 9 = .ok (.ireturn, 1) := dk_172 (dk_at dksX4_chambers_0 9 rfl rfl)
abbrev cX4_isIn : ByteArray := prog_22_method_38_code
def yX4_isIn : MethodName := ⟨RX4, "isIn", "(III)Z"⟩
def dkwX4_isIn_0 : List UInt8 := [26, 27, 161, 0, 12, 26, 28, 163, 0, 7, 4, 167, 0, 4, 3, 172]
abbrev dktX4_isIn_0 : List UInt8 := dkwX4_isIn_0 ++ []
theorem dksX4_isIn_0 : cX4_isIn.data.toList.drop 0 = dktX4_isIn_0 := by decide +kernel
theorem dX4_isIn_0 : decode cX4_isIn 0 = .ok (.iload_n 0, 1) := dk_26 (dk_at dksX4_isIn_0 0 rfl rfl)
theorem dX4_isIn_1 : decode cX4_isIn 1 = .ok (.iload_n 1, 1) := dk_27 (dk_at dksX4_isIn_0 1 rfl rfl)
theorem dX4_isIn_2 : decode cX4_isIn 2 = .ok (.if_icmp .lt 12, 3) := dk_161 0 12 (dk_at dksX4_isIn_0 2 rfl rfl)
theorem dX4_isIn_5 : decode cX4_isIn 5 = .ok (.iload_n 0, 1) := dk_26 (dk_at dksX4_isIn_0 5 rfl rfl)
theorem dX4_isIn_6 : decode cX4_isIn 6 = .ok (.iload_n 2, 1) := dk_28 (dk_at dksX4_isIn_0 6 rfl rfl)
theorem dX4_isIn_7 : decode cX4_isIn 7 = .ok (.if_icmp .gt 7, 3) := dk_163 0 7 (dk_at dksX4_isIn_0 7 rfl rfl)
theorem dX4_isIn_10 : decode cX4_isIn 10 = .ok (.iconst 1, 1) := dk_4 (dk_at dksX4_isIn_0 10 rfl rfl)
theorem dX4_isIn_11 : decode cX4_isIn 11 = .ok (.goto 4, 3) := dk_167 0 4 (dk_at dksX4_isIn_0 11 rfl rfl)
theorem dX4_isIn_14 : decode cX4_isIn 14 = .ok (.iconst 0, 1) := dk_3 (dk_at dksX4_isIn_0 14 rfl rfl)
theorem dX4_isIn_15 : decode cX4_isIn 15 = .ok (.ireturn, 1) := dk_172 (dk_at dksX4_isIn_0 15 rfl rfl)
abbrev cX4_holdsOf : ByteArray := prog_22_method_45_code
def yX4_holdsOf : MethodName := ⟨RX4, "holdsOf", "(I)I"⟩
def dkwX4_holdsOf_0 : List UInt8 := [42, 180, 0, 42, 7, 42, 180, 0, 244, 104, 27, 96, 46, 172]
abbrev dktX4_holdsOf_0 : List UInt8 := dkwX4_holdsOf_0 ++ []
theorem dksX4_holdsOf_0 : cX4_holdsOf.data.toList.drop 0 = dktX4_holdsOf_0 := by decide +kernel
theorem dX4_holdsOf_0 : decode cX4_holdsOf 0 = .ok (.aload_n 0, 1) := dk_42 (dk_at dksX4_holdsOf_0 0 rfl rfl)
theorem dX4_holdsOf_1 : decode cX4_holdsOf 1 = .ok (.getfield 42, 3) := dk_180 0 42 (dk_at dksX4_holdsOf_0 1 rfl rfl)
theorem dX4_holdsOf_4 : decode cX4_holdsOf 4 = .ok (.iconst 4, 1) := dk_7 (dk_at dksX4_holdsOf_0 4 rfl rfl)
theorem dX4_holdsOf_5 : decode cX4_holdsOf 5 = .ok (.aload_n 0, 1) := dk_42 (dk_at dksX4_holdsOf_0 5 rfl rfl)
theorem dX4_holdsOf_6 : decode cX4_holdsOf 6 = .ok (.getfield 244, 3) := dk_180 0 244 (dk_at dksX4_holdsOf_0 6 rfl rfl)
theorem dX4_holdsOf_9 : decode cX4_holdsOf 9 = .ok (.imul, 1) := dk_104 (dk_at dksX4_holdsOf_0 9 rfl rfl)
theorem dX4_holdsOf_10 : decode cX4_holdsOf 10 = .ok (.iload_n 1, 1) := dk_27 (dk_at dksX4_holdsOf_0 10 rfl rfl)
theorem dX4_holdsOf_11 : decode cX4_holdsOf 11 = .ok (.iadd, 1) := dk_96 (dk_at dksX4_holdsOf_0 11 rfl rfl)
theorem dX4_holdsOf_12 : decode cX4_holdsOf 12 = .ok (.iaload, 1) := dk_46 (dk_at dksX4_holdsOf_0 12 rfl rfl)
theorem dX4_holdsOf_13 : decode cX4_holdsOf 13 = .ok (.ireturn, 1) := dk_172 (dk_at dksX4_holdsOf_0 13 rfl rfl)
abbrev cX4_leftIn : ByteArray := prog_22_method_49_code
def yX4_leftIn : MethodName := ⟨RX4, "leftIn", "(I)I"⟩
def dkwX4_leftIn_0 : List UInt8 := [42, 27, 182, 1, 94, 42, 42, 27, 182, 1, 97, 182, 1, 100, 100, 172]
abbrev dktX4_leftIn_0 : List UInt8 := dkwX4_leftIn_0 ++ []
theorem dksX4_leftIn_0 : cX4_leftIn.data.toList.drop 0 = dktX4_leftIn_0 := by decide +kernel
theorem dX4_leftIn_0 : decode cX4_leftIn 0 = .ok (.aload_n 0, 1) := dk_42 (dk_at dksX4_leftIn_0 0 rfl rfl)
theorem dX4_leftIn_1 : decode cX4_leftIn 1 = .ok (.iload_n 1, 1) := dk_27 (dk_at dksX4_leftIn_0 1 rfl rfl)
theorem dX4_leftIn_2 : decode cX4_leftIn 2 = .ok (.invokevirtual 350, 3) := dk_182 1 94 (dk_at dksX4_leftIn_0 2 rfl rfl)
theorem dX4_leftIn_5 : decode cX4_leftIn 5 = .ok (.aload_n 0, 1) := dk_42 (dk_at dksX4_leftIn_0 5 rfl rfl)
theorem dX4_leftIn_6 : decode cX4_leftIn 6 = .ok (.aload_n 0, 1) := dk_42 (dk_at dksX4_leftIn_0 6 rfl rfl)
theorem dX4_leftIn_7 : decode cX4_leftIn 7 = .ok (.iload_n 1, 1) := dk_27 (dk_at dksX4_leftIn_0 7 rfl rfl)
theorem dX4_leftIn_8 : decode cX4_leftIn 8 = .ok (.invokevirtual 353, 3) := dk_182 1 97 (dk_at dksX4_leftIn_0 8 rfl rfl)
theorem dX4_leftIn_11 : decode cX4_leftIn 11 = .ok (.invokevirtual 356, 3) := dk_182 1 100 (dk_at dksX4_leftIn_0 11 rfl rfl)
theorem dX4_leftIn_14 : decode cX4_leftIn 14 = .ok (.isub, 1) := dk_100 (dk_at dksX4_leftIn_0 14 rfl rfl)
theorem dX4_leftIn_15 : decode cX4_leftIn 15 = .ok (.ireturn, 1) := dk_172 (dk_at dksX4_leftIn_0 15 rfl rfl)
abbrev cX4_thoseIn : ByteArray := prog_22_method_47_code
def yX4_thoseIn : MethodName := ⟨RX4, "thoseIn", "(I)I"⟩
def dkwX4_thoseIn_2 : List UInt8 := [28, 172]
abbrev dktX4_thoseIn_2 : List UInt8 := dkwX4_thoseIn_2 ++ []
def dkwX4_thoseIn_1 : List UInt8 := [180, 0, 85, 16, 8, 29, 96, 46, 27, 160, 0, 9, 28, 4, 29, 120, 128, 61, 132, 3, 1, 167, 255, 217]
abbrev dktX4_thoseIn_1 : List UInt8 := dkwX4_thoseIn_1 ++ dktX4_thoseIn_2
def dkwX4_thoseIn_0 : List UInt8 := [3, 61, 3, 62, 29, 16, 8, 162, 0, 39, 42, 180, 0, 85, 3, 29, 96, 46, 158, 0, 22, 42]
abbrev dktX4_thoseIn_0 : List UInt8 := dkwX4_thoseIn_0 ++ dktX4_thoseIn_1
theorem dksX4_thoseIn_0 : cX4_thoseIn.data.toList.drop 0 = dktX4_thoseIn_0 := by decide +kernel
theorem dksX4_thoseIn_1 : cX4_thoseIn.data.toList.drop 22 = dktX4_thoseIn_1 := dk_seg dksX4_thoseIn_0 22 rfl rfl
theorem dksX4_thoseIn_2 : cX4_thoseIn.data.toList.drop 46 = dktX4_thoseIn_2 := dk_seg dksX4_thoseIn_1 24 rfl rfl
theorem dX4_thoseIn_0 : decode cX4_thoseIn 0 = .ok (.iconst 0, 1) := dk_3 (dk_at dksX4_thoseIn_0 0 rfl rfl)
theorem dX4_thoseIn_1 : decode cX4_thoseIn 1 = .ok (.istore_n 2, 1) := dk_61 (dk_at dksX4_thoseIn_0 1 rfl rfl)
theorem dX4_thoseIn_2 : decode cX4_thoseIn 2 = .ok (.iconst 0, 1) := dk_3 (dk_at dksX4_thoseIn_0 2 rfl rfl)
theorem dX4_thoseIn_3 : decode cX4_thoseIn 3 = .ok (.istore_n 3, 1) := dk_62 (dk_at dksX4_thoseIn_0 3 rfl rfl)
theorem dX4_thoseIn_4 : decode cX4_thoseIn 4 = .ok (.iload_n 3, 1) := dk_29 (dk_at dksX4_thoseIn_0 4 rfl rfl)
theorem dX4_thoseIn_5 : decode cX4_thoseIn 5 = .ok (.bipush 8, 2) := dk_16 8 (dk_at dksX4_thoseIn_0 5 rfl rfl)
theorem dX4_thoseIn_7 : decode cX4_thoseIn 7 = .ok (.if_icmp .ge 39, 3) := dk_162 0 39 (dk_at dksX4_thoseIn_0 7 rfl rfl)
theorem dX4_thoseIn_10 : decode cX4_thoseIn 10 = .ok (.aload_n 0, 1) := dk_42 (dk_at dksX4_thoseIn_0 10 rfl rfl)
theorem dX4_thoseIn_11 : decode cX4_thoseIn 11 = .ok (.getfield 85, 3) := dk_180 0 85 (dk_at dksX4_thoseIn_0 11 rfl rfl)
theorem dX4_thoseIn_14 : decode cX4_thoseIn 14 = .ok (.iconst 0, 1) := dk_3 (dk_at dksX4_thoseIn_0 14 rfl rfl)
theorem dX4_thoseIn_15 : decode cX4_thoseIn 15 = .ok (.iload_n 3, 1) := dk_29 (dk_at dksX4_thoseIn_0 15 rfl rfl)
theorem dX4_thoseIn_16 : decode cX4_thoseIn 16 = .ok (.iadd, 1) := dk_96 (dk_at dksX4_thoseIn_0 16 rfl rfl)
theorem dX4_thoseIn_17 : decode cX4_thoseIn 17 = .ok (.iaload, 1) := dk_46 (dk_at dksX4_thoseIn_0 17 rfl rfl)
theorem dX4_thoseIn_18 : decode cX4_thoseIn 18 = .ok (.ifCond .le 22, 3) := dk_158 0 22 (dk_at dksX4_thoseIn_0 18 rfl rfl)
theorem dX4_thoseIn_21 : decode cX4_thoseIn 21 = .ok (.aload_n 0, 1) := dk_42 (dk_at dksX4_thoseIn_0 21 rfl rfl)
theorem dX4_thoseIn_22 : decode cX4_thoseIn 22 = .ok (.getfield 85, 3) := dk_180 0 85 (dk_at dksX4_thoseIn_1 0 rfl rfl)
theorem dX4_thoseIn_25 : decode cX4_thoseIn 25 = .ok (.bipush 8, 2) := dk_16 8 (dk_at dksX4_thoseIn_1 3 rfl rfl)
theorem dX4_thoseIn_27 : decode cX4_thoseIn 27 = .ok (.iload_n 3, 1) := dk_29 (dk_at dksX4_thoseIn_1 5 rfl rfl)
theorem dX4_thoseIn_28 : decode cX4_thoseIn 28 = .ok (.iadd, 1) := dk_96 (dk_at dksX4_thoseIn_1 6 rfl rfl)
theorem dX4_thoseIn_29 : decode cX4_thoseIn 29 = .ok (.iaload, 1) := dk_46 (dk_at dksX4_thoseIn_1 7 rfl rfl)
theorem dX4_thoseIn_30 : decode cX4_thoseIn 30 = .ok (.iload_n 1, 1) := dk_27 (dk_at dksX4_thoseIn_1 8 rfl rfl)
theorem dX4_thoseIn_31 : decode cX4_thoseIn 31 = .ok (.if_icmp .ne 9, 3) := dk_160 0 9 (dk_at dksX4_thoseIn_1 9 rfl rfl)
theorem dX4_thoseIn_34 : decode cX4_thoseIn 34 = .ok (.iload_n 2, 1) := dk_28 (dk_at dksX4_thoseIn_1 12 rfl rfl)
theorem dX4_thoseIn_35 : decode cX4_thoseIn 35 = .ok (.iconst 1, 1) := dk_4 (dk_at dksX4_thoseIn_1 13 rfl rfl)
theorem dX4_thoseIn_36 : decode cX4_thoseIn 36 = .ok (.iload_n 3, 1) := dk_29 (dk_at dksX4_thoseIn_1 14 rfl rfl)
theorem dX4_thoseIn_37 : decode cX4_thoseIn 37 = .ok (.ishl, 1) := dk_120 (dk_at dksX4_thoseIn_1 15 rfl rfl)
theorem dX4_thoseIn_38 : decode cX4_thoseIn 38 = .ok (.ior, 1) := dk_128 (dk_at dksX4_thoseIn_1 16 rfl rfl)
theorem dX4_thoseIn_39 : decode cX4_thoseIn 39 = .ok (.istore_n 2, 1) := dk_61 (dk_at dksX4_thoseIn_1 17 rfl rfl)
theorem dX4_thoseIn_40 : decode cX4_thoseIn 40 = .ok (.iinc 3 1, 3) := dk_132 3 1 (dk_at dksX4_thoseIn_1 18 rfl rfl)
theorem dX4_thoseIn_43 : decode cX4_thoseIn 43 = .ok (.goto (-39), 3) := dk_167 255 217 (dk_at dksX4_thoseIn_1 21 rfl rfl)
theorem dX4_thoseIn_46 : decode cX4_thoseIn 46 = .ok (.iload_n 2, 1) := dk_28 (dk_at dksX4_thoseIn_2 0 rfl rfl)
theorem dX4_thoseIn_47 : decode cX4_thoseIn 47 = .ok (.ireturn, 1) := dk_172 (dk_at dksX4_thoseIn_2 1 rfl rfl)
abbrev cX4_bulkOf : ByteArray := prog_22_method_48_code
def yX4_bulkOf : MethodName := ⟨RX4, "bulkOf", "(I)I"⟩
def dkwX4_bulkOf_1 : List UInt8 := [29, 96, 46, 167, 0, 4, 3, 96, 61, 132, 3, 1, 167, 255, 224, 28, 172]
abbrev dktX4_bulkOf_1 : List UInt8 := dkwX4_bulkOf_1 ++ []
def dkwX4_bulkOf_0 : List UInt8 := [3, 61, 3, 62, 29, 16, 8, 162, 0, 32, 28, 27, 29, 184, 0, 250, 153, 0, 14, 42, 180, 0, 85, 3]
abbrev dktX4_bulkOf_0 : List UInt8 := dkwX4_bulkOf_0 ++ dktX4_bulkOf_1
theorem dksX4_bulkOf_0 : cX4_bulkOf.data.toList.drop 0 = dktX4_bulkOf_0 := by decide +kernel
theorem dksX4_bulkOf_1 : cX4_bulkOf.data.toList.drop 24 = dktX4_bulkOf_1 := dk_seg dksX4_bulkOf_0 24 rfl rfl
theorem dX4_bulkOf_0 : decode cX4_bulkOf 0 = .ok (.iconst 0, 1) := dk_3 (dk_at dksX4_bulkOf_0 0 rfl rfl)
theorem dX4_bulkOf_1 : decode cX4_bulkOf 1 = .ok (.istore_n 2, 1) := dk_61 (dk_at dksX4_bulkOf_0 1 rfl rfl)
theorem dX4_bulkOf_2 : decode cX4_bulkOf 2 = .ok (.iconst 0, 1) := dk_3 (dk_at dksX4_bulkOf_0 2 rfl rfl)
theorem dX4_bulkOf_3 : decode cX4_bulkOf 3 = .ok (.istore_n 3, 1) := dk_62 (dk_at dksX4_bulkOf_0 3 rfl rfl)
theorem dX4_bulkOf_4 : decode cX4_bulkOf 4 = .ok (.iload_n 3, 1) := dk_29 (dk_at dksX4_bulkOf_0 4 rfl rfl)
theorem dX4_bulkOf_5 : decode cX4_bulkOf 5 = .ok (.bipush 8, 2) := dk_16 8 (dk_at dksX4_bulkOf_0 5 rfl rfl)
theorem dX4_bulkOf_7 : decode cX4_bulkOf 7 = .ok (.if_icmp .ge 32, 3) := dk_162 0 32 (dk_at dksX4_bulkOf_0 7 rfl rfl)
theorem dX4_bulkOf_10 : decode cX4_bulkOf 10 = .ok (.iload_n 2, 1) := dk_28 (dk_at dksX4_bulkOf_0 10 rfl rfl)
theorem dX4_bulkOf_11 : decode cX4_bulkOf 11 = .ok (.iload_n 1, 1) := dk_27 (dk_at dksX4_bulkOf_0 11 rfl rfl)
theorem dX4_bulkOf_12 : decode cX4_bulkOf 12 = .ok (.iload_n 3, 1) := dk_29 (dk_at dksX4_bulkOf_0 12 rfl rfl)
theorem dX4_bulkOf_13 : decode cX4_bulkOf 13 = .ok (.invokestatic 250, 3) := dk_184 0 250 (dk_at dksX4_bulkOf_0 13 rfl rfl)
theorem dX4_bulkOf_16 : decode cX4_bulkOf 16 = .ok (.ifCond .eq 14, 3) := dk_153 0 14 (dk_at dksX4_bulkOf_0 16 rfl rfl)
theorem dX4_bulkOf_19 : decode cX4_bulkOf 19 = .ok (.aload_n 0, 1) := dk_42 (dk_at dksX4_bulkOf_0 19 rfl rfl)
theorem dX4_bulkOf_20 : decode cX4_bulkOf 20 = .ok (.getfield 85, 3) := dk_180 0 85 (dk_at dksX4_bulkOf_0 20 rfl rfl)
theorem dX4_bulkOf_23 : decode cX4_bulkOf 23 = .ok (.iconst 0, 1) := dk_3 (dk_at dksX4_bulkOf_0 23 rfl rfl)
theorem dX4_bulkOf_24 : decode cX4_bulkOf 24 = .ok (.iload_n 3, 1) := dk_29 (dk_at dksX4_bulkOf_1 0 rfl rfl)
theorem dX4_bulkOf_25 : decode cX4_bulkOf 25 = .ok (.iadd, 1) := dk_96 (dk_at dksX4_bulkOf_1 1 rfl rfl)
theorem dX4_bulkOf_26 : decode cX4_bulkOf 26 = .ok (.iaload, 1) := dk_46 (dk_at dksX4_bulkOf_1 2 rfl rfl)
theorem dX4_bulkOf_27 : decode cX4_bulkOf 27 = .ok (.goto 4, 3) := dk_167 0 4 (dk_at dksX4_bulkOf_1 3 rfl rfl)
theorem dX4_bulkOf_30 : decode cX4_bulkOf 30 = .ok (.iconst 0, 1) := dk_3 (dk_at dksX4_bulkOf_1 6 rfl rfl)
theorem dX4_bulkOf_31 : decode cX4_bulkOf 31 = .ok (.iadd, 1) := dk_96 (dk_at dksX4_bulkOf_1 7 rfl rfl)
theorem dX4_bulkOf_32 : decode cX4_bulkOf 32 = .ok (.istore_n 2, 1) := dk_61 (dk_at dksX4_bulkOf_1 8 rfl rfl)
theorem dX4_bulkOf_33 : decode cX4_bulkOf 33 = .ok (.iinc 3 1, 3) := dk_132 3 1 (dk_at dksX4_bulkOf_1 9 rfl rfl)
theorem dX4_bulkOf_36 : decode cX4_bulkOf 36 = .ok (.goto (-32), 3) := dk_167 255 224 (dk_at dksX4_bulkOf_1 12 rfl rfl)
theorem dX4_bulkOf_39 : decode cX4_bulkOf 39 = .ok (.iload_n 2, 1) := dk_28 (dk_at dksX4_bulkOf_1 15 rfl rfl)
theorem dX4_bulkOf_40 : decode cX4_bulkOf 40 = .ok (.ireturn, 1) := dk_172 (dk_at dksX4_bulkOf_1 16 rfl rfl)
abbrev cX4_trunk : ByteArray := prog_22_method_67_code
def yX4_trunk : MethodName := ⟨RX4, "trunk", "(II)I"⟩
def dkwX4_trunk_5 : List UInt8 := [172]
abbrev dktX4_trunk_5 : List UInt8 := dkwX4_trunk_5 ++ []
def dkwX4_trunk_4 : List UInt8 := [46, 172, 42, 180, 0, 85, 16, 40, 27, 96, 46, 172, 42, 180, 0, 85, 16, 48, 27, 96, 46, 172, 16, 254]
abbrev dktX4_trunk_4 : List UInt8 := dkwX4_trunk_4 ++ dktX4_trunk_5
def dkwX4_trunk_3 : List UInt8 := [16, 16, 27, 96, 46, 172, 42, 180, 0, 85, 16, 24, 27, 96, 46, 172, 42, 180, 0, 85, 16, 32, 27, 96]
abbrev dktX4_trunk_3 : List UInt8 := dkwX4_trunk_3 ++ dktX4_trunk_4
def dkwX4_trunk_2 : List UInt8 := [42, 180, 0, 85, 3, 27, 96, 46, 172, 42, 180, 0, 85, 16, 8, 27, 96, 46, 172, 42, 180, 0, 85]
abbrev dktX4_trunk_2 : List UInt8 := dkwX4_trunk_2 ++ dktX4_trunk_3
def dkwX4_trunk_1 : List UInt8 := [170, 0, 0, 0, 0, 0, 0, 113, 0, 0, 0, 0, 0, 0, 0, 6, 0, 0, 0, 44, 0, 0, 0, 53, 0, 0, 0, 63, 0, 0, 0, 73, 0, 0, 0, 83, 0, 0, 0, 93, 0, 0, 0, 103]
abbrev dktX4_trunk_1 : List UInt8 := dkwX4_trunk_1 ++ dktX4_trunk_2
def dkwX4_trunk_0 : List UInt8 := [42, 27, 182, 1, 155, 154, 0, 6, 16, 254, 172, 28]
abbrev dktX4_trunk_0 : List UInt8 := dkwX4_trunk_0 ++ dktX4_trunk_1
theorem dksX4_trunk_0 : cX4_trunk.data.toList.drop 0 = dktX4_trunk_0 := by decide +kernel
theorem dksX4_trunk_1 : cX4_trunk.data.toList.drop 12 = dktX4_trunk_1 := dk_seg dksX4_trunk_0 12 rfl rfl
theorem dksX4_trunk_2 : cX4_trunk.data.toList.drop 56 = dktX4_trunk_2 := dk_seg dksX4_trunk_1 44 rfl rfl
theorem dksX4_trunk_3 : cX4_trunk.data.toList.drop 79 = dktX4_trunk_3 := dk_seg dksX4_trunk_2 23 rfl rfl
theorem dksX4_trunk_4 : cX4_trunk.data.toList.drop 103 = dktX4_trunk_4 := dk_seg dksX4_trunk_3 24 rfl rfl
theorem dksX4_trunk_5 : cX4_trunk.data.toList.drop 127 = dktX4_trunk_5 := dk_seg dksX4_trunk_4 24 rfl rfl
theorem dX4_trunk_0 : decode cX4_trunk 0 = .ok (.aload_n 0, 1) := dk_42 (dk_at dksX4_trunk_0 0 rfl rfl)
theorem dX4_trunk_1 : decode cX4_trunk 1 = .ok (.iload_n 1, 1) := dk_27 (dk_at dksX4_trunk_0 1 rfl rfl)
theorem dX4_trunk_2 : decode cX4_trunk 2 = .ok (.invokevirtual 411, 3) := dk_182 1 155 (dk_at dksX4_trunk_0 2 rfl rfl)
theorem dX4_trunk_5 : decode cX4_trunk 5 = .ok (.ifCond .ne 6, 3) := dk_154 0 6 (dk_at dksX4_trunk_0 5 rfl rfl)
theorem dX4_trunk_8 : decode cX4_trunk 8 = .ok (.bipush (-2), 2) := dk_16 254 (dk_at dksX4_trunk_0 8 rfl rfl)
theorem dX4_trunk_10 : decode cX4_trunk 10 = .ok (.ireturn, 1) := dk_172 (dk_at dksX4_trunk_0 10 rfl rfl)
theorem dX4_trunk_11 : decode cX4_trunk 11 = .ok (.iload_n 2, 1) := dk_28 (dk_at dksX4_trunk_0 11 rfl rfl)
theorem dX4_trunk_12 : decode cX4_trunk 12 = .ok (.tableswitch 113 0 6 #[44, 53, 63, 73, 83, 93, 103], 44) := by decide +kernel
theorem dX4_trunk_56 : decode cX4_trunk 56 = .ok (.aload_n 0, 1) := dk_42 (dk_at dksX4_trunk_2 0 rfl rfl)
theorem dX4_trunk_57 : decode cX4_trunk 57 = .ok (.getfield 85, 3) := dk_180 0 85 (dk_at dksX4_trunk_2 1 rfl rfl)
theorem dX4_trunk_60 : decode cX4_trunk 60 = .ok (.iconst 0, 1) := dk_3 (dk_at dksX4_trunk_2 4 rfl rfl)
theorem dX4_trunk_61 : decode cX4_trunk 61 = .ok (.iload_n 1, 1) := dk_27 (dk_at dksX4_trunk_2 5 rfl rfl)
theorem dX4_trunk_62 : decode cX4_trunk 62 = .ok (.iadd, 1) := dk_96 (dk_at dksX4_trunk_2 6 rfl rfl)
theorem dX4_trunk_63 : decode cX4_trunk 63 = .ok (.iaload, 1) := dk_46 (dk_at dksX4_trunk_2 7 rfl rfl)
theorem dX4_trunk_64 : decode cX4_trunk 64 = .ok (.ireturn, 1) := dk_172 (dk_at dksX4_trunk_2 8 rfl rfl)
theorem dX4_trunk_65 : decode cX4_trunk 65 = .ok (.aload_n 0, 1) := dk_42 (dk_at dksX4_trunk_2 9 rfl rfl)
theorem dX4_trunk_66 : decode cX4_trunk 66 = .ok (.getfield 85, 3) := dk_180 0 85 (dk_at dksX4_trunk_2 10 rfl rfl)
theorem dX4_trunk_69 : decode cX4_trunk 69 = .ok (.bipush 8, 2) := dk_16 8 (dk_at dksX4_trunk_2 13 rfl rfl)
theorem dX4_trunk_71 : decode cX4_trunk 71 = .ok (.iload_n 1, 1) := dk_27 (dk_at dksX4_trunk_2 15 rfl rfl)
theorem dX4_trunk_72 : decode cX4_trunk 72 = .ok (.iadd, 1) := dk_96 (dk_at dksX4_trunk_2 16 rfl rfl)
theorem dX4_trunk_73 : decode cX4_trunk 73 = .ok (.iaload, 1) := dk_46 (dk_at dksX4_trunk_2 17 rfl rfl)
theorem dX4_trunk_74 : decode cX4_trunk 74 = .ok (.ireturn, 1) := dk_172 (dk_at dksX4_trunk_2 18 rfl rfl)
theorem dX4_trunk_75 : decode cX4_trunk 75 = .ok (.aload_n 0, 1) := dk_42 (dk_at dksX4_trunk_2 19 rfl rfl)
theorem dX4_trunk_76 : decode cX4_trunk 76 = .ok (.getfield 85, 3) := dk_180 0 85 (dk_at dksX4_trunk_2 20 rfl rfl)
theorem dX4_trunk_79 : decode cX4_trunk 79 = .ok (.bipush 16, 2) := dk_16 16 (dk_at dksX4_trunk_3 0 rfl rfl)
theorem dX4_trunk_81 : decode cX4_trunk 81 = .ok (.iload_n 1, 1) := dk_27 (dk_at dksX4_trunk_3 2 rfl rfl)
theorem dX4_trunk_82 : decode cX4_trunk 82 = .ok (.iadd, 1) := dk_96 (dk_at dksX4_trunk_3 3 rfl rfl)
theorem dX4_trunk_83 : decode cX4_trunk 83 = .ok (.iaload, 1) := dk_46 (dk_at dksX4_trunk_3 4 rfl rfl)
theorem dX4_trunk_84 : decode cX4_trunk 84 = .ok (.ireturn, 1) := dk_172 (dk_at dksX4_trunk_3 5 rfl rfl)
theorem dX4_trunk_85 : decode cX4_trunk 85 = .ok (.aload_n 0, 1) := dk_42 (dk_at dksX4_trunk_3 6 rfl rfl)
theorem dX4_trunk_86 : decode cX4_trunk 86 = .ok (.getfield 85, 3) := dk_180 0 85 (dk_at dksX4_trunk_3 7 rfl rfl)
theorem dX4_trunk_89 : decode cX4_trunk 89 = .ok (.bipush 24, 2) := dk_16 24 (dk_at dksX4_trunk_3 10 rfl rfl)
theorem dX4_trunk_91 : decode cX4_trunk 91 = .ok (.iload_n 1, 1) := dk_27 (dk_at dksX4_trunk_3 12 rfl rfl)
theorem dX4_trunk_92 : decode cX4_trunk 92 = .ok (.iadd, 1) := dk_96 (dk_at dksX4_trunk_3 13 rfl rfl)
theorem dX4_trunk_93 : decode cX4_trunk 93 = .ok (.iaload, 1) := dk_46 (dk_at dksX4_trunk_3 14 rfl rfl)
theorem dX4_trunk_94 : decode cX4_trunk 94 = .ok (.ireturn, 1) := dk_172 (dk_at dksX4_trunk_3 15 rfl rfl)
theorem dX4_trunk_95 : decode cX4_trunk 95 = .ok (.aload_n 0, 1) := dk_42 (dk_at dksX4_trunk_3 16 rfl rfl)
theorem dX4_trunk_96 : decode cX4_trunk 96 = .ok (.getfield 85, 3) := dk_180 0 85 (dk_at dksX4_trunk_3 17 rfl rfl)
theorem dX4_trunk_99 : decode cX4_trunk 99 = .ok (.bipush 32, 2) := dk_16 32 (dk_at dksX4_trunk_3 20 rfl rfl)
theorem dX4_trunk_101 : decode cX4_trunk 101 = .ok (.iload_n 1, 1) := dk_27 (dk_at dksX4_trunk_3 22 rfl rfl)
theorem dX4_trunk_102 : decode cX4_trunk 102 = .ok (.iadd, 1) := dk_96 (dk_at dksX4_trunk_3 23 rfl rfl)
theorem dX4_trunk_103 : decode cX4_trunk 103 = .ok (.iaload, 1) := dk_46 (dk_at dksX4_trunk_4 0 rfl rfl)
theorem dX4_trunk_104 : decode cX4_trunk 104 = .ok (.ireturn, 1) := dk_172 (dk_at dksX4_trunk_4 1 rfl rfl)
theorem dX4_trunk_105 : decode cX4_trunk 105 = .ok (.aload_n 0, 1) := dk_42 (dk_at dksX4_trunk_4 2 rfl rfl)
theorem dX4_trunk_106 : decode cX4_trunk 106 = .ok (.getfield 85, 3) := dk_180 0 85 (dk_at dksX4_trunk_4 3 rfl rfl)
theorem dX4_trunk_109 : decode cX4_trunk 109 = .ok (.bipush 40, 2) := dk_16 40 (dk_at dksX4_trunk_4 6 rfl rfl)
theorem dX4_trunk_111 : decode cX4_trunk 111 = .ok (.iload_n 1, 1) := dk_27 (dk_at dksX4_trunk_4 8 rfl rfl)
theorem dX4_trunk_112 : decode cX4_trunk 112 = .ok (.iadd, 1) := dk_96 (dk_at dksX4_trunk_4 9 rfl rfl)
theorem dX4_trunk_113 : decode cX4_trunk 113 = .ok (.iaload, 1) := dk_46 (dk_at dksX4_trunk_4 10 rfl rfl)
theorem dX4_trunk_114 : decode cX4_trunk 114 = .ok (.ireturn, 1) := dk_172 (dk_at dksX4_trunk_4 11 rfl rfl)
theorem dX4_trunk_115 : decode cX4_trunk 115 = .ok (.aload_n 0, 1) := dk_42 (dk_at dksX4_trunk_4 12 rfl rfl)
theorem dX4_trunk_116 : decode cX4_trunk 116 = .ok (.getfield 85, 3) := dk_180 0 85 (dk_at dksX4_trunk_4 13 rfl rfl)
theorem dX4_trunk_119 : decode cX4_trunk 119 = .ok (.bipush 48, 2) := dk_16 48 (dk_at dksX4_trunk_4 16 rfl rfl)
theorem dX4_trunk_121 : decode cX4_trunk 121 = .ok (.iload_n 1, 1) := dk_27 (dk_at dksX4_trunk_4 18 rfl rfl)
theorem dX4_trunk_122 : decode cX4_trunk 122 = .ok (.iadd, 1) := dk_96 (dk_at dksX4_trunk_4 19 rfl rfl)
theorem dX4_trunk_123 : decode cX4_trunk 123 = .ok (.iaload, 1) := dk_46 (dk_at dksX4_trunk_4 20 rfl rfl)
theorem dX4_trunk_124 : decode cX4_trunk 124 = .ok (.ireturn, 1) := dk_172 (dk_at dksX4_trunk_4 21 rfl rfl)
theorem dX4_trunk_125 : decode cX4_trunk 125 = .ok (.bipush (-2), 2) := dk_16 254 (dk_at dksX4_trunk_4 22 rfl rfl)
theorem dX4_trunk_127 : decode cX4_trunk 127 = .ok (.ireturn, 1) := dk_172 (dk_at dksX4_trunk_5 0 rfl rfl)
abbrev cX4_isThere : ByteArray := prog_22_method_44_code
def yX4_isThere : MethodName := ⟨RX4, "isThere", "(I)Z"⟩
def dkwX4_isThere_1 : List UInt8 := [167, 0, 4, 3, 172]
abbrev dktX4_isThere_1 : List UInt8 := dkwX4_isThere_1 ++ []
def dkwX4_isThere_0 : List UInt8 := [27, 3, 16, 7, 184, 1, 90, 153, 0, 18, 42, 180, 0, 85, 3, 27, 96, 46, 158, 0, 7, 4]
abbrev dktX4_isThere_0 : List UInt8 := dkwX4_isThere_0 ++ dktX4_isThere_1
theorem dksX4_isThere_0 : cX4_isThere.data.toList.drop 0 = dktX4_isThere_0 := by decide +kernel
theorem dksX4_isThere_1 : cX4_isThere.data.toList.drop 22 = dktX4_isThere_1 := dk_seg dksX4_isThere_0 22 rfl rfl
theorem dX4_isThere_0 : decode cX4_isThere 0 = .ok (.iload_n 1, 1) := dk_27 (dk_at dksX4_isThere_0 0 rfl rfl)
theorem dX4_isThere_1 : decode cX4_isThere 1 = .ok (.iconst 0, 1) := dk_3 (dk_at dksX4_isThere_0 1 rfl rfl)
theorem dX4_isThere_2 : decode cX4_isThere 2 = .ok (.bipush 7, 2) := dk_16 7 (dk_at dksX4_isThere_0 2 rfl rfl)
theorem dX4_isThere_4 : decode cX4_isThere 4 = .ok (.invokestatic 346, 3) := dk_184 1 90 (dk_at dksX4_isThere_0 4 rfl rfl)
theorem dX4_isThere_7 : decode cX4_isThere 7 = .ok (.ifCond .eq 18, 3) := dk_153 0 18 (dk_at dksX4_isThere_0 7 rfl rfl)
theorem dX4_isThere_10 : decode cX4_isThere 10 = .ok (.aload_n 0, 1) := dk_42 (dk_at dksX4_isThere_0 10 rfl rfl)
theorem dX4_isThere_11 : decode cX4_isThere 11 = .ok (.getfield 85, 3) := dk_180 0 85 (dk_at dksX4_isThere_0 11 rfl rfl)
theorem dX4_isThere_14 : decode cX4_isThere 14 = .ok (.iconst 0, 1) := dk_3 (dk_at dksX4_isThere_0 14 rfl rfl)
theorem dX4_isThere_15 : decode cX4_isThere 15 = .ok (.iload_n 1, 1) := dk_27 (dk_at dksX4_isThere_0 15 rfl rfl)
theorem dX4_isThere_16 : decode cX4_isThere 16 = .ok (.iadd, 1) := dk_96 (dk_at dksX4_isThere_0 16 rfl rfl)
theorem dX4_isThere_17 : decode cX4_isThere 17 = .ok (.iaload, 1) := dk_46 (dk_at dksX4_isThere_0 17 rfl rfl)
theorem dX4_isThere_18 : decode cX4_isThere 18 = .ok (.ifCond .le 7, 3) := dk_158 0 7 (dk_at dksX4_isThere_0 18 rfl rfl)
theorem dX4_isThere_21 : decode cX4_isThere 21 = .ok (.iconst 1, 1) := dk_4 (dk_at dksX4_isThere_0 21 rfl rfl)
theorem dX4_isThere_22 : decode cX4_isThere 22 = .ok (.goto 4, 3) := dk_167 0 4 (dk_at dksX4_isThere_1 0 rfl rfl)
theorem dX4_isThere_25 : decode cX4_isThere 25 = .ok (.iconst 0, 1) := dk_3 (dk_at dksX4_isThere_1 3 rfl rfl)
theorem dX4_isThere_26 : decode cX4_isThere 26 = .ok (.ireturn, 1) := dk_172 (dk_at dksX4_isThere_1 4 rfl rfl)
abbrev cX4_brood : ByteArray := prog_22_method_68_code
def yX4_brood : MethodName := ⟨RX4, "brood", "(II)I"⟩
def dkwX4_brood_2 : List UInt8 := [182, 1, 131, 167, 0, 6, 19, 1, 158, 172]
abbrev dktX4_brood_2 : List UInt8 := dkwX4_brood_2 ++ []
def dkwX4_brood_1 : List UInt8 := [180, 0, 85, 16, 8, 27, 96, 46, 42, 180, 0, 85, 16, 8, 28, 96, 46, 160, 0, 12, 42, 27, 28]
abbrev dktX4_brood_1 : List UInt8 := dkwX4_brood_1 ++ dktX4_brood_2
def dkwX4_brood_0 : List UInt8 := [42, 27, 182, 1, 155, 153, 0, 46, 42, 28, 182, 1, 155, 153, 0, 38, 27, 28, 159, 0, 33, 42]
abbrev dktX4_brood_0 : List UInt8 := dkwX4_brood_0 ++ dktX4_brood_1
theorem dksX4_brood_0 : cX4_brood.data.toList.drop 0 = dktX4_brood_0 := by decide +kernel
theorem dksX4_brood_1 : cX4_brood.data.toList.drop 22 = dktX4_brood_1 := dk_seg dksX4_brood_0 22 rfl rfl
theorem dksX4_brood_2 : cX4_brood.data.toList.drop 45 = dktX4_brood_2 := dk_seg dksX4_brood_1 23 rfl rfl
theorem dX4_brood_0 : decode cX4_brood 0 = .ok (.aload_n 0, 1) := dk_42 (dk_at dksX4_brood_0 0 rfl rfl)
theorem dX4_brood_1 : decode cX4_brood 1 = .ok (.iload_n 1, 1) := dk_27 (dk_at dksX4_brood_0 1 rfl rfl)
theorem dX4_brood_2 : decode cX4_brood 2 = .ok (.invokevirtual 411, 3) := dk_182 1 155 (dk_at dksX4_brood_0 2 rfl rfl)
theorem dX4_brood_5 : decode cX4_brood 5 = .ok (.ifCond .eq 46, 3) := dk_153 0 46 (dk_at dksX4_brood_0 5 rfl rfl)
theorem dX4_brood_8 : decode cX4_brood 8 = .ok (.aload_n 0, 1) := dk_42 (dk_at dksX4_brood_0 8 rfl rfl)
theorem dX4_brood_9 : decode cX4_brood 9 = .ok (.iload_n 2, 1) := dk_28 (dk_at dksX4_brood_0 9 rfl rfl)
theorem dX4_brood_10 : decode cX4_brood 10 = .ok (.invokevirtual 411, 3) := dk_182 1 155 (dk_at dksX4_brood_0 10 rfl rfl)
theorem dX4_brood_13 : decode cX4_brood 13 = .ok (.ifCond .eq 38, 3) := dk_153 0 38 (dk_at dksX4_brood_0 13 rfl rfl)
theorem dX4_brood_16 : decode cX4_brood 16 = .ok (.iload_n 1, 1) := dk_27 (dk_at dksX4_brood_0 16 rfl rfl)
theorem dX4_brood_17 : decode cX4_brood 17 = .ok (.iload_n 2, 1) := dk_28 (dk_at dksX4_brood_0 17 rfl rfl)
theorem dX4_brood_18 : decode cX4_brood 18 = .ok (.if_icmp .eq 33, 3) := dk_159 0 33 (dk_at dksX4_brood_0 18 rfl rfl)
theorem dX4_brood_21 : decode cX4_brood 21 = .ok (.aload_n 0, 1) := dk_42 (dk_at dksX4_brood_0 21 rfl rfl)
theorem dX4_brood_22 : decode cX4_brood 22 = .ok (.getfield 85, 3) := dk_180 0 85 (dk_at dksX4_brood_1 0 rfl rfl)
theorem dX4_brood_25 : decode cX4_brood 25 = .ok (.bipush 8, 2) := dk_16 8 (dk_at dksX4_brood_1 3 rfl rfl)
theorem dX4_brood_27 : decode cX4_brood 27 = .ok (.iload_n 1, 1) := dk_27 (dk_at dksX4_brood_1 5 rfl rfl)
theorem dX4_brood_28 : decode cX4_brood 28 = .ok (.iadd, 1) := dk_96 (dk_at dksX4_brood_1 6 rfl rfl)
theorem dX4_brood_29 : decode cX4_brood 29 = .ok (.iaload, 1) := dk_46 (dk_at dksX4_brood_1 7 rfl rfl)
theorem dX4_brood_30 : decode cX4_brood 30 = .ok (.aload_n 0, 1) := dk_42 (dk_at dksX4_brood_1 8 rfl rfl)
theorem dX4_brood_31 : decode cX4_brood 31 = .ok (.getfield 85, 3) := dk_180 0 85 (dk_at dksX4_brood_1 9 rfl rfl)
theorem dX4_brood_34 : decode cX4_brood 34 = .ok (.bipush 8, 2) := dk_16 8 (dk_at dksX4_brood_1 12 rfl rfl)
theorem dX4_brood_36 : decode cX4_brood 36 = .ok (.iload_n 2, 1) := dk_28 (dk_at dksX4_brood_1 14 rfl rfl)
theorem dX4_brood_37 : decode cX4_brood 37 = .ok (.iadd, 1) := dk_96 (dk_at dksX4_brood_1 15 rfl rfl)
theorem dX4_brood_38 : decode cX4_brood 38 = .ok (.iaload, 1) := dk_46 (dk_at dksX4_brood_1 16 rfl rfl)
theorem dX4_brood_39 : decode cX4_brood 39 = .ok (.if_icmp .ne 12, 3) := dk_160 0 12 (dk_at dksX4_brood_1 17 rfl rfl)
theorem dX4_brood_42 : decode cX4_brood 42 = .ok (.aload_n 0, 1) := dk_42 (dk_at dksX4_brood_1 20 rfl rfl)
theorem dX4_brood_43 : decode cX4_brood 43 = .ok (.iload_n 1, 1) := dk_27 (dk_at dksX4_brood_1 21 rfl rfl)
theorem dX4_brood_44 : decode cX4_brood 44 = .ok (.iload_n 2, 1) := dk_28 (dk_at dksX4_brood_1 22 rfl rfl)
theorem dX4_brood_45 : decode cX4_brood 45 = .ok (.invokevirtual 387, 3) := dk_182 1 131 (dk_at dksX4_brood_2 0 rfl rfl)
theorem dX4_brood_48 : decode cX4_brood 48 = .ok (.goto 6, 3) := dk_167 0 6 (dk_at dksX4_brood_2 3 rfl rfl)
theorem dX4_brood_51 : decode cX4_brood 51 = .ok (.ldc_w 414, 3) := dk_19 1 158 (dk_at dksX4_brood_2 6 rfl rfl)
theorem dX4_brood_54 : decode cX4_brood 54 = .ok (.ireturn, 1) := dk_172 (dk_at dksX4_brood_2 9 rfl rfl)
abbrev cX4_broodOf : ByteArray := prog_22_method_56_code
def yX4_broodOf : MethodName := ⟨RX4, "broodOf", "(II)I"⟩
def dkwX4_broodOf_2 : List UInt8 := [16, 16, 28, 96, 46, 184, 1, 69, 42, 182, 1, 75, 184, 1, 78, 100, 172]
abbrev dktX4_broodOf_2 : List UInt8 := dkwX4_broodOf_2 ++ []
def dkwX4_broodOf_1 : List UInt8 := [153, 0, 10, 42, 182, 1, 119, 167, 0, 32, 42, 180, 0, 85, 16, 16, 27, 96, 46, 42, 180, 0, 85]
abbrev dktX4_broodOf_1 : List UInt8 := dkwX4_broodOf_1 ++ dktX4_broodOf_2
def dkwX4_broodOf_0 : List UInt8 := [42, 27, 181, 1, 63, 42, 28, 181, 1, 66, 42, 180, 0, 39, 42, 180, 0, 244, 46, 3, 184, 0, 250]
abbrev dktX4_broodOf_0 : List UInt8 := dkwX4_broodOf_0 ++ dktX4_broodOf_1
theorem dksX4_broodOf_0 : cX4_broodOf.data.toList.drop 0 = dktX4_broodOf_0 := by decide +kernel
theorem dksX4_broodOf_1 : cX4_broodOf.data.toList.drop 23 = dktX4_broodOf_1 := dk_seg dksX4_broodOf_0 23 rfl rfl
theorem dksX4_broodOf_2 : cX4_broodOf.data.toList.drop 46 = dktX4_broodOf_2 := dk_seg dksX4_broodOf_1 23 rfl rfl
theorem dX4_broodOf_0 : decode cX4_broodOf 0 = .ok (.aload_n 0, 1) := dk_42 (dk_at dksX4_broodOf_0 0 rfl rfl)
theorem dX4_broodOf_1 : decode cX4_broodOf 1 = .ok (.iload_n 1, 1) := dk_27 (dk_at dksX4_broodOf_0 1 rfl rfl)
theorem dX4_broodOf_2 : decode cX4_broodOf 2 = .ok (.putfield 319, 3) := dk_181 1 63 (dk_at dksX4_broodOf_0 2 rfl rfl)
theorem dX4_broodOf_5 : decode cX4_broodOf 5 = .ok (.aload_n 0, 1) := dk_42 (dk_at dksX4_broodOf_0 5 rfl rfl)
theorem dX4_broodOf_6 : decode cX4_broodOf 6 = .ok (.iload_n 2, 1) := dk_28 (dk_at dksX4_broodOf_0 6 rfl rfl)
theorem dX4_broodOf_7 : decode cX4_broodOf 7 = .ok (.putfield 322, 3) := dk_181 1 66 (dk_at dksX4_broodOf_0 7 rfl rfl)
theorem dX4_broodOf_10 : decode cX4_broodOf 10 = .ok (.aload_n 0, 1) := dk_42 (dk_at dksX4_broodOf_0 10 rfl rfl)
theorem dX4_broodOf_11 : decode cX4_broodOf 11 = .ok (.getfield 39, 3) := dk_180 0 39 (dk_at dksX4_broodOf_0 11 rfl rfl)
theorem dX4_broodOf_14 : decode cX4_broodOf 14 = .ok (.aload_n 0, 1) := dk_42 (dk_at dksX4_broodOf_0 14 rfl rfl)
theorem dX4_broodOf_15 : decode cX4_broodOf 15 = .ok (.getfield 244, 3) := dk_180 0 244 (dk_at dksX4_broodOf_0 15 rfl rfl)
theorem dX4_broodOf_18 : decode cX4_broodOf 18 = .ok (.iaload, 1) := dk_46 (dk_at dksX4_broodOf_0 18 rfl rfl)
theorem dX4_broodOf_19 : decode cX4_broodOf 19 = .ok (.iconst 0, 1) := dk_3 (dk_at dksX4_broodOf_0 19 rfl rfl)
theorem dX4_broodOf_20 : decode cX4_broodOf 20 = .ok (.invokestatic 250, 3) := dk_184 0 250 (dk_at dksX4_broodOf_0 20 rfl rfl)
theorem dX4_broodOf_23 : decode cX4_broodOf 23 = .ok (.ifCond .eq 10, 3) := dk_153 0 10 (dk_at dksX4_broodOf_1 0 rfl rfl)
theorem dX4_broodOf_26 : decode cX4_broodOf 26 = .ok (.aload_n 0, 1) := dk_42 (dk_at dksX4_broodOf_1 3 rfl rfl)
theorem dX4_broodOf_27 : decode cX4_broodOf 27 = .ok (.invokevirtual 375, 3) := dk_182 1 119 (dk_at dksX4_broodOf_1 4 rfl rfl)
theorem dX4_broodOf_30 : decode cX4_broodOf 30 = .ok (.goto 32, 3) := dk_167 0 32 (dk_at dksX4_broodOf_1 7 rfl rfl)
theorem dX4_broodOf_33 : decode cX4_broodOf 33 = .ok (.aload_n 0, 1) := dk_42 (dk_at dksX4_broodOf_1 10 rfl rfl)
theorem dX4_broodOf_34 : decode cX4_broodOf 34 = .ok (.getfield 85, 3) := dk_180 0 85 (dk_at dksX4_broodOf_1 11 rfl rfl)
theorem dX4_broodOf_37 : decode cX4_broodOf 37 = .ok (.bipush 16, 2) := dk_16 16 (dk_at dksX4_broodOf_1 14 rfl rfl)
theorem dX4_broodOf_39 : decode cX4_broodOf 39 = .ok (.iload_n 1, 1) := dk_27 (dk_at dksX4_broodOf_1 16 rfl rfl)
theorem dX4_broodOf_40 : decode cX4_broodOf 40 = .ok (.iadd, 1) := dk_96 (dk_at dksX4_broodOf_1 17 rfl rfl)
theorem dX4_broodOf_41 : decode cX4_broodOf 41 = .ok (.iaload, 1) := dk_46 (dk_at dksX4_broodOf_1 18 rfl rfl)
theorem dX4_broodOf_42 : decode cX4_broodOf 42 = .ok (.aload_n 0, 1) := dk_42 (dk_at dksX4_broodOf_1 19 rfl rfl)
theorem dX4_broodOf_43 : decode cX4_broodOf 43 = .ok (.getfield 85, 3) := dk_180 0 85 (dk_at dksX4_broodOf_1 20 rfl rfl)
theorem dX4_broodOf_46 : decode cX4_broodOf 46 = .ok (.bipush 16, 2) := dk_16 16 (dk_at dksX4_broodOf_2 0 rfl rfl)
theorem dX4_broodOf_48 : decode cX4_broodOf 48 = .ok (.iload_n 2, 1) := dk_28 (dk_at dksX4_broodOf_2 2 rfl rfl)
theorem dX4_broodOf_49 : decode cX4_broodOf 49 = .ok (.iadd, 1) := dk_96 (dk_at dksX4_broodOf_2 3 rfl rfl)
theorem dX4_broodOf_50 : decode cX4_broodOf 50 = .ok (.iaload, 1) := dk_46 (dk_at dksX4_broodOf_2 4 rfl rfl)
theorem dX4_broodOf_51 : decode cX4_broodOf 51 = .ok (.invokestatic 325, 3) := dk_184 1 69 (dk_at dksX4_broodOf_2 5 rfl rfl)
theorem dX4_broodOf_54 : decode cX4_broodOf 54 = .ok (.aload_n 0, 1) := dk_42 (dk_at dksX4_broodOf_2 8 rfl rfl)
theorem dX4_broodOf_55 : decode cX4_broodOf 55 = .ok (.invokevirtual 331, 3) := dk_182 1 75 (dk_at dksX4_broodOf_2 9 rfl rfl)
theorem dX4_broodOf_58 : decode cX4_broodOf 58 = .ok (.invokestatic 334, 3) := dk_184 1 78 (dk_at dksX4_broodOf_2 12 rfl rfl)
theorem dX4_broodOf_61 : decode cX4_broodOf 61 = .ok (.isub, 1) := dk_100 (dk_at dksX4_broodOf_2 15 rfl rfl)
theorem dX4_broodOf_62 : decode cX4_broodOf 62 = .ok (.ireturn, 1) := dk_172 (dk_at dksX4_broodOf_2 16 rfl rfl)
abbrev cX4_comes : ByteArray := prog_22_method_36_code
def yX4_comes : MethodName := ⟨RX4, "comes", "()I"⟩
def dkwX4_comes_5 : List UInt8 := [180, 0, 82, 27, 46, 184, 1, 84, 79, 132, 2, 1, 167, 255, 141, 42, 180, 0, 82, 3, 46, 172]
abbrev dktX4_comes_5 : List UInt8 := dkwX4_comes_5 ++ []
def dkwX4_comes_4 : List UInt8 := [167, 0, 32, 132, 1, 255, 42, 180, 0, 82, 27, 4, 100, 29, 42, 180, 0, 82, 27, 4, 100, 46, 42]
abbrev dktX4_comes_4 : List UInt8 := dkwX4_comes_4 ++ dktX4_comes_5
def dkwX4_comes_3 : List UInt8 := [153, 0, 26, 42, 180, 0, 82, 27, 42, 29, 42, 180, 0, 73, 28, 46, 182, 1, 81, 79, 132, 1, 1]
abbrev dktX4_comes_3 : List UInt8 := dkwX4_comes_3 ++ dktX4_comes_4
def dkwX4_comes_2 : List UInt8 := [180, 0, 82, 27, 4, 100, 46, 154, 0, 7, 4, 167, 0, 4, 3, 79, 167, 0, 62, 29, 184, 0, 189]
abbrev dktX4_comes_2 : List UInt8 := dkwX4_comes_2 ++ dktX4_comes_3
def dkwX4_comes_1 : List UInt8 := [162, 0, 108, 42, 180, 0, 70, 28, 46, 62, 29, 16, 126, 160, 0, 30, 42, 180, 0, 82, 27, 4, 100, 42]
abbrev dktX4_comes_1 : List UInt8 := dkwX4_comes_1 ++ dktX4_comes_2
def dkwX4_comes_0 : List UInt8 := [3, 60, 42, 180, 0, 57, 42, 180, 0, 244, 46, 61, 28, 42, 180, 0, 60, 42, 180, 0, 244, 46]
abbrev dktX4_comes_0 : List UInt8 := dkwX4_comes_0 ++ dktX4_comes_1
theorem dksX4_comes_0 : cX4_comes.data.toList.drop 0 = dktX4_comes_0 := by decide +kernel
theorem dksX4_comes_1 : cX4_comes.data.toList.drop 22 = dktX4_comes_1 := dk_seg dksX4_comes_0 22 rfl rfl
theorem dksX4_comes_2 : cX4_comes.data.toList.drop 46 = dktX4_comes_2 := dk_seg dksX4_comes_1 24 rfl rfl
theorem dksX4_comes_3 : cX4_comes.data.toList.drop 69 = dktX4_comes_3 := dk_seg dksX4_comes_2 23 rfl rfl
theorem dksX4_comes_4 : cX4_comes.data.toList.drop 92 = dktX4_comes_4 := dk_seg dksX4_comes_3 23 rfl rfl
theorem dksX4_comes_5 : cX4_comes.data.toList.drop 115 = dktX4_comes_5 := dk_seg dksX4_comes_4 23 rfl rfl
theorem dX4_comes_0 : decode cX4_comes 0 = .ok (.iconst 0, 1) := dk_3 (dk_at dksX4_comes_0 0 rfl rfl)
theorem dX4_comes_1 : decode cX4_comes 1 = .ok (.istore_n 1, 1) := dk_60 (dk_at dksX4_comes_0 1 rfl rfl)
theorem dX4_comes_2 : decode cX4_comes 2 = .ok (.aload_n 0, 1) := dk_42 (dk_at dksX4_comes_0 2 rfl rfl)
theorem dX4_comes_3 : decode cX4_comes 3 = .ok (.getfield 57, 3) := dk_180 0 57 (dk_at dksX4_comes_0 3 rfl rfl)
theorem dX4_comes_6 : decode cX4_comes 6 = .ok (.aload_n 0, 1) := dk_42 (dk_at dksX4_comes_0 6 rfl rfl)
theorem dX4_comes_7 : decode cX4_comes 7 = .ok (.getfield 244, 3) := dk_180 0 244 (dk_at dksX4_comes_0 7 rfl rfl)
theorem dX4_comes_10 : decode cX4_comes 10 = .ok (.iaload, 1) := dk_46 (dk_at dksX4_comes_0 10 rfl rfl)
theorem dX4_comes_11 : decode cX4_comes 11 = .ok (.istore_n 2, 1) := dk_61 (dk_at dksX4_comes_0 11 rfl rfl)
theorem dX4_comes_12 : decode cX4_comes 12 = .ok (.iload_n 2, 1) := dk_28 (dk_at dksX4_comes_0 12 rfl rfl)
theorem dX4_comes_13 : decode cX4_comes 13 = .ok (.aload_n 0, 1) := dk_42 (dk_at dksX4_comes_0 13 rfl rfl)
theorem dX4_comes_14 : decode cX4_comes 14 = .ok (.getfield 60, 3) := dk_180 0 60 (dk_at dksX4_comes_0 14 rfl rfl)
theorem dX4_comes_17 : decode cX4_comes 17 = .ok (.aload_n 0, 1) := dk_42 (dk_at dksX4_comes_0 17 rfl rfl)
theorem dX4_comes_18 : decode cX4_comes 18 = .ok (.getfield 244, 3) := dk_180 0 244 (dk_at dksX4_comes_0 18 rfl rfl)
theorem dX4_comes_21 : decode cX4_comes 21 = .ok (.iaload, 1) := dk_46 (dk_at dksX4_comes_0 21 rfl rfl)
theorem dX4_comes_22 : decode cX4_comes 22 = .ok (.if_icmp .ge 108, 3) := dk_162 0 108 (dk_at dksX4_comes_1 0 rfl rfl)
theorem dX4_comes_25 : decode cX4_comes 25 = .ok (.aload_n 0, 1) := dk_42 (dk_at dksX4_comes_1 3 rfl rfl)
theorem dX4_comes_26 : decode cX4_comes 26 = .ok (.getfield 70, 3) := dk_180 0 70 (dk_at dksX4_comes_1 4 rfl rfl)
theorem dX4_comes_29 : decode cX4_comes 29 = .ok (.iload_n 2, 1) := dk_28 (dk_at dksX4_comes_1 7 rfl rfl)
theorem dX4_comes_30 : decode cX4_comes 30 = .ok (.iaload, 1) := dk_46 (dk_at dksX4_comes_1 8 rfl rfl)
theorem dX4_comes_31 : decode cX4_comes 31 = .ok (.istore_n 3, 1) := dk_62 (dk_at dksX4_comes_1 9 rfl rfl)
theorem dX4_comes_32 : decode cX4_comes 32 = .ok (.iload_n 3, 1) := dk_29 (dk_at dksX4_comes_1 10 rfl rfl)
theorem dX4_comes_33 : decode cX4_comes 33 = .ok (.bipush 126, 2) := dk_16 126 (dk_at dksX4_comes_1 11 rfl rfl)
theorem dX4_comes_35 : decode cX4_comes 35 = .ok (.if_icmp .ne 30, 3) := dk_160 0 30 (dk_at dksX4_comes_1 13 rfl rfl)
theorem dX4_comes_38 : decode cX4_comes 38 = .ok (.aload_n 0, 1) := dk_42 (dk_at dksX4_comes_1 16 rfl rfl)
theorem dX4_comes_39 : decode cX4_comes 39 = .ok (.getfield 82, 3) := dk_180 0 82 (dk_at dksX4_comes_1 17 rfl rfl)
theorem dX4_comes_42 : decode cX4_comes 42 = .ok (.iload_n 1, 1) := dk_27 (dk_at dksX4_comes_1 20 rfl rfl)
theorem dX4_comes_43 : decode cX4_comes 43 = .ok (.iconst 1, 1) := dk_4 (dk_at dksX4_comes_1 21 rfl rfl)
theorem dX4_comes_44 : decode cX4_comes 44 = .ok (.isub, 1) := dk_100 (dk_at dksX4_comes_1 22 rfl rfl)
theorem dX4_comes_45 : decode cX4_comes 45 = .ok (.aload_n 0, 1) := dk_42 (dk_at dksX4_comes_1 23 rfl rfl)
theorem dX4_comes_46 : decode cX4_comes 46 = .ok (.getfield 82, 3) := dk_180 0 82 (dk_at dksX4_comes_2 0 rfl rfl)
theorem dX4_comes_49 : decode cX4_comes 49 = .ok (.iload_n 1, 1) := dk_27 (dk_at dksX4_comes_2 3 rfl rfl)
theorem dX4_comes_50 : decode cX4_comes 50 = .ok (.iconst 1, 1) := dk_4 (dk_at dksX4_comes_2 4 rfl rfl)
theorem dX4_comes_51 : decode cX4_comes 51 = .ok (.isub, 1) := dk_100 (dk_at dksX4_comes_2 5 rfl rfl)
theorem dX4_comes_52 : decode cX4_comes 52 = .ok (.iaload, 1) := dk_46 (dk_at dksX4_comes_2 6 rfl rfl)
theorem dX4_comes_53 : decode cX4_comes 53 = .ok (.ifCond .ne 7, 3) := dk_154 0 7 (dk_at dksX4_comes_2 7 rfl rfl)
theorem dX4_comes_56 : decode cX4_comes 56 = .ok (.iconst 1, 1) := dk_4 (dk_at dksX4_comes_2 10 rfl rfl)
theorem dX4_comes_57 : decode cX4_comes 57 = .ok (.goto 4, 3) := dk_167 0 4 (dk_at dksX4_comes_2 11 rfl rfl)
theorem dX4_comes_60 : decode cX4_comes 60 = .ok (.iconst 0, 1) := dk_3 (dk_at dksX4_comes_2 14 rfl rfl)
theorem dX4_comes_61 : decode cX4_comes 61 = .ok (.iastore, 1) := dk_79 (dk_at dksX4_comes_2 15 rfl rfl)
theorem dX4_comes_62 : decode cX4_comes 62 = .ok (.goto 62, 3) := dk_167 0 62 (dk_at dksX4_comes_2 16 rfl rfl)
theorem dX4_comes_65 : decode cX4_comes 65 = .ok (.iload_n 3, 1) := dk_29 (dk_at dksX4_comes_2 19 rfl rfl)
theorem dX4_comes_66 : decode cX4_comes 66 = .ok (.invokestatic 189, 3) := dk_184 0 189 (dk_at dksX4_comes_2 20 rfl rfl)
theorem dX4_comes_69 : decode cX4_comes 69 = .ok (.ifCond .eq 26, 3) := dk_153 0 26 (dk_at dksX4_comes_3 0 rfl rfl)
theorem dX4_comes_72 : decode cX4_comes 72 = .ok (.aload_n 0, 1) := dk_42 (dk_at dksX4_comes_3 3 rfl rfl)
theorem dX4_comes_73 : decode cX4_comes 73 = .ok (.getfield 82, 3) := dk_180 0 82 (dk_at dksX4_comes_3 4 rfl rfl)
theorem dX4_comes_76 : decode cX4_comes 76 = .ok (.iload_n 1, 1) := dk_27 (dk_at dksX4_comes_3 7 rfl rfl)
theorem dX4_comes_77 : decode cX4_comes 77 = .ok (.aload_n 0, 1) := dk_42 (dk_at dksX4_comes_3 8 rfl rfl)
theorem dX4_comes_78 : decode cX4_comes 78 = .ok (.iload_n 3, 1) := dk_29 (dk_at dksX4_comes_3 9 rfl rfl)
theorem dX4_comes_79 : decode cX4_comes 79 = .ok (.aload_n 0, 1) := dk_42 (dk_at dksX4_comes_3 10 rfl rfl)
theorem dX4_comes_80 : decode cX4_comes 80 = .ok (.getfield 73, 3) := dk_180 0 73 (dk_at dksX4_comes_3 11 rfl rfl)
theorem dX4_comes_83 : decode cX4_comes 83 = .ok (.iload_n 2, 1) := dk_28 (dk_at dksX4_comes_3 14 rfl rfl)
theorem dX4_comes_84 : decode cX4_comes 84 = .ok (.iaload, 1) := dk_46 (dk_at dksX4_comes_3 15 rfl rfl)
theorem dX4_comes_85 : decode cX4_comes 85 = .ok (.invokevirtual 337, 3) := dk_182 1 81 (dk_at dksX4_comes_3 16 rfl rfl)
theorem dX4_comes_88 : decode cX4_comes 88 = .ok (.iastore, 1) := dk_79 (dk_at dksX4_comes_3 19 rfl rfl)
theorem dX4_comes_89 : decode cX4_comes 89 = .ok (.iinc 1 1, 3) := dk_132 1 1 (dk_at dksX4_comes_3 20 rfl rfl)
theorem dX4_comes_92 : decode cX4_comes 92 = .ok (.goto 32, 3) := dk_167 0 32 (dk_at dksX4_comes_4 0 rfl rfl)
theorem dX4_comes_95 : decode cX4_comes 95 = .ok (.iinc 1 (-1), 3) := dk_132 1 255 (dk_at dksX4_comes_4 3 rfl rfl)
theorem dX4_comes_98 : decode cX4_comes 98 = .ok (.aload_n 0, 1) := dk_42 (dk_at dksX4_comes_4 6 rfl rfl)
theorem dX4_comes_99 : decode cX4_comes 99 = .ok (.getfield 82, 3) := dk_180 0 82 (dk_at dksX4_comes_4 7 rfl rfl)
theorem dX4_comes_102 : decode cX4_comes 102 = .ok (.iload_n 1, 1) := dk_27 (dk_at dksX4_comes_4 10 rfl rfl)
theorem dX4_comes_103 : decode cX4_comes 103 = .ok (.iconst 1, 1) := dk_4 (dk_at dksX4_comes_4 11 rfl rfl)
theorem dX4_comes_104 : decode cX4_comes 104 = .ok (.isub, 1) := dk_100 (dk_at dksX4_comes_4 12 rfl rfl)
theorem dX4_comes_105 : decode cX4_comes 105 = .ok (.iload_n 3, 1) := dk_29 (dk_at dksX4_comes_4 13 rfl rfl)
theorem dX4_comes_106 : decode cX4_comes 106 = .ok (.aload_n 0, 1) := dk_42 (dk_at dksX4_comes_4 14 rfl rfl)
theorem dX4_comes_107 : decode cX4_comes 107 = .ok (.getfield 82, 3) := dk_180 0 82 (dk_at dksX4_comes_4 15 rfl rfl)
theorem dX4_comes_110 : decode cX4_comes 110 = .ok (.iload_n 1, 1) := dk_27 (dk_at dksX4_comes_4 18 rfl rfl)
theorem dX4_comes_111 : decode cX4_comes 111 = .ok (.iconst 1, 1) := dk_4 (dk_at dksX4_comes_4 19 rfl rfl)
theorem dX4_comes_112 : decode cX4_comes 112 = .ok (.isub, 1) := dk_100 (dk_at dksX4_comes_4 20 rfl rfl)
theorem dX4_comes_113 : decode cX4_comes 113 = .ok (.iaload, 1) := dk_46 (dk_at dksX4_comes_4 21 rfl rfl)
theorem dX4_comes_114 : decode cX4_comes 114 = .ok (.aload_n 0, 1) := dk_42 (dk_at dksX4_comes_4 22 rfl rfl)
theorem dX4_comes_115 : decode cX4_comes 115 = .ok (.getfield 82, 3) := dk_180 0 82 (dk_at dksX4_comes_5 0 rfl rfl)
theorem dX4_comes_118 : decode cX4_comes 118 = .ok (.iload_n 1, 1) := dk_27 (dk_at dksX4_comes_5 3 rfl rfl)
theorem dX4_comes_119 : decode cX4_comes 119 = .ok (.iaload, 1) := dk_46 (dk_at dksX4_comes_5 4 rfl rfl)
theorem dX4_comes_120 : decode cX4_comes 120 = .ok (.invokestatic 340, 3) := dk_184 1 84 (dk_at dksX4_comes_5 5 rfl rfl)
theorem dX4_comes_123 : decode cX4_comes 123 = .ok (.iastore, 1) := dk_79 (dk_at dksX4_comes_5 8 rfl rfl)
theorem dX4_comes_124 : decode cX4_comes 124 = .ok (.iinc 2 1, 3) := dk_132 2 1 (dk_at dksX4_comes_5 9 rfl rfl)
theorem dX4_comes_127 : decode cX4_comes 127 = .ok (.goto (-115), 3) := dk_167 255 141 (dk_at dksX4_comes_5 12 rfl rfl)
theorem dX4_comes_130 : decode cX4_comes 130 = .ok (.aload_n 0, 1) := dk_42 (dk_at dksX4_comes_5 15 rfl rfl)
theorem dX4_comes_131 : decode cX4_comes 131 = .ok (.getfield 82, 3) := dk_180 0 82 (dk_at dksX4_comes_5 16 rfl rfl)
theorem dX4_comes_134 : decode cX4_comes 134 = .ok (.iconst 0, 1) := dk_3 (dk_at dksX4_comes_5 19 rfl rfl)
theorem dX4_comes_135 : decode cX4_comes 135 = .ok (.iaload, 1) := dk_46 (dk_at dksX4_comes_5 20 rfl rfl)
theorem dX4_comes_136 : decode cX4_comes 136 = .ok (.ireturn, 1) := dk_172 (dk_at dksX4_comes_5 21 rfl rfl)
abbrev cX4_asked : ByteArray := prog_22_method_35_code
def yX4_asked : MethodName := ⟨RX4, "asked", "(II)I"⟩
def dkwX4_asked_5 : List UInt8 := [182, 1, 75, 184, 1, 78, 172, 42, 180, 0, 85, 16, 57, 46, 172, 28, 172]
abbrev dktX4_asked_5 : List UInt8 := dkwX4_asked_5 ++ []
def dkwX4_asked_4 : List UInt8 := [184, 1, 69, 172, 42, 42, 180, 0, 85, 16, 8, 42, 180, 1, 63, 96, 46, 182, 1, 72, 172, 42]
abbrev dktX4_asked_4 : List UInt8 := dkwX4_asked_4 ++ dktX4_asked_5
def dkwX4_asked_3 : List UInt8 := [42, 180, 0, 85, 16, 16, 42, 180, 1, 63, 96, 46, 42, 180, 0, 85, 16, 16, 42, 180, 1, 66, 96, 46]
abbrev dktX4_asked_3 : List UInt8 := dkwX4_asked_3 ++ dktX4_asked_4
def dkwX4_asked_2 : List UInt8 := [42, 180, 0, 85, 3, 42, 180, 1, 63, 96, 46, 42, 180, 0, 85, 3, 42, 180, 1, 66, 96, 46, 96, 172]
abbrev dktX4_asked_2 : List UInt8 := dkwX4_asked_2 ++ dktX4_asked_3
def dkwX4_asked_1 : List UInt8 := [171, 0, 0, 0, 0, 0, 136, 0, 0, 0, 5, 0, 0, 0, 97, 0, 0, 0, 75, 0, 0, 0, 98, 0, 0, 0, 51, 0, 0, 0, 108, 0, 0, 0, 103, 0, 0, 0, 109, 0, 0, 0, 120, 0, 0, 0, 121, 0, 0, 0, 128]
abbrev dktX4_asked_1 : List UInt8 := dkwX4_asked_1 ++ dktX4_asked_2
def dkwX4_asked_0 : List UInt8 := [27]
abbrev dktX4_asked_0 : List UInt8 := dkwX4_asked_0 ++ dktX4_asked_1
theorem dksX4_asked_0 : cX4_asked.data.toList.drop 0 = dktX4_asked_0 := by decide +kernel
theorem dksX4_asked_1 : cX4_asked.data.toList.drop 1 = dktX4_asked_1 := dk_seg dksX4_asked_0 1 rfl rfl
theorem dksX4_asked_2 : cX4_asked.data.toList.drop 52 = dktX4_asked_2 := dk_seg dksX4_asked_1 51 rfl rfl
theorem dksX4_asked_3 : cX4_asked.data.toList.drop 76 = dktX4_asked_3 := dk_seg dksX4_asked_2 24 rfl rfl
theorem dksX4_asked_4 : cX4_asked.data.toList.drop 100 = dktX4_asked_4 := dk_seg dksX4_asked_3 24 rfl rfl
theorem dksX4_asked_5 : cX4_asked.data.toList.drop 122 = dktX4_asked_5 := dk_seg dksX4_asked_4 22 rfl rfl
theorem dX4_asked_0 : decode cX4_asked 0 = .ok (.iload_n 1, 1) := dk_27 (dk_at dksX4_asked_0 0 rfl rfl)
theorem dX4_asked_1 : decode cX4_asked 1 = .ok (.lookupswitch 136 #[(97, 75), (98, 51), (108, 103), (109, 120), (121, 128)], 51) := by decide +kernel
theorem dX4_asked_52 : decode cX4_asked 52 = .ok (.aload_n 0, 1) := dk_42 (dk_at dksX4_asked_2 0 rfl rfl)
theorem dX4_asked_53 : decode cX4_asked 53 = .ok (.getfield 85, 3) := dk_180 0 85 (dk_at dksX4_asked_2 1 rfl rfl)
theorem dX4_asked_56 : decode cX4_asked 56 = .ok (.iconst 0, 1) := dk_3 (dk_at dksX4_asked_2 4 rfl rfl)
theorem dX4_asked_57 : decode cX4_asked 57 = .ok (.aload_n 0, 1) := dk_42 (dk_at dksX4_asked_2 5 rfl rfl)
theorem dX4_asked_58 : decode cX4_asked 58 = .ok (.getfield 319, 3) := dk_180 1 63 (dk_at dksX4_asked_2 6 rfl rfl)
theorem dX4_asked_61 : decode cX4_asked 61 = .ok (.iadd, 1) := dk_96 (dk_at dksX4_asked_2 9 rfl rfl)
theorem dX4_asked_62 : decode cX4_asked 62 = .ok (.iaload, 1) := dk_46 (dk_at dksX4_asked_2 10 rfl rfl)
theorem dX4_asked_63 : decode cX4_asked 63 = .ok (.aload_n 0, 1) := dk_42 (dk_at dksX4_asked_2 11 rfl rfl)
theorem dX4_asked_64 : decode cX4_asked 64 = .ok (.getfield 85, 3) := dk_180 0 85 (dk_at dksX4_asked_2 12 rfl rfl)
theorem dX4_asked_67 : decode cX4_asked 67 = .ok (.iconst 0, 1) := dk_3 (dk_at dksX4_asked_2 15 rfl rfl)
theorem dX4_asked_68 : decode cX4_asked 68 = .ok (.aload_n 0, 1) := dk_42 (dk_at dksX4_asked_2 16 rfl rfl)
theorem dX4_asked_69 : decode cX4_asked 69 = .ok (.getfield 322, 3) := dk_180 1 66 (dk_at dksX4_asked_2 17 rfl rfl)
theorem dX4_asked_72 : decode cX4_asked 72 = .ok (.iadd, 1) := dk_96 (dk_at dksX4_asked_2 20 rfl rfl)
theorem dX4_asked_73 : decode cX4_asked 73 = .ok (.iaload, 1) := dk_46 (dk_at dksX4_asked_2 21 rfl rfl)
theorem dX4_asked_74 : decode cX4_asked 74 = .ok (.iadd, 1) := dk_96 (dk_at dksX4_asked_2 22 rfl rfl)
theorem dX4_asked_75 : decode cX4_asked 75 = .ok (.ireturn, 1) := dk_172 (dk_at dksX4_asked_2 23 rfl rfl)
theorem dX4_asked_76 : decode cX4_asked 76 = .ok (.aload_n 0, 1) := dk_42 (dk_at dksX4_asked_3 0 rfl rfl)
theorem dX4_asked_77 : decode cX4_asked 77 = .ok (.getfield 85, 3) := dk_180 0 85 (dk_at dksX4_asked_3 1 rfl rfl)
theorem dX4_asked_80 : decode cX4_asked 80 = .ok (.bipush 16, 2) := dk_16 16 (dk_at dksX4_asked_3 4 rfl rfl)
theorem dX4_asked_82 : decode cX4_asked 82 = .ok (.aload_n 0, 1) := dk_42 (dk_at dksX4_asked_3 6 rfl rfl)
theorem dX4_asked_83 : decode cX4_asked 83 = .ok (.getfield 319, 3) := dk_180 1 63 (dk_at dksX4_asked_3 7 rfl rfl)
theorem dX4_asked_86 : decode cX4_asked 86 = .ok (.iadd, 1) := dk_96 (dk_at dksX4_asked_3 10 rfl rfl)
theorem dX4_asked_87 : decode cX4_asked 87 = .ok (.iaload, 1) := dk_46 (dk_at dksX4_asked_3 11 rfl rfl)
theorem dX4_asked_88 : decode cX4_asked 88 = .ok (.aload_n 0, 1) := dk_42 (dk_at dksX4_asked_3 12 rfl rfl)
theorem dX4_asked_89 : decode cX4_asked 89 = .ok (.getfield 85, 3) := dk_180 0 85 (dk_at dksX4_asked_3 13 rfl rfl)
theorem dX4_asked_92 : decode cX4_asked 92 = .ok (.bipush 16, 2) := dk_16 16 (dk_at dksX4_asked_3 16 rfl rfl)
theorem dX4_asked_94 : decode cX4_asked 94 = .ok (.aload_n 0, 1) := dk_42 (dk_at dksX4_asked_3 18 rfl rfl)
theorem dX4_asked_95 : decode cX4_asked 95 = .ok (.getfield 322, 3) := dk_180 1 66 (dk_at dksX4_asked_3 19 rfl rfl)
theorem dX4_asked_98 : decode cX4_asked 98 = .ok (.iadd, 1) := dk_96 (dk_at dksX4_asked_3 22 rfl rfl)
theorem dX4_asked_99 : decode cX4_asked 99 = .ok (.iaload, 1) := dk_46 (dk_at dksX4_asked_3 23 rfl rfl)
theorem dX4_asked_100 : decode cX4_asked 100 = .ok (.invokestatic 325, 3) := dk_184 1 69 (dk_at dksX4_asked_4 0 rfl rfl)
theorem dX4_asked_103 : decode cX4_asked 103 = .ok (.ireturn, 1) := dk_172 (dk_at dksX4_asked_4 3 rfl rfl)
theorem dX4_asked_104 : decode cX4_asked 104 = .ok (.aload_n 0, 1) := dk_42 (dk_at dksX4_asked_4 4 rfl rfl)
theorem dX4_asked_105 : decode cX4_asked 105 = .ok (.aload_n 0, 1) := dk_42 (dk_at dksX4_asked_4 5 rfl rfl)
theorem dX4_asked_106 : decode cX4_asked 106 = .ok (.getfield 85, 3) := dk_180 0 85 (dk_at dksX4_asked_4 6 rfl rfl)
theorem dX4_asked_109 : decode cX4_asked 109 = .ok (.bipush 8, 2) := dk_16 8 (dk_at dksX4_asked_4 9 rfl rfl)
theorem dX4_asked_111 : decode cX4_asked 111 = .ok (.aload_n 0, 1) := dk_42 (dk_at dksX4_asked_4 11 rfl rfl)
theorem dX4_asked_112 : decode cX4_asked 112 = .ok (.getfield 319, 3) := dk_180 1 63 (dk_at dksX4_asked_4 12 rfl rfl)
theorem dX4_asked_115 : decode cX4_asked 115 = .ok (.iadd, 1) := dk_96 (dk_at dksX4_asked_4 15 rfl rfl)
theorem dX4_asked_116 : decode cX4_asked 116 = .ok (.iaload, 1) := dk_46 (dk_at dksX4_asked_4 16 rfl rfl)
theorem dX4_asked_117 : decode cX4_asked 117 = .ok (.invokevirtual 328, 3) := dk_182 1 72 (dk_at dksX4_asked_4 17 rfl rfl)
theorem dX4_asked_120 : decode cX4_asked 120 = .ok (.ireturn, 1) := dk_172 (dk_at dksX4_asked_4 20 rfl rfl)
theorem dX4_asked_121 : decode cX4_asked 121 = .ok (.aload_n 0, 1) := dk_42 (dk_at dksX4_asked_4 21 rfl rfl)
theorem dX4_asked_122 : decode cX4_asked 122 = .ok (.invokevirtual 331, 3) := dk_182 1 75 (dk_at dksX4_asked_5 0 rfl rfl)
theorem dX4_asked_125 : decode cX4_asked 125 = .ok (.invokestatic 334, 3) := dk_184 1 78 (dk_at dksX4_asked_5 3 rfl rfl)
theorem dX4_asked_128 : decode cX4_asked 128 = .ok (.ireturn, 1) := dk_172 (dk_at dksX4_asked_5 6 rfl rfl)
theorem dX4_asked_129 : decode cX4_asked 129 = .ok (.aload_n 0, 1) := dk_42 (dk_at dksX4_asked_5 7 rfl rfl)
theorem dX4_asked_130 : decode cX4_asked 130 = .ok (.getfield 85, 3) := dk_180 0 85 (dk_at dksX4_asked_5 8 rfl rfl)
theorem dX4_asked_133 : decode cX4_asked 133 = .ok (.bipush 57, 2) := dk_16 57 (dk_at dksX4_asked_5 11 rfl rfl)
theorem dX4_asked_135 : decode cX4_asked 135 = .ok (.iaload, 1) := dk_46 (dk_at dksX4_asked_5 13 rfl rfl)
theorem dX4_asked_136 : decode cX4_asked 136 = .ok (.ireturn, 1) := dk_172 (dk_at dksX4_asked_5 14 rfl rfl)
theorem dX4_asked_137 : decode cX4_asked 137 = .ok (.iload_n 2, 1) := dk_28 (dk_at dksX4_asked_5 15 rfl rfl)
theorem dX4_asked_138 : decode cX4_asked 138 = .ok (.ireturn, 1) := dk_172 (dk_at dksX4_asked_5 16 rfl rfl)
abbrev cX4_sharedBy : ByteArray := prog_22_method_41_code
def yX4_sharedBy : MethodName := ⟨RX4, "sharedBy", "(II)I"⟩
def dkwX4_sharedBy_0 : List UInt8 := [16, 6, 26, 27, 130, 16, 63, 126, 184, 1, 78, 100, 172]
abbrev dktX4_sharedBy_0 : List UInt8 := dkwX4_sharedBy_0 ++ []
theorem dksX4_sharedBy_0 : cX4_sharedBy.data.toList.drop 0 = dktX4_sharedBy_0 := by decide +kernel
theorem dX4_sharedBy_0 : decode cX4_sharedBy 0 = .ok (.bipush 6, 2) := dk_16 6 (dk_at dksX4_sharedBy_0 0 rfl rfl)
theorem dX4_sharedBy_2 : decode cX4_sharedBy 2 = .ok (.iload_n 0, 1) := dk_26 (dk_at dksX4_sharedBy_0 2 rfl rfl)
theorem dX4_sharedBy_3 : decode cX4_sharedBy 3 = .ok (.iload_n 1, 1) := dk_27 (dk_at dksX4_sharedBy_0 3 rfl rfl)
theorem dX4_sharedBy_4 : decode cX4_sharedBy 4 = .ok (.ixor, 1) := dk_130 (dk_at dksX4_sharedBy_0 4 rfl rfl)
theorem dX4_sharedBy_5 : decode cX4_sharedBy 5 = .ok (.bipush 63, 2) := dk_16 63 (dk_at dksX4_sharedBy_0 5 rfl rfl)
theorem dX4_sharedBy_7 : decode cX4_sharedBy 7 = .ok (.iand, 1) := dk_126 (dk_at dksX4_sharedBy_0 7 rfl rfl)
theorem dX4_sharedBy_8 : decode cX4_sharedBy 8 = .ok (.invokestatic 334, 3) := dk_184 1 78 (dk_at dksX4_sharedBy_0 8 rfl rfl)
theorem dX4_sharedBy_11 : decode cX4_sharedBy 11 = .ok (.isub, 1) := dk_100 (dk_at dksX4_sharedBy_0 11 rfl rfl)
theorem dX4_sharedBy_12 : decode cX4_sharedBy 12 = .ok (.ireturn, 1) := dk_172 (dk_at dksX4_sharedBy_0 12 rfl rfl)
abbrev cX4_bitsOf : ByteArray := prog_22_method_40_code
def yX4_bitsOf : MethodName := ⟨RX4, "bitsOf", "(I)I"⟩
def dkwX4_bitsOf_0 : List UInt8 := [3, 60, 26, 61, 28, 153, 0, 15, 132, 1, 1, 28, 28, 4, 100, 126, 61, 167, 255, 243, 27, 172]
abbrev dktX4_bitsOf_0 : List UInt8 := dkwX4_bitsOf_0 ++ []
theorem dksX4_bitsOf_0 : cX4_bitsOf.data.toList.drop 0 = dktX4_bitsOf_0 := by decide +kernel
theorem dX4_bitsOf_0 : decode cX4_bitsOf 0 = .ok (.iconst 0, 1) := dk_3 (dk_at dksX4_bitsOf_0 0 rfl rfl)
theorem dX4_bitsOf_1 : decode cX4_bitsOf 1 = .ok (.istore_n 1, 1) := dk_60 (dk_at dksX4_bitsOf_0 1 rfl rfl)
theorem dX4_bitsOf_2 : decode cX4_bitsOf 2 = .ok (.iload_n 0, 1) := dk_26 (dk_at dksX4_bitsOf_0 2 rfl rfl)
theorem dX4_bitsOf_3 : decode cX4_bitsOf 3 = .ok (.istore_n 2, 1) := dk_61 (dk_at dksX4_bitsOf_0 3 rfl rfl)
theorem dX4_bitsOf_4 : decode cX4_bitsOf 4 = .ok (.iload_n 2, 1) := dk_28 (dk_at dksX4_bitsOf_0 4 rfl rfl)
theorem dX4_bitsOf_5 : decode cX4_bitsOf 5 = .ok (.ifCond .eq 15, 3) := dk_153 0 15 (dk_at dksX4_bitsOf_0 5 rfl rfl)
theorem dX4_bitsOf_8 : decode cX4_bitsOf 8 = .ok (.iinc 1 1, 3) := dk_132 1 1 (dk_at dksX4_bitsOf_0 8 rfl rfl)
theorem dX4_bitsOf_11 : decode cX4_bitsOf 11 = .ok (.iload_n 2, 1) := dk_28 (dk_at dksX4_bitsOf_0 11 rfl rfl)
theorem dX4_bitsOf_12 : decode cX4_bitsOf 12 = .ok (.iload_n 2, 1) := dk_28 (dk_at dksX4_bitsOf_0 12 rfl rfl)
theorem dX4_bitsOf_13 : decode cX4_bitsOf 13 = .ok (.iconst 1, 1) := dk_4 (dk_at dksX4_bitsOf_0 13 rfl rfl)
theorem dX4_bitsOf_14 : decode cX4_bitsOf 14 = .ok (.isub, 1) := dk_100 (dk_at dksX4_bitsOf_0 14 rfl rfl)
theorem dX4_bitsOf_15 : decode cX4_bitsOf 15 = .ok (.iand, 1) := dk_126 (dk_at dksX4_bitsOf_0 15 rfl rfl)
theorem dX4_bitsOf_16 : decode cX4_bitsOf 16 = .ok (.istore_n 2, 1) := dk_61 (dk_at dksX4_bitsOf_0 16 rfl rfl)
theorem dX4_bitsOf_17 : decode cX4_bitsOf 17 = .ok (.goto (-13), 3) := dk_167 255 243 (dk_at dksX4_bitsOf_0 17 rfl rfl)
theorem dX4_bitsOf_20 : decode cX4_bitsOf 20 = .ok (.iload_n 1, 1) := dk_27 (dk_at dksX4_bitsOf_0 20 rfl rfl)
theorem dX4_bitsOf_21 : decode cX4_bitsOf 21 = .ok (.ireturn, 1) := dk_172 (dk_at dksX4_bitsOf_0 21 rfl rfl)
abbrev cX4_those : ByteArray := prog_22_method_46_code
def yX4_those : MethodName := ⟨RX4, "those", "()I"⟩
def dkwX4_those_1 : List UInt8 := [120, 128, 60, 132, 2, 1, 167, 255, 230, 27, 172]
abbrev dktX4_those_1 : List UInt8 := dkwX4_those_1 ++ []
def dkwX4_those_0 : List UInt8 := [3, 60, 3, 61, 28, 16, 8, 162, 0, 26, 42, 180, 0, 85, 3, 28, 96, 46, 158, 0, 9, 27, 4, 28]
abbrev dktX4_those_0 : List UInt8 := dkwX4_those_0 ++ dktX4_those_1
theorem dksX4_those_0 : cX4_those.data.toList.drop 0 = dktX4_those_0 := by decide +kernel
theorem dksX4_those_1 : cX4_those.data.toList.drop 24 = dktX4_those_1 := dk_seg dksX4_those_0 24 rfl rfl
theorem dX4_those_0 : decode cX4_those 0 = .ok (.iconst 0, 1) := dk_3 (dk_at dksX4_those_0 0 rfl rfl)
theorem dX4_those_1 : decode cX4_those 1 = .ok (.istore_n 1, 1) := dk_60 (dk_at dksX4_those_0 1 rfl rfl)
theorem dX4_those_2 : decode cX4_those 2 = .ok (.iconst 0, 1) := dk_3 (dk_at dksX4_those_0 2 rfl rfl)
theorem dX4_those_3 : decode cX4_those 3 = .ok (.istore_n 2, 1) := dk_61 (dk_at dksX4_those_0 3 rfl rfl)
theorem dX4_those_4 : decode cX4_those 4 = .ok (.iload_n 2, 1) := dk_28 (dk_at dksX4_those_0 4 rfl rfl)
theorem dX4_those_5 : decode cX4_those 5 = .ok (.bipush 8, 2) := dk_16 8 (dk_at dksX4_those_0 5 rfl rfl)
theorem dX4_those_7 : decode cX4_those 7 = .ok (.if_icmp .ge 26, 3) := dk_162 0 26 (dk_at dksX4_those_0 7 rfl rfl)
theorem dX4_those_10 : decode cX4_those 10 = .ok (.aload_n 0, 1) := dk_42 (dk_at dksX4_those_0 10 rfl rfl)
theorem dX4_those_11 : decode cX4_those 11 = .ok (.getfield 85, 3) := dk_180 0 85 (dk_at dksX4_those_0 11 rfl rfl)
theorem dX4_those_14 : decode cX4_those 14 = .ok (.iconst 0, 1) := dk_3 (dk_at dksX4_those_0 14 rfl rfl)
theorem dX4_those_15 : decode cX4_those 15 = .ok (.iload_n 2, 1) := dk_28 (dk_at dksX4_those_0 15 rfl rfl)
theorem dX4_those_16 : decode cX4_those 16 = .ok (.iadd, 1) := dk_96 (dk_at dksX4_those_0 16 rfl rfl)
theorem dX4_those_17 : decode cX4_those 17 = .ok (.iaload, 1) := dk_46 (dk_at dksX4_those_0 17 rfl rfl)
theorem dX4_those_18 : decode cX4_those 18 = .ok (.ifCond .le 9, 3) := dk_158 0 9 (dk_at dksX4_those_0 18 rfl rfl)
theorem dX4_those_21 : decode cX4_those 21 = .ok (.iload_n 1, 1) := dk_27 (dk_at dksX4_those_0 21 rfl rfl)
theorem dX4_those_22 : decode cX4_those 22 = .ok (.iconst 1, 1) := dk_4 (dk_at dksX4_those_0 22 rfl rfl)
theorem dX4_those_23 : decode cX4_those 23 = .ok (.iload_n 2, 1) := dk_28 (dk_at dksX4_those_0 23 rfl rfl)
theorem dX4_those_24 : decode cX4_those 24 = .ok (.ishl, 1) := dk_120 (dk_at dksX4_those_1 0 rfl rfl)
theorem dX4_those_25 : decode cX4_those 25 = .ok (.ior, 1) := dk_128 (dk_at dksX4_those_1 1 rfl rfl)
theorem dX4_those_26 : decode cX4_those 26 = .ok (.istore_n 1, 1) := dk_60 (dk_at dksX4_those_1 2 rfl rfl)
theorem dX4_those_27 : decode cX4_those 27 = .ok (.iinc 2 1, 3) := dk_132 2 1 (dk_at dksX4_those_1 3 rfl rfl)
theorem dX4_those_30 : decode cX4_those 30 = .ok (.goto (-26), 3) := dk_167 255 230 (dk_at dksX4_those_1 6 rfl rfl)
theorem dX4_those_33 : decode cX4_those 33 = .ok (.iload_n 1, 1) := dk_27 (dk_at dksX4_those_1 9 rfl rfl)
theorem dX4_those_34 : decode cX4_those 34 = .ok (.ireturn, 1) := dk_172 (dk_at dksX4_those_1 10 rfl rfl)
abbrev cX4_two : ByteArray := prog_22_method_34_code
def yX4_two : MethodName := ⟨RX4, "two", "(III)I"⟩
def dkwX4_two_6 : List UInt8 := [167, 0, 4, 3, 172]
abbrev dktX4_two_6 : List UInt8 := dkwX4_two_6 ++ []
def dkwX4_two_5 : List UInt8 := [153, 0, 11, 28, 153, 0, 7, 4, 167, 0, 4, 3, 172, 27, 154, 0, 7, 28, 153, 0, 7, 4]
abbrev dktX4_two_5 : List UInt8 := dkwX4_two_5 ++ dktX4_two_6
def dkwX4_two_4 : List UInt8 := [28, 164, 0, 7, 4, 167, 0, 4, 3, 172, 27, 28, 160, 0, 7, 4, 167, 0, 4, 3, 172, 27]
abbrev dktX4_two_4 : List UInt8 := dkwX4_two_4 ++ dktX4_two_5
def dkwX4_two_3 : List UInt8 := [28, 154, 0, 7, 3, 167, 0, 6, 27, 28, 112, 172, 27, 28, 162, 0, 7, 4, 167, 0, 4, 3, 172, 27]
abbrev dktX4_two_3 : List UInt8 := dkwX4_two_3 ++ dktX4_two_4
def dkwX4_two_2 : List UInt8 := [27, 28, 96, 172, 27, 28, 100, 172, 27, 28, 104, 172, 28, 154, 0, 7, 3, 167, 0, 6, 27, 28, 108, 172]
abbrev dktX4_two_2 : List UInt8 := dkwX4_two_2 ++ dktX4_two_3
def dkwX4_two_1 : List UInt8 := [170, 0, 0, 0, 0, 0, 202, 0, 0, 0, 37, 0, 0, 0, 62, 0, 0, 0, 143, 0, 0, 0, 188, 0, 0, 0, 202, 0, 0, 0, 202, 0, 0, 0, 202, 0, 0, 0, 127, 0, 0, 0, 119, 0, 0, 0, 202, 0, 0, 0, 123, 0, 0, 0, 202, 0, 0, 0, 131, 0, 0, 0, 202, 0, 0, 0, 202, 0, 0, 0, 202, 0, 0, 0, 202, 0, 0, 0, 202, 0, 0, 0, 202, 0, 0, 0, 202, 0, 0, 0, 202, 0, 0, 0, 202, 0, 0, 0, 202, 0, 0, 0, 202, 0, 0, 0, 202, 0, 0, 0, 155, 0, 0, 0, 177, 0, 0, 0, 166]
abbrev dktX4_two_1 : List UInt8 := dkwX4_two_1 ++ dktX4_two_2
def dkwX4_two_0 : List UInt8 := [26]
abbrev dktX4_two_0 : List UInt8 := dkwX4_two_0 ++ dktX4_two_1
theorem dksX4_two_0 : cX4_two.data.toList.drop 0 = dktX4_two_0 := by decide +kernel
theorem dksX4_two_1 : cX4_two.data.toList.drop 1 = dktX4_two_1 := dk_seg dksX4_two_0 1 rfl rfl
theorem dksX4_two_2 : cX4_two.data.toList.drop 120 = dktX4_two_2 := dk_seg dksX4_two_1 119 rfl rfl
theorem dksX4_two_3 : cX4_two.data.toList.drop 144 = dktX4_two_3 := dk_seg dksX4_two_2 24 rfl rfl
theorem dksX4_two_4 : cX4_two.data.toList.drop 168 = dktX4_two_4 := dk_seg dksX4_two_3 24 rfl rfl
theorem dksX4_two_5 : cX4_two.data.toList.drop 190 = dktX4_two_5 := dk_seg dksX4_two_4 22 rfl rfl
theorem dksX4_two_6 : cX4_two.data.toList.drop 212 = dktX4_two_6 := dk_seg dksX4_two_5 22 rfl rfl
theorem dX4_two_0 : decode cX4_two 0 = .ok (.iload_n 0, 1) := dk_26 (dk_at dksX4_two_0 0 rfl rfl)
theorem dX4_two_1 : decode cX4_two 1 = .ok (.tableswitch 202 37 62 #[143, 188, 202, 202, 202, 127, 119, 202, 123, 202, 131, 202, 202, 202, 202, 202, 202, 202, 202, 202, 202, 202, 202, 155, 177, 166], 119) := by decide +kernel
theorem dX4_two_120 : decode cX4_two 120 = .ok (.iload_n 1, 1) := dk_27 (dk_at dksX4_two_2 0 rfl rfl)
theorem dX4_two_121 : decode cX4_two 121 = .ok (.iload_n 2, 1) := dk_28 (dk_at dksX4_two_2 1 rfl rfl)
theorem dX4_two_122 : decode cX4_two 122 = .ok (.iadd, 1) := dk_96 (dk_at dksX4_two_2 2 rfl rfl)
theorem dX4_two_123 : decode cX4_two 123 = .ok (.ireturn, 1) := dk_172 (dk_at dksX4_two_2 3 rfl rfl)
theorem dX4_two_124 : decode cX4_two 124 = .ok (.iload_n 1, 1) := dk_27 (dk_at dksX4_two_2 4 rfl rfl)
theorem dX4_two_125 : decode cX4_two 125 = .ok (.iload_n 2, 1) := dk_28 (dk_at dksX4_two_2 5 rfl rfl)
theorem dX4_two_126 : decode cX4_two 126 = .ok (.isub, 1) := dk_100 (dk_at dksX4_two_2 6 rfl rfl)
theorem dX4_two_127 : decode cX4_two 127 = .ok (.ireturn, 1) := dk_172 (dk_at dksX4_two_2 7 rfl rfl)
theorem dX4_two_128 : decode cX4_two 128 = .ok (.iload_n 1, 1) := dk_27 (dk_at dksX4_two_2 8 rfl rfl)
theorem dX4_two_129 : decode cX4_two 129 = .ok (.iload_n 2, 1) := dk_28 (dk_at dksX4_two_2 9 rfl rfl)
theorem dX4_two_130 : decode cX4_two 130 = .ok (.imul, 1) := dk_104 (dk_at dksX4_two_2 10 rfl rfl)
theorem dX4_two_131 : decode cX4_two 131 = .ok (.ireturn, 1) := dk_172 (dk_at dksX4_two_2 11 rfl rfl)
theorem dX4_two_132 : decode cX4_two 132 = .ok (.iload_n 2, 1) := dk_28 (dk_at dksX4_two_2 12 rfl rfl)
theorem dX4_two_133 : decode cX4_two 133 = .ok (.ifCond .ne 7, 3) := dk_154 0 7 (dk_at dksX4_two_2 13 rfl rfl)
theorem dX4_two_136 : decode cX4_two 136 = .ok (.iconst 0, 1) := dk_3 (dk_at dksX4_two_2 16 rfl rfl)
theorem dX4_two_137 : decode cX4_two 137 = .ok (.goto 6, 3) := dk_167 0 6 (dk_at dksX4_two_2 17 rfl rfl)
theorem dX4_two_140 : decode cX4_two 140 = .ok (.iload_n 1, 1) := dk_27 (dk_at dksX4_two_2 20 rfl rfl)
theorem dX4_two_141 : decode cX4_two 141 = .ok (.iload_n 2, 1) := dk_28 (dk_at dksX4_two_2 21 rfl rfl)
theorem dX4_two_142 : decode cX4_two 142 = .ok (.idiv, 1) := dk_108 (dk_at dksX4_two_2 22 rfl rfl)
theorem dX4_two_143 : decode cX4_two 143 = .ok (.ireturn, 1) := dk_172 (dk_at dksX4_two_2 23 rfl rfl)
theorem dX4_two_144 : decode cX4_two 144 = .ok (.iload_n 2, 1) := dk_28 (dk_at dksX4_two_3 0 rfl rfl)
theorem dX4_two_145 : decode cX4_two 145 = .ok (.ifCond .ne 7, 3) := dk_154 0 7 (dk_at dksX4_two_3 1 rfl rfl)
theorem dX4_two_148 : decode cX4_two 148 = .ok (.iconst 0, 1) := dk_3 (dk_at dksX4_two_3 4 rfl rfl)
theorem dX4_two_149 : decode cX4_two 149 = .ok (.goto 6, 3) := dk_167 0 6 (dk_at dksX4_two_3 5 rfl rfl)
theorem dX4_two_152 : decode cX4_two 152 = .ok (.iload_n 1, 1) := dk_27 (dk_at dksX4_two_3 8 rfl rfl)
theorem dX4_two_153 : decode cX4_two 153 = .ok (.iload_n 2, 1) := dk_28 (dk_at dksX4_two_3 9 rfl rfl)
theorem dX4_two_154 : decode cX4_two 154 = .ok (.irem, 1) := dk_112 (dk_at dksX4_two_3 10 rfl rfl)
theorem dX4_two_155 : decode cX4_two 155 = .ok (.ireturn, 1) := dk_172 (dk_at dksX4_two_3 11 rfl rfl)
theorem dX4_two_156 : decode cX4_two 156 = .ok (.iload_n 1, 1) := dk_27 (dk_at dksX4_two_3 12 rfl rfl)
theorem dX4_two_157 : decode cX4_two 157 = .ok (.iload_n 2, 1) := dk_28 (dk_at dksX4_two_3 13 rfl rfl)
theorem dX4_two_158 : decode cX4_two 158 = .ok (.if_icmp .ge 7, 3) := dk_162 0 7 (dk_at dksX4_two_3 14 rfl rfl)
theorem dX4_two_161 : decode cX4_two 161 = .ok (.iconst 1, 1) := dk_4 (dk_at dksX4_two_3 17 rfl rfl)
theorem dX4_two_162 : decode cX4_two 162 = .ok (.goto 4, 3) := dk_167 0 4 (dk_at dksX4_two_3 18 rfl rfl)
theorem dX4_two_165 : decode cX4_two 165 = .ok (.iconst 0, 1) := dk_3 (dk_at dksX4_two_3 21 rfl rfl)
theorem dX4_two_166 : decode cX4_two 166 = .ok (.ireturn, 1) := dk_172 (dk_at dksX4_two_3 22 rfl rfl)
theorem dX4_two_167 : decode cX4_two 167 = .ok (.iload_n 1, 1) := dk_27 (dk_at dksX4_two_3 23 rfl rfl)
theorem dX4_two_168 : decode cX4_two 168 = .ok (.iload_n 2, 1) := dk_28 (dk_at dksX4_two_4 0 rfl rfl)
theorem dX4_two_169 : decode cX4_two 169 = .ok (.if_icmp .le 7, 3) := dk_164 0 7 (dk_at dksX4_two_4 1 rfl rfl)
theorem dX4_two_172 : decode cX4_two 172 = .ok (.iconst 1, 1) := dk_4 (dk_at dksX4_two_4 4 rfl rfl)
theorem dX4_two_173 : decode cX4_two 173 = .ok (.goto 4, 3) := dk_167 0 4 (dk_at dksX4_two_4 5 rfl rfl)
theorem dX4_two_176 : decode cX4_two 176 = .ok (.iconst 0, 1) := dk_3 (dk_at dksX4_two_4 8 rfl rfl)
theorem dX4_two_177 : decode cX4_two 177 = .ok (.ireturn, 1) := dk_172 (dk_at dksX4_two_4 9 rfl rfl)
theorem dX4_two_178 : decode cX4_two 178 = .ok (.iload_n 1, 1) := dk_27 (dk_at dksX4_two_4 10 rfl rfl)
theorem dX4_two_179 : decode cX4_two 179 = .ok (.iload_n 2, 1) := dk_28 (dk_at dksX4_two_4 11 rfl rfl)
theorem dX4_two_180 : decode cX4_two 180 = .ok (.if_icmp .ne 7, 3) := dk_160 0 7 (dk_at dksX4_two_4 12 rfl rfl)
theorem dX4_two_183 : decode cX4_two 183 = .ok (.iconst 1, 1) := dk_4 (dk_at dksX4_two_4 15 rfl rfl)
theorem dX4_two_184 : decode cX4_two 184 = .ok (.goto 4, 3) := dk_167 0 4 (dk_at dksX4_two_4 16 rfl rfl)
theorem dX4_two_187 : decode cX4_two 187 = .ok (.iconst 0, 1) := dk_3 (dk_at dksX4_two_4 19 rfl rfl)
theorem dX4_two_188 : decode cX4_two 188 = .ok (.ireturn, 1) := dk_172 (dk_at dksX4_two_4 20 rfl rfl)
theorem dX4_two_189 : decode cX4_two 189 = .ok (.iload_n 1, 1) := dk_27 (dk_at dksX4_two_4 21 rfl rfl)
theorem dX4_two_190 : decode cX4_two 190 = .ok (.ifCond .eq 11, 3) := dk_153 0 11 (dk_at dksX4_two_5 0 rfl rfl)
theorem dX4_two_193 : decode cX4_two 193 = .ok (.iload_n 2, 1) := dk_28 (dk_at dksX4_two_5 3 rfl rfl)
theorem dX4_two_194 : decode cX4_two 194 = .ok (.ifCond .eq 7, 3) := dk_153 0 7 (dk_at dksX4_two_5 4 rfl rfl)
theorem dX4_two_197 : decode cX4_two 197 = .ok (.iconst 1, 1) := dk_4 (dk_at dksX4_two_5 7 rfl rfl)
theorem dX4_two_198 : decode cX4_two 198 = .ok (.goto 4, 3) := dk_167 0 4 (dk_at dksX4_two_5 8 rfl rfl)
theorem dX4_two_201 : decode cX4_two 201 = .ok (.iconst 0, 1) := dk_3 (dk_at dksX4_two_5 11 rfl rfl)
theorem dX4_two_202 : decode cX4_two 202 = .ok (.ireturn, 1) := dk_172 (dk_at dksX4_two_5 12 rfl rfl)
theorem dX4_two_203 : decode cX4_two 203 = .ok (.iload_n 1, 1) := dk_27 (dk_at dksX4_two_5 13 rfl rfl)
theorem dX4_two_204 : decode cX4_two 204 = .ok (.ifCond .ne 7, 3) := dk_154 0 7 (dk_at dksX4_two_5 14 rfl rfl)
theorem dX4_two_207 : decode cX4_two 207 = .ok (.iload_n 2, 1) := dk_28 (dk_at dksX4_two_5 17 rfl rfl)
theorem dX4_two_208 : decode cX4_two 208 = .ok (.ifCond .eq 7, 3) := dk_153 0 7 (dk_at dksX4_two_5 18 rfl rfl)
theorem dX4_two_211 : decode cX4_two 211 = .ok (.iconst 1, 1) := dk_4 (dk_at dksX4_two_5 21 rfl rfl)
theorem dX4_two_212 : decode cX4_two 212 = .ok (.goto 4, 3) := dk_167 0 4 (dk_at dksX4_two_6 0 rfl rfl)
theorem dX4_two_215 : decode cX4_two 215 = .ok (.iconst 0, 1) := dk_3 (dk_at dksX4_two_6 3 rfl rfl)
theorem dX4_two_216 : decode cX4_two 216 = .ok (.ireturn, 1) := dk_172 (dk_at dksX4_two_6 4 rfl rfl)
abbrev cX4_couple : ByteArray := prog_22_method_69_code
def yX4_couple : MethodName := ⟨RX4, "couple", "(I)I"⟩
def dkwX4_couple_0 : List UInt8 := [42, 27, 182, 1, 152, 153, 0, 11, 42, 27, 182, 1, 125, 167, 0, 4, 2, 172]
abbrev dktX4_couple_0 : List UInt8 := dkwX4_couple_0 ++ []
theorem dksX4_couple_0 : cX4_couple.data.toList.drop 0 = dktX4_couple_0 := by decide +kernel
theorem dX4_couple_0 : decode cX4_couple 0 = .ok (.aload_n 0, 1) := dk_42 (dk_at dksX4_couple_0 0 rfl rfl)
theorem dX4_couple_1 : decode cX4_couple 1 = .ok (.iload_n 1, 1) := dk_27 (dk_at dksX4_couple_0 1 rfl rfl)
theorem dX4_couple_2 : decode cX4_couple 2 = .ok (.invokevirtual 408, 3) := dk_182 1 152 (dk_at dksX4_couple_0 2 rfl rfl)
theorem dX4_couple_5 : decode cX4_couple 5 = .ok (.ifCond .eq 11, 3) := dk_153 0 11 (dk_at dksX4_couple_0 5 rfl rfl)
theorem dX4_couple_8 : decode cX4_couple 8 = .ok (.aload_n 0, 1) := dk_42 (dk_at dksX4_couple_0 8 rfl rfl)
theorem dX4_couple_9 : decode cX4_couple 9 = .ok (.iload_n 1, 1) := dk_27 (dk_at dksX4_couple_0 9 rfl rfl)
theorem dX4_couple_10 : decode cX4_couple 10 = .ok (.invokevirtual 381, 3) := dk_182 1 125 (dk_at dksX4_couple_0 10 rfl rfl)
theorem dX4_couple_13 : decode cX4_couple 13 = .ok (.goto 4, 3) := dk_167 0 4 (dk_at dksX4_couple_0 13 rfl rfl)
theorem dX4_couple_16 : decode cX4_couple 16 = .ok (.iconst (-1), 1) := dk_2 (dk_at dksX4_couple_0 16 rfl rfl)
theorem dX4_couple_17 : decode cX4_couple 17 = .ok (.ireturn, 1) := dk_172 (dk_at dksX4_couple_0 17 rfl rfl)
abbrev cX4_coupleOf : ByteArray := prog_22_method_58_code
def yX4_coupleOf : MethodName := ⟨RX4, "coupleOf", "(I)I"⟩
def dkwX4_coupleOf_3 : List UInt8 := [182, 1, 122, 96, 172]
abbrev dktX4_coupleOf_3 : List UInt8 := dkwX4_coupleOf_3 ++ []
def dkwX4_coupleOf_2 : List UInt8 := [162, 0, 5, 2, 172, 42, 28, 182, 1, 122, 62, 16, 8, 29, 104, 42, 28, 4, 29, 120, 2, 130, 126]
abbrev dktX4_coupleOf_2 : List UInt8 := dkwX4_coupleOf_2 ++ dktX4_coupleOf_3
def dkwX4_coupleOf_1 : List UInt8 := [158, 0, 11, 28, 4, 29, 120, 2, 130, 126, 61, 132, 3, 1, 167, 255, 227, 28, 184, 1, 78, 5]
abbrev dktX4_coupleOf_1 : List UInt8 := dkwX4_coupleOf_1 ++ dktX4_coupleOf_2
def dkwX4_coupleOf_0 : List UInt8 := [42, 27, 182, 1, 97, 61, 3, 62, 29, 16, 8, 162, 0, 29, 42, 180, 0, 85, 16, 32, 29, 96, 46]
abbrev dktX4_coupleOf_0 : List UInt8 := dkwX4_coupleOf_0 ++ dktX4_coupleOf_1
theorem dksX4_coupleOf_0 : cX4_coupleOf.data.toList.drop 0 = dktX4_coupleOf_0 := by decide +kernel
theorem dksX4_coupleOf_1 : cX4_coupleOf.data.toList.drop 23 = dktX4_coupleOf_1 := dk_seg dksX4_coupleOf_0 23 rfl rfl
theorem dksX4_coupleOf_2 : cX4_coupleOf.data.toList.drop 45 = dktX4_coupleOf_2 := dk_seg dksX4_coupleOf_1 22 rfl rfl
theorem dksX4_coupleOf_3 : cX4_coupleOf.data.toList.drop 68 = dktX4_coupleOf_3 := dk_seg dksX4_coupleOf_2 23 rfl rfl
theorem dX4_coupleOf_0 : decode cX4_coupleOf 0 = .ok (.aload_n 0, 1) := dk_42 (dk_at dksX4_coupleOf_0 0 rfl rfl)
theorem dX4_coupleOf_1 : decode cX4_coupleOf 1 = .ok (.iload_n 1, 1) := dk_27 (dk_at dksX4_coupleOf_0 1 rfl rfl)
theorem dX4_coupleOf_2 : decode cX4_coupleOf 2 = .ok (.invokevirtual 353, 3) := dk_182 1 97 (dk_at dksX4_coupleOf_0 2 rfl rfl)
theorem dX4_coupleOf_5 : decode cX4_coupleOf 5 = .ok (.istore_n 2, 1) := dk_61 (dk_at dksX4_coupleOf_0 5 rfl rfl)
theorem dX4_coupleOf_6 : decode cX4_coupleOf 6 = .ok (.iconst 0, 1) := dk_3 (dk_at dksX4_coupleOf_0 6 rfl rfl)
theorem dX4_coupleOf_7 : decode cX4_coupleOf 7 = .ok (.istore_n 3, 1) := dk_62 (dk_at dksX4_coupleOf_0 7 rfl rfl)
theorem dX4_coupleOf_8 : decode cX4_coupleOf 8 = .ok (.iload_n 3, 1) := dk_29 (dk_at dksX4_coupleOf_0 8 rfl rfl)
theorem dX4_coupleOf_9 : decode cX4_coupleOf 9 = .ok (.bipush 8, 2) := dk_16 8 (dk_at dksX4_coupleOf_0 9 rfl rfl)
theorem dX4_coupleOf_11 : decode cX4_coupleOf 11 = .ok (.if_icmp .ge 29, 3) := dk_162 0 29 (dk_at dksX4_coupleOf_0 11 rfl rfl)
theorem dX4_coupleOf_14 : decode cX4_coupleOf 14 = .ok (.aload_n 0, 1) := dk_42 (dk_at dksX4_coupleOf_0 14 rfl rfl)
theorem dX4_coupleOf_15 : decode cX4_coupleOf 15 = .ok (.getfield 85, 3) := dk_180 0 85 (dk_at dksX4_coupleOf_0 15 rfl rfl)
theorem dX4_coupleOf_18 : decode cX4_coupleOf 18 = .ok (.bipush 32, 2) := dk_16 32 (dk_at dksX4_coupleOf_0 18 rfl rfl)
theorem dX4_coupleOf_20 : decode cX4_coupleOf 20 = .ok (.iload_n 3, 1) := dk_29 (dk_at dksX4_coupleOf_0 20 rfl rfl)
theorem dX4_coupleOf_21 : decode cX4_coupleOf 21 = .ok (.iadd, 1) := dk_96 (dk_at dksX4_coupleOf_0 21 rfl rfl)
theorem dX4_coupleOf_22 : decode cX4_coupleOf 22 = .ok (.iaload, 1) := dk_46 (dk_at dksX4_coupleOf_0 22 rfl rfl)
theorem dX4_coupleOf_23 : decode cX4_coupleOf 23 = .ok (.ifCond .le 11, 3) := dk_158 0 11 (dk_at dksX4_coupleOf_1 0 rfl rfl)
theorem dX4_coupleOf_26 : decode cX4_coupleOf 26 = .ok (.iload_n 2, 1) := dk_28 (dk_at dksX4_coupleOf_1 3 rfl rfl)
theorem dX4_coupleOf_27 : decode cX4_coupleOf 27 = .ok (.iconst 1, 1) := dk_4 (dk_at dksX4_coupleOf_1 4 rfl rfl)
theorem dX4_coupleOf_28 : decode cX4_coupleOf 28 = .ok (.iload_n 3, 1) := dk_29 (dk_at dksX4_coupleOf_1 5 rfl rfl)
theorem dX4_coupleOf_29 : decode cX4_coupleOf 29 = .ok (.ishl, 1) := dk_120 (dk_at dksX4_coupleOf_1 6 rfl rfl)
theorem dX4_coupleOf_30 : decode cX4_coupleOf 30 = .ok (.iconst (-1), 1) := dk_2 (dk_at dksX4_coupleOf_1 7 rfl rfl)
theorem dX4_coupleOf_31 : decode cX4_coupleOf 31 = .ok (.ixor, 1) := dk_130 (dk_at dksX4_coupleOf_1 8 rfl rfl)
theorem dX4_coupleOf_32 : decode cX4_coupleOf 32 = .ok (.iand, 1) := dk_126 (dk_at dksX4_coupleOf_1 9 rfl rfl)
theorem dX4_coupleOf_33 : decode cX4_coupleOf 33 = .ok (.istore_n 2, 1) := dk_61 (dk_at dksX4_coupleOf_1 10 rfl rfl)
theorem dX4_coupleOf_34 : decode cX4_coupleOf 34 = .ok (.iinc 3 1, 3) := dk_132 3 1 (dk_at dksX4_coupleOf_1 11 rfl rfl)
theorem dX4_coupleOf_37 : decode cX4_coupleOf 37 = .ok (.goto (-29), 3) := dk_167 255 227 (dk_at dksX4_coupleOf_1 14 rfl rfl)
theorem dX4_coupleOf_40 : decode cX4_coupleOf 40 = .ok (.iload_n 2, 1) := dk_28 (dk_at dksX4_coupleOf_1 17 rfl rfl)
theorem dX4_coupleOf_41 : decode cX4_coupleOf 41 = .ok (.invokestatic 334, 3) := dk_184 1 78 (dk_at dksX4_coupleOf_1 18 rfl rfl)
theorem dX4_coupleOf_44 : decode cX4_coupleOf 44 = .ok (.iconst 2, 1) := dk_5 (dk_at dksX4_coupleOf_1 21 rfl rfl)
theorem dX4_coupleOf_45 : decode cX4_coupleOf 45 = .ok (.if_icmp .ge 5, 3) := dk_162 0 5 (dk_at dksX4_coupleOf_2 0 rfl rfl)
theorem dX4_coupleOf_48 : decode cX4_coupleOf 48 = .ok (.iconst (-1), 1) := dk_2 (dk_at dksX4_coupleOf_2 3 rfl rfl)
theorem dX4_coupleOf_49 : decode cX4_coupleOf 49 = .ok (.ireturn, 1) := dk_172 (dk_at dksX4_coupleOf_2 4 rfl rfl)
theorem dX4_coupleOf_50 : decode cX4_coupleOf 50 = .ok (.aload_n 0, 1) := dk_42 (dk_at dksX4_coupleOf_2 5 rfl rfl)
theorem dX4_coupleOf_51 : decode cX4_coupleOf 51 = .ok (.iload_n 2, 1) := dk_28 (dk_at dksX4_coupleOf_2 6 rfl rfl)
theorem dX4_coupleOf_52 : decode cX4_coupleOf 52 = .ok (.invokevirtual 378, 3) := dk_182 1 122 (dk_at dksX4_coupleOf_2 7 rfl rfl)
theorem dX4_coupleOf_55 : decode cX4_coupleOf 55 = .ok (.istore_n 3, 1) := dk_62 (dk_at dksX4_coupleOf_2 10 rfl rfl)
theorem dX4_coupleOf_56 : decode cX4_coupleOf 56 = .ok (.bipush 8, 2) := dk_16 8 (dk_at dksX4_coupleOf_2 11 rfl rfl)
theorem dX4_coupleOf_58 : decode cX4_coupleOf 58 = .ok (.iload_n 3, 1) := dk_29 (dk_at dksX4_coupleOf_2 13 rfl rfl)
theorem dX4_coupleOf_59 : decode cX4_coupleOf 59 = .ok (.imul, 1) := dk_104 (dk_at dksX4_coupleOf_2 14 rfl rfl)
theorem dX4_coupleOf_60 : decode cX4_coupleOf 60 = .ok (.aload_n 0, 1) := dk_42 (dk_at dksX4_coupleOf_2 15 rfl rfl)
theorem dX4_coupleOf_61 : decode cX4_coupleOf 61 = .ok (.iload_n 2, 1) := dk_28 (dk_at dksX4_coupleOf_2 16 rfl rfl)
theorem dX4_coupleOf_62 : decode cX4_coupleOf 62 = .ok (.iconst 1, 1) := dk_4 (dk_at dksX4_coupleOf_2 17 rfl rfl)
theorem dX4_coupleOf_63 : decode cX4_coupleOf 63 = .ok (.iload_n 3, 1) := dk_29 (dk_at dksX4_coupleOf_2 18 rfl rfl)
theorem dX4_coupleOf_64 : decode cX4_coupleOf 64 = .ok (.ishl, 1) := dk_120 (dk_at dksX4_coupleOf_2 19 rfl rfl)
theorem dX4_coupleOf_65 : decode cX4_coupleOf 65 = .ok (.iconst (-1), 1) := dk_2 (dk_at dksX4_coupleOf_2 20 rfl rfl)
theorem dX4_coupleOf_66 : decode cX4_coupleOf 66 = .ok (.ixor, 1) := dk_130 (dk_at dksX4_coupleOf_2 21 rfl rfl)
theorem dX4_coupleOf_67 : decode cX4_coupleOf 67 = .ok (.iand, 1) := dk_126 (dk_at dksX4_coupleOf_2 22 rfl rfl)
theorem dX4_coupleOf_68 : decode cX4_coupleOf 68 = .ok (.invokevirtual 378, 3) := dk_182 1 122 (dk_at dksX4_coupleOf_3 0 rfl rfl)
theorem dX4_coupleOf_71 : decode cX4_coupleOf 71 = .ok (.iadd, 1) := dk_96 (dk_at dksX4_coupleOf_3 3 rfl rfl)
theorem dX4_coupleOf_72 : decode cX4_coupleOf 72 = .ok (.ireturn, 1) := dk_172 (dk_at dksX4_coupleOf_3 4 rfl rfl)
abbrev cX4_biggestOf : ByteArray := prog_22_method_57_code
def yX4_biggestOf : MethodName := ⟨RX4, "biggestOf", "(I)I"⟩
def dkwX4_biggestOf_2 : List UInt8 := [167, 255, 214, 28, 172]
abbrev dktX4_biggestOf_2 : List UInt8 := dkwX4_biggestOf_2 ++ []
def dkwX4_biggestOf_1 : List UInt8 := [180, 0, 85, 3, 29, 96, 46, 42, 180, 0, 85, 3, 28, 96, 46, 164, 0, 5, 29, 61, 132, 3, 1]
abbrev dktX4_biggestOf_1 : List UInt8 := dkwX4_biggestOf_1 ++ dktX4_biggestOf_2
def dkwX4_biggestOf_0 : List UInt8 := [2, 61, 3, 62, 29, 16, 8, 162, 0, 42, 27, 29, 184, 0, 250, 153, 0, 28, 28, 155, 0, 22, 42]
abbrev dktX4_biggestOf_0 : List UInt8 := dkwX4_biggestOf_0 ++ dktX4_biggestOf_1
theorem dksX4_biggestOf_0 : cX4_biggestOf.data.toList.drop 0 = dktX4_biggestOf_0 := by decide +kernel
theorem dksX4_biggestOf_1 : cX4_biggestOf.data.toList.drop 23 = dktX4_biggestOf_1 := dk_seg dksX4_biggestOf_0 23 rfl rfl
theorem dksX4_biggestOf_2 : cX4_biggestOf.data.toList.drop 46 = dktX4_biggestOf_2 := dk_seg dksX4_biggestOf_1 23 rfl rfl
theorem dX4_biggestOf_0 : decode cX4_biggestOf 0 = .ok (.iconst (-1), 1) := dk_2 (dk_at dksX4_biggestOf_0 0 rfl rfl)
theorem dX4_biggestOf_1 : decode cX4_biggestOf 1 = .ok (.istore_n 2, 1) := dk_61 (dk_at dksX4_biggestOf_0 1 rfl rfl)
theorem dX4_biggestOf_2 : decode cX4_biggestOf 2 = .ok (.iconst 0, 1) := dk_3 (dk_at dksX4_biggestOf_0 2 rfl rfl)
theorem dX4_biggestOf_3 : decode cX4_biggestOf 3 = .ok (.istore_n 3, 1) := dk_62 (dk_at dksX4_biggestOf_0 3 rfl rfl)
theorem dX4_biggestOf_4 : decode cX4_biggestOf 4 = .ok (.iload_n 3, 1) := dk_29 (dk_at dksX4_biggestOf_0 4 rfl rfl)
theorem dX4_biggestOf_5 : decode cX4_biggestOf 5 = .ok (.bipush 8, 2) := dk_16 8 (dk_at dksX4_biggestOf_0 5 rfl rfl)
theorem dX4_biggestOf_7 : decode cX4_biggestOf 7 = .ok (.if_icmp .ge 42, 3) := dk_162 0 42 (dk_at dksX4_biggestOf_0 7 rfl rfl)
theorem dX4_biggestOf_10 : decode cX4_biggestOf 10 = .ok (.iload_n 1, 1) := dk_27 (dk_at dksX4_biggestOf_0 10 rfl rfl)
theorem dX4_biggestOf_11 : decode cX4_biggestOf 11 = .ok (.iload_n 3, 1) := dk_29 (dk_at dksX4_biggestOf_0 11 rfl rfl)
theorem dX4_biggestOf_12 : decode cX4_biggestOf 12 = .ok (.invokestatic 250, 3) := dk_184 0 250 (dk_at dksX4_biggestOf_0 12 rfl rfl)
theorem dX4_biggestOf_15 : decode cX4_biggestOf 15 = .ok (.ifCond .eq 28, 3) := dk_153 0 28 (dk_at dksX4_biggestOf_0 15 rfl rfl)
theorem dX4_biggestOf_18 : decode cX4_biggestOf 18 = .ok (.iload_n 2, 1) := dk_28 (dk_at dksX4_biggestOf_0 18 rfl rfl)
theorem dX4_biggestOf_19 : decode cX4_biggestOf 19 = .ok (.ifCond .lt 22, 3) := dk_155 0 22 (dk_at dksX4_biggestOf_0 19 rfl rfl)
theorem dX4_biggestOf_22 : decode cX4_biggestOf 22 = .ok (.aload_n 0, 1) := dk_42 (dk_at dksX4_biggestOf_0 22 rfl rfl)
theorem dX4_biggestOf_23 : decode cX4_biggestOf 23 = .ok (.getfield 85, 3) := dk_180 0 85 (dk_at dksX4_biggestOf_1 0 rfl rfl)
theorem dX4_biggestOf_26 : decode cX4_biggestOf 26 = .ok (.iconst 0, 1) := dk_3 (dk_at dksX4_biggestOf_1 3 rfl rfl)
theorem dX4_biggestOf_27 : decode cX4_biggestOf 27 = .ok (.iload_n 3, 1) := dk_29 (dk_at dksX4_biggestOf_1 4 rfl rfl)
theorem dX4_biggestOf_28 : decode cX4_biggestOf 28 = .ok (.iadd, 1) := dk_96 (dk_at dksX4_biggestOf_1 5 rfl rfl)
theorem dX4_biggestOf_29 : decode cX4_biggestOf 29 = .ok (.iaload, 1) := dk_46 (dk_at dksX4_biggestOf_1 6 rfl rfl)
theorem dX4_biggestOf_30 : decode cX4_biggestOf 30 = .ok (.aload_n 0, 1) := dk_42 (dk_at dksX4_biggestOf_1 7 rfl rfl)
theorem dX4_biggestOf_31 : decode cX4_biggestOf 31 = .ok (.getfield 85, 3) := dk_180 0 85 (dk_at dksX4_biggestOf_1 8 rfl rfl)
theorem dX4_biggestOf_34 : decode cX4_biggestOf 34 = .ok (.iconst 0, 1) := dk_3 (dk_at dksX4_biggestOf_1 11 rfl rfl)
theorem dX4_biggestOf_35 : decode cX4_biggestOf 35 = .ok (.iload_n 2, 1) := dk_28 (dk_at dksX4_biggestOf_1 12 rfl rfl)
theorem dX4_biggestOf_36 : decode cX4_biggestOf 36 = .ok (.iadd, 1) := dk_96 (dk_at dksX4_biggestOf_1 13 rfl rfl)
theorem dX4_biggestOf_37 : decode cX4_biggestOf 37 = .ok (.iaload, 1) := dk_46 (dk_at dksX4_biggestOf_1 14 rfl rfl)
theorem dX4_biggestOf_38 : decode cX4_biggestOf 38 = .ok (.if_icmp .le 5, 3) := dk_164 0 5 (dk_at dksX4_biggestOf_1 15 rfl rfl)
theorem dX4_biggestOf_41 : decode cX4_biggestOf 41 = .ok (.iload_n 3, 1) := dk_29 (dk_at dksX4_biggestOf_1 18 rfl rfl)
theorem dX4_biggestOf_42 : decode cX4_biggestOf 42 = .ok (.istore_n 2, 1) := dk_61 (dk_at dksX4_biggestOf_1 19 rfl rfl)
theorem dX4_biggestOf_43 : decode cX4_biggestOf 43 = .ok (.iinc 3 1, 3) := dk_132 3 1 (dk_at dksX4_biggestOf_1 20 rfl rfl)
theorem dX4_biggestOf_46 : decode cX4_biggestOf 46 = .ok (.goto (-42), 3) := dk_167 255 214 (dk_at dksX4_biggestOf_2 0 rfl rfl)
theorem dX4_biggestOf_49 : decode cX4_biggestOf 49 = .ok (.iload_n 2, 1) := dk_28 (dk_at dksX4_biggestOf_2 3 rfl rfl)
theorem dX4_biggestOf_50 : decode cX4_biggestOf 50 = .ok (.ireturn, 1) := dk_172 (dk_at dksX4_biggestOf_2 4 rfl rfl)
abbrev cX4_ripe : ByteArray := prog_22_method_70_code
def yX4_ripe : MethodName := ⟨RX4, "ripe", "()I"⟩
def dkwX4_ripe_1 : List UInt8 := [128, 60, 132, 2, 1, 167, 255, 231, 27, 172]
abbrev dktX4_ripe_1 : List UInt8 := dkwX4_ripe_1 ++ []
def dkwX4_ripe_0 : List UInt8 := [3, 60, 3, 61, 28, 42, 182, 1, 87, 162, 0, 23, 42, 28, 182, 1, 143, 153, 0, 9, 27, 4, 28, 120]
abbrev dktX4_ripe_0 : List UInt8 := dkwX4_ripe_0 ++ dktX4_ripe_1
theorem dksX4_ripe_0 : cX4_ripe.data.toList.drop 0 = dktX4_ripe_0 := by decide +kernel
theorem dksX4_ripe_1 : cX4_ripe.data.toList.drop 24 = dktX4_ripe_1 := dk_seg dksX4_ripe_0 24 rfl rfl
theorem dX4_ripe_0 : decode cX4_ripe 0 = .ok (.iconst 0, 1) := dk_3 (dk_at dksX4_ripe_0 0 rfl rfl)
theorem dX4_ripe_1 : decode cX4_ripe 1 = .ok (.istore_n 1, 1) := dk_60 (dk_at dksX4_ripe_0 1 rfl rfl)
theorem dX4_ripe_2 : decode cX4_ripe 2 = .ok (.iconst 0, 1) := dk_3 (dk_at dksX4_ripe_0 2 rfl rfl)
theorem dX4_ripe_3 : decode cX4_ripe 3 = .ok (.istore_n 2, 1) := dk_61 (dk_at dksX4_ripe_0 3 rfl rfl)
theorem dX4_ripe_4 : decode cX4_ripe 4 = .ok (.iload_n 2, 1) := dk_28 (dk_at dksX4_ripe_0 4 rfl rfl)
theorem dX4_ripe_5 : decode cX4_ripe 5 = .ok (.aload_n 0, 1) := dk_42 (dk_at dksX4_ripe_0 5 rfl rfl)
theorem dX4_ripe_6 : decode cX4_ripe 6 = .ok (.invokevirtual 343, 3) := dk_182 1 87 (dk_at dksX4_ripe_0 6 rfl rfl)
theorem dX4_ripe_9 : decode cX4_ripe 9 = .ok (.if_icmp .ge 23, 3) := dk_162 0 23 (dk_at dksX4_ripe_0 9 rfl rfl)
theorem dX4_ripe_12 : decode cX4_ripe 12 = .ok (.aload_n 0, 1) := dk_42 (dk_at dksX4_ripe_0 12 rfl rfl)
theorem dX4_ripe_13 : decode cX4_ripe 13 = .ok (.iload_n 2, 1) := dk_28 (dk_at dksX4_ripe_0 13 rfl rfl)
theorem dX4_ripe_14 : decode cX4_ripe 14 = .ok (.invokevirtual 399, 3) := dk_182 1 143 (dk_at dksX4_ripe_0 14 rfl rfl)
theorem dX4_ripe_17 : decode cX4_ripe 17 = .ok (.ifCond .eq 9, 3) := dk_153 0 9 (dk_at dksX4_ripe_0 17 rfl rfl)
theorem dX4_ripe_20 : decode cX4_ripe 20 = .ok (.iload_n 1, 1) := dk_27 (dk_at dksX4_ripe_0 20 rfl rfl)
theorem dX4_ripe_21 : decode cX4_ripe 21 = .ok (.iconst 1, 1) := dk_4 (dk_at dksX4_ripe_0 21 rfl rfl)
theorem dX4_ripe_22 : decode cX4_ripe 22 = .ok (.iload_n 2, 1) := dk_28 (dk_at dksX4_ripe_0 22 rfl rfl)
theorem dX4_ripe_23 : decode cX4_ripe 23 = .ok (.ishl, 1) := dk_120 (dk_at dksX4_ripe_0 23 rfl rfl)
theorem dX4_ripe_24 : decode cX4_ripe 24 = .ok (.ior, 1) := dk_128 (dk_at dksX4_ripe_1 0 rfl rfl)
theorem dX4_ripe_25 : decode cX4_ripe 25 = .ok (.istore_n 1, 1) := dk_60 (dk_at dksX4_ripe_1 1 rfl rfl)
theorem dX4_ripe_26 : decode cX4_ripe 26 = .ok (.iinc 2 1, 3) := dk_132 2 1 (dk_at dksX4_ripe_1 2 rfl rfl)
theorem dX4_ripe_29 : decode cX4_ripe 29 = .ok (.goto (-25), 3) := dk_167 255 231 (dk_at dksX4_ripe_1 5 rfl rfl)
theorem dX4_ripe_32 : decode cX4_ripe 32 = .ok (.iload_n 1, 1) := dk_27 (dk_at dksX4_ripe_1 8 rfl rfl)
theorem dX4_ripe_33 : decode cX4_ripe 33 = .ok (.ireturn, 1) := dk_172 (dk_at dksX4_ripe_1 9 rfl rfl)
abbrev cX4_isRipe : ByteArray := prog_22_method_61_code
def yX4_isRipe : MethodName := ⟨RX4, "isRipe", "(I)Z"⟩
def dkwX4_isRipe_2 : List UInt8 := [167, 0, 4, 3, 172]
abbrev dktX4_isRipe_2 : List UInt8 := dkwX4_isRipe_2 ++ []
def dkwX4_isRipe_1 : List UInt8 := [16, 8, 112, 182, 1, 131, 158, 0, 20, 42, 28, 182, 1, 134, 42, 27, 182, 1, 72, 163, 0, 7, 4]
abbrev dktX4_isRipe_1 : List UInt8 := dkwX4_isRipe_1 ++ dktX4_isRipe_2
def dkwX4_isRipe_0 : List UInt8 := [42, 27, 182, 1, 125, 61, 28, 155, 0, 42, 42, 182, 1, 128, 155, 0, 35, 42, 28, 16, 8, 108, 28]
abbrev dktX4_isRipe_0 : List UInt8 := dkwX4_isRipe_0 ++ dktX4_isRipe_1
theorem dksX4_isRipe_0 : cX4_isRipe.data.toList.drop 0 = dktX4_isRipe_0 := by decide +kernel
theorem dksX4_isRipe_1 : cX4_isRipe.data.toList.drop 23 = dktX4_isRipe_1 := dk_seg dksX4_isRipe_0 23 rfl rfl
theorem dksX4_isRipe_2 : cX4_isRipe.data.toList.drop 46 = dktX4_isRipe_2 := dk_seg dksX4_isRipe_1 23 rfl rfl
theorem dX4_isRipe_0 : decode cX4_isRipe 0 = .ok (.aload_n 0, 1) := dk_42 (dk_at dksX4_isRipe_0 0 rfl rfl)
theorem dX4_isRipe_1 : decode cX4_isRipe 1 = .ok (.iload_n 1, 1) := dk_27 (dk_at dksX4_isRipe_0 1 rfl rfl)
theorem dX4_isRipe_2 : decode cX4_isRipe 2 = .ok (.invokevirtual 381, 3) := dk_182 1 125 (dk_at dksX4_isRipe_0 2 rfl rfl)
theorem dX4_isRipe_5 : decode cX4_isRipe 5 = .ok (.istore_n 2, 1) := dk_61 (dk_at dksX4_isRipe_0 5 rfl rfl)
theorem dX4_isRipe_6 : decode cX4_isRipe 6 = .ok (.iload_n 2, 1) := dk_28 (dk_at dksX4_isRipe_0 6 rfl rfl)
theorem dX4_isRipe_7 : decode cX4_isRipe 7 = .ok (.ifCond .lt 42, 3) := dk_155 0 42 (dk_at dksX4_isRipe_0 7 rfl rfl)
theorem dX4_isRipe_10 : decode cX4_isRipe 10 = .ok (.aload_n 0, 1) := dk_42 (dk_at dksX4_isRipe_0 10 rfl rfl)
theorem dX4_isRipe_11 : decode cX4_isRipe 11 = .ok (.invokevirtual 384, 3) := dk_182 1 128 (dk_at dksX4_isRipe_0 11 rfl rfl)
theorem dX4_isRipe_14 : decode cX4_isRipe 14 = .ok (.ifCond .lt 35, 3) := dk_155 0 35 (dk_at dksX4_isRipe_0 14 rfl rfl)
theorem dX4_isRipe_17 : decode cX4_isRipe 17 = .ok (.aload_n 0, 1) := dk_42 (dk_at dksX4_isRipe_0 17 rfl rfl)
theorem dX4_isRipe_18 : decode cX4_isRipe 18 = .ok (.iload_n 2, 1) := dk_28 (dk_at dksX4_isRipe_0 18 rfl rfl)
theorem dX4_isRipe_19 : decode cX4_isRipe 19 = .ok (.bipush 8, 2) := dk_16 8 (dk_at dksX4_isRipe_0 19 rfl rfl)
theorem dX4_isRipe_21 : decode cX4_isRipe 21 = .ok (.idiv, 1) := dk_108 (dk_at dksX4_isRipe_0 21 rfl rfl)
theorem dX4_isRipe_22 : decode cX4_isRipe 22 = .ok (.iload_n 2, 1) := dk_28 (dk_at dksX4_isRipe_0 22 rfl rfl)
theorem dX4_isRipe_23 : decode cX4_isRipe 23 = .ok (.bipush 8, 2) := dk_16 8 (dk_at dksX4_isRipe_1 0 rfl rfl)
theorem dX4_isRipe_25 : decode cX4_isRipe 25 = .ok (.irem, 1) := dk_112 (dk_at dksX4_isRipe_1 2 rfl rfl)
theorem dX4_isRipe_26 : decode cX4_isRipe 26 = .ok (.invokevirtual 387, 3) := dk_182 1 131 (dk_at dksX4_isRipe_1 3 rfl rfl)
theorem dX4_isRipe_29 : decode cX4_isRipe 29 = .ok (.ifCond .le 20, 3) := dk_158 0 20 (dk_at dksX4_isRipe_1 6 rfl rfl)
theorem dX4_isRipe_32 : decode cX4_isRipe 32 = .ok (.aload_n 0, 1) := dk_42 (dk_at dksX4_isRipe_1 9 rfl rfl)
theorem dX4_isRipe_33 : decode cX4_isRipe 33 = .ok (.iload_n 2, 1) := dk_28 (dk_at dksX4_isRipe_1 10 rfl rfl)
theorem dX4_isRipe_34 : decode cX4_isRipe 34 = .ok (.invokevirtual 390, 3) := dk_182 1 134 (dk_at dksX4_isRipe_1 11 rfl rfl)
theorem dX4_isRipe_37 : decode cX4_isRipe 37 = .ok (.aload_n 0, 1) := dk_42 (dk_at dksX4_isRipe_1 14 rfl rfl)
theorem dX4_isRipe_38 : decode cX4_isRipe 38 = .ok (.iload_n 1, 1) := dk_27 (dk_at dksX4_isRipe_1 15 rfl rfl)
theorem dX4_isRipe_39 : decode cX4_isRipe 39 = .ok (.invokevirtual 328, 3) := dk_182 1 72 (dk_at dksX4_isRipe_1 16 rfl rfl)
theorem dX4_isRipe_42 : decode cX4_isRipe 42 = .ok (.if_icmp .gt 7, 3) := dk_163 0 7 (dk_at dksX4_isRipe_1 19 rfl rfl)
theorem dX4_isRipe_45 : decode cX4_isRipe 45 = .ok (.iconst 1, 1) := dk_4 (dk_at dksX4_isRipe_1 22 rfl rfl)
theorem dX4_isRipe_46 : decode cX4_isRipe 46 = .ok (.goto 4, 3) := dk_167 0 4 (dk_at dksX4_isRipe_2 0 rfl rfl)
theorem dX4_isRipe_49 : decode cX4_isRipe 49 = .ok (.iconst 0, 1) := dk_3 (dk_at dksX4_isRipe_2 3 rfl rfl)
theorem dX4_isRipe_50 : decode cX4_isRipe 50 = .ok (.ireturn, 1) := dk_172 (dk_at dksX4_isRipe_2 4 rfl rfl)
abbrev cX4_freePlace : ByteArray := prog_22_method_60_code
def yX4_freePlace : MethodName := ⟨RX4, "freePlace", "()I"⟩
def dkwX4_freePlace_1 : List UInt8 := [167, 255, 234, 2, 172]
abbrev dktX4_freePlace_1 : List UInt8 := dkwX4_freePlace_1 ++ []
def dkwX4_freePlace_0 : List UInt8 := [3, 60, 27, 16, 8, 162, 0, 22, 42, 180, 0, 85, 3, 27, 96, 46, 154, 0, 5, 27, 172, 132, 1, 1]
abbrev dktX4_freePlace_0 : List UInt8 := dkwX4_freePlace_0 ++ dktX4_freePlace_1
theorem dksX4_freePlace_0 : cX4_freePlace.data.toList.drop 0 = dktX4_freePlace_0 := by decide +kernel
theorem dksX4_freePlace_1 : cX4_freePlace.data.toList.drop 24 = dktX4_freePlace_1 := dk_seg dksX4_freePlace_0 24 rfl rfl
theorem dX4_freePlace_0 : decode cX4_freePlace 0 = .ok (.iconst 0, 1) := dk_3 (dk_at dksX4_freePlace_0 0 rfl rfl)
theorem dX4_freePlace_1 : decode cX4_freePlace 1 = .ok (.istore_n 1, 1) := dk_60 (dk_at dksX4_freePlace_0 1 rfl rfl)
theorem dX4_freePlace_2 : decode cX4_freePlace 2 = .ok (.iload_n 1, 1) := dk_27 (dk_at dksX4_freePlace_0 2 rfl rfl)
theorem dX4_freePlace_3 : decode cX4_freePlace 3 = .ok (.bipush 8, 2) := dk_16 8 (dk_at dksX4_freePlace_0 3 rfl rfl)
theorem dX4_freePlace_5 : decode cX4_freePlace 5 = .ok (.if_icmp .ge 22, 3) := dk_162 0 22 (dk_at dksX4_freePlace_0 5 rfl rfl)
theorem dX4_freePlace_8 : decode cX4_freePlace 8 = .ok (.aload_n 0, 1) := dk_42 (dk_at dksX4_freePlace_0 8 rfl rfl)
theorem dX4_freePlace_9 : decode cX4_freePlace 9 = .ok (.getfield 85, 3) := dk_180 0 85 (dk_at dksX4_freePlace_0 9 rfl rfl)
theorem dX4_freePlace_12 : decode cX4_freePlace 12 = .ok (.iconst 0, 1) := dk_3 (dk_at dksX4_freePlace_0 12 rfl rfl)
theorem dX4_freePlace_13 : decode cX4_freePlace 13 = .ok (.iload_n 1, 1) := dk_27 (dk_at dksX4_freePlace_0 13 rfl rfl)
theorem dX4_freePlace_14 : decode cX4_freePlace 14 = .ok (.iadd, 1) := dk_96 (dk_at dksX4_freePlace_0 14 rfl rfl)
theorem dX4_freePlace_15 : decode cX4_freePlace 15 = .ok (.iaload, 1) := dk_46 (dk_at dksX4_freePlace_0 15 rfl rfl)
theorem dX4_freePlace_16 : decode cX4_freePlace 16 = .ok (.ifCond .ne 5, 3) := dk_154 0 5 (dk_at dksX4_freePlace_0 16 rfl rfl)
theorem dX4_freePlace_19 : decode cX4_freePlace 19 = .ok (.iload_n 1, 1) := dk_27 (dk_at dksX4_freePlace_0 19 rfl rfl)
theorem dX4_freePlace_20 : decode cX4_freePlace 20 = .ok (.ireturn, 1) := dk_172 (dk_at dksX4_freePlace_0 20 rfl rfl)
theorem dX4_freePlace_21 : decode cX4_freePlace 21 = .ok (.iinc 1 1, 3) := dk_132 1 1 (dk_at dksX4_freePlace_0 21 rfl rfl)
theorem dX4_freePlace_24 : decode cX4_freePlace 24 = .ok (.goto (-22), 3) := dk_167 255 234 (dk_at dksX4_freePlace_1 0 rfl rfl)
theorem dX4_freePlace_27 : decode cX4_freePlace 27 = .ok (.iconst (-1), 1) := dk_2 (dk_at dksX4_freePlace_1 3 rfl rfl)
theorem dX4_freePlace_28 : decode cX4_freePlace 28 = .ok (.ireturn, 1) := dk_172 (dk_at dksX4_freePlace_1 4 rfl rfl)
abbrev cX4_youngOf : ByteArray := prog_22_method_59_code
def yX4_youngOf : MethodName := ⟨RX4, "youngOf", "(I)I"⟩
def dkwX4_youngOf_1 : List UInt8 := [108, 61, 28, 4, 162, 0, 7, 4, 167, 0, 4, 28, 172]
abbrev dktX4_youngOf_1 : List UInt8 := dkwX4_youngOf_1 ++ []
def dkwX4_youngOf_0 : List UInt8 := [42, 180, 0, 85, 3, 27, 16, 8, 108, 96, 46, 42, 180, 0, 85, 3, 27, 16, 8, 112, 96, 46, 96, 7]
abbrev dktX4_youngOf_0 : List UInt8 := dkwX4_youngOf_0 ++ dktX4_youngOf_1
theorem dksX4_youngOf_0 : cX4_youngOf.data.toList.drop 0 = dktX4_youngOf_0 := by decide +kernel
theorem dksX4_youngOf_1 : cX4_youngOf.data.toList.drop 24 = dktX4_youngOf_1 := dk_seg dksX4_youngOf_0 24 rfl rfl
theorem dX4_youngOf_0 : decode cX4_youngOf 0 = .ok (.aload_n 0, 1) := dk_42 (dk_at dksX4_youngOf_0 0 rfl rfl)
theorem dX4_youngOf_1 : decode cX4_youngOf 1 = .ok (.getfield 85, 3) := dk_180 0 85 (dk_at dksX4_youngOf_0 1 rfl rfl)
theorem dX4_youngOf_4 : decode cX4_youngOf 4 = .ok (.iconst 0, 1) := dk_3 (dk_at dksX4_youngOf_0 4 rfl rfl)
theorem dX4_youngOf_5 : decode cX4_youngOf 5 = .ok (.iload_n 1, 1) := dk_27 (dk_at dksX4_youngOf_0 5 rfl rfl)
theorem dX4_youngOf_6 : decode cX4_youngOf 6 = .ok (.bipush 8, 2) := dk_16 8 (dk_at dksX4_youngOf_0 6 rfl rfl)
theorem dX4_youngOf_8 : decode cX4_youngOf 8 = .ok (.idiv, 1) := dk_108 (dk_at dksX4_youngOf_0 8 rfl rfl)
theorem dX4_youngOf_9 : decode cX4_youngOf 9 = .ok (.iadd, 1) := dk_96 (dk_at dksX4_youngOf_0 9 rfl rfl)
theorem dX4_youngOf_10 : decode cX4_youngOf 10 = .ok (.iaload, 1) := dk_46 (dk_at dksX4_youngOf_0 10 rfl rfl)
theorem dX4_youngOf_11 : decode cX4_youngOf 11 = .ok (.aload_n 0, 1) := dk_42 (dk_at dksX4_youngOf_0 11 rfl rfl)
theorem dX4_youngOf_12 : decode cX4_youngOf 12 = .ok (.getfield 85, 3) := dk_180 0 85 (dk_at dksX4_youngOf_0 12 rfl rfl)
theorem dX4_youngOf_15 : decode cX4_youngOf 15 = .ok (.iconst 0, 1) := dk_3 (dk_at dksX4_youngOf_0 15 rfl rfl)
theorem dX4_youngOf_16 : decode cX4_youngOf 16 = .ok (.iload_n 1, 1) := dk_27 (dk_at dksX4_youngOf_0 16 rfl rfl)
theorem dX4_youngOf_17 : decode cX4_youngOf 17 = .ok (.bipush 8, 2) := dk_16 8 (dk_at dksX4_youngOf_0 17 rfl rfl)
theorem dX4_youngOf_19 : decode cX4_youngOf 19 = .ok (.irem, 1) := dk_112 (dk_at dksX4_youngOf_0 19 rfl rfl)
theorem dX4_youngOf_20 : decode cX4_youngOf 20 = .ok (.iadd, 1) := dk_96 (dk_at dksX4_youngOf_0 20 rfl rfl)
theorem dX4_youngOf_21 : decode cX4_youngOf 21 = .ok (.iaload, 1) := dk_46 (dk_at dksX4_youngOf_0 21 rfl rfl)
theorem dX4_youngOf_22 : decode cX4_youngOf 22 = .ok (.iadd, 1) := dk_96 (dk_at dksX4_youngOf_0 22 rfl rfl)
theorem dX4_youngOf_23 : decode cX4_youngOf 23 = .ok (.iconst 4, 1) := dk_7 (dk_at dksX4_youngOf_0 23 rfl rfl)
theorem dX4_youngOf_24 : decode cX4_youngOf 24 = .ok (.idiv, 1) := dk_108 (dk_at dksX4_youngOf_1 0 rfl rfl)
theorem dX4_youngOf_25 : decode cX4_youngOf 25 = .ok (.istore_n 2, 1) := dk_61 (dk_at dksX4_youngOf_1 1 rfl rfl)
theorem dX4_youngOf_26 : decode cX4_youngOf 26 = .ok (.iload_n 2, 1) := dk_28 (dk_at dksX4_youngOf_1 2 rfl rfl)
theorem dX4_youngOf_27 : decode cX4_youngOf 27 = .ok (.iconst 1, 1) := dk_4 (dk_at dksX4_youngOf_1 3 rfl rfl)
theorem dX4_youngOf_28 : decode cX4_youngOf 28 = .ok (.if_icmp .ge 7, 3) := dk_162 0 7 (dk_at dksX4_youngOf_1 4 rfl rfl)
theorem dX4_youngOf_31 : decode cX4_youngOf 31 = .ok (.iconst 1, 1) := dk_4 (dk_at dksX4_youngOf_1 7 rfl rfl)
theorem dX4_youngOf_32 : decode cX4_youngOf 32 = .ok (.goto 4, 3) := dk_167 0 4 (dk_at dksX4_youngOf_1 8 rfl rfl)
theorem dX4_youngOf_35 : decode cX4_youngOf 35 = .ok (.iload_n 2, 1) := dk_28 (dk_at dksX4_youngOf_1 11 rfl rfl)
theorem dX4_youngOf_36 : decode cX4_youngOf 36 = .ok (.ireturn, 1) := dk_172 (dk_at dksX4_youngOf_1 12 rfl rfl)
abbrev cX4_pining : ByteArray := prog_22_method_71_code
def yX4_pining : MethodName := ⟨RX4, "pining", "()I"⟩
def dkwX4_pining_1 : List UInt8 := [28, 120, 128, 60, 132, 2, 1, 167, 255, 229, 27, 172]
abbrev dktX4_pining_1 : List UInt8 := dkwX4_pining_1 ++ []
def dkwX4_pining_0 : List UInt8 := [3, 60, 3, 61, 28, 16, 8, 162, 0, 27, 42, 180, 0, 85, 16, 32, 28, 96, 46, 158, 0, 9, 27, 4]
abbrev dktX4_pining_0 : List UInt8 := dkwX4_pining_0 ++ dktX4_pining_1
theorem dksX4_pining_0 : cX4_pining.data.toList.drop 0 = dktX4_pining_0 := by decide +kernel
theorem dksX4_pining_1 : cX4_pining.data.toList.drop 24 = dktX4_pining_1 := dk_seg dksX4_pining_0 24 rfl rfl
theorem dX4_pining_0 : decode cX4_pining 0 = .ok (.iconst 0, 1) := dk_3 (dk_at dksX4_pining_0 0 rfl rfl)
theorem dX4_pining_1 : decode cX4_pining 1 = .ok (.istore_n 1, 1) := dk_60 (dk_at dksX4_pining_0 1 rfl rfl)
theorem dX4_pining_2 : decode cX4_pining 2 = .ok (.iconst 0, 1) := dk_3 (dk_at dksX4_pining_0 2 rfl rfl)
theorem dX4_pining_3 : decode cX4_pining 3 = .ok (.istore_n 2, 1) := dk_61 (dk_at dksX4_pining_0 3 rfl rfl)
theorem dX4_pining_4 : decode cX4_pining 4 = .ok (.iload_n 2, 1) := dk_28 (dk_at dksX4_pining_0 4 rfl rfl)
theorem dX4_pining_5 : decode cX4_pining 5 = .ok (.bipush 8, 2) := dk_16 8 (dk_at dksX4_pining_0 5 rfl rfl)
theorem dX4_pining_7 : decode cX4_pining 7 = .ok (.if_icmp .ge 27, 3) := dk_162 0 27 (dk_at dksX4_pining_0 7 rfl rfl)
theorem dX4_pining_10 : decode cX4_pining 10 = .ok (.aload_n 0, 1) := dk_42 (dk_at dksX4_pining_0 10 rfl rfl)
theorem dX4_pining_11 : decode cX4_pining 11 = .ok (.getfield 85, 3) := dk_180 0 85 (dk_at dksX4_pining_0 11 rfl rfl)
theorem dX4_pining_14 : decode cX4_pining 14 = .ok (.bipush 32, 2) := dk_16 32 (dk_at dksX4_pining_0 14 rfl rfl)
theorem dX4_pining_16 : decode cX4_pining 16 = .ok (.iload_n 2, 1) := dk_28 (dk_at dksX4_pining_0 16 rfl rfl)
theorem dX4_pining_17 : decode cX4_pining 17 = .ok (.iadd, 1) := dk_96 (dk_at dksX4_pining_0 17 rfl rfl)
theorem dX4_pining_18 : decode cX4_pining 18 = .ok (.iaload, 1) := dk_46 (dk_at dksX4_pining_0 18 rfl rfl)
theorem dX4_pining_19 : decode cX4_pining 19 = .ok (.ifCond .le 9, 3) := dk_158 0 9 (dk_at dksX4_pining_0 19 rfl rfl)
theorem dX4_pining_22 : decode cX4_pining 22 = .ok (.iload_n 1, 1) := dk_27 (dk_at dksX4_pining_0 22 rfl rfl)
theorem dX4_pining_23 : decode cX4_pining 23 = .ok (.iconst 1, 1) := dk_4 (dk_at dksX4_pining_0 23 rfl rfl)
theorem dX4_pining_24 : decode cX4_pining 24 = .ok (.iload_n 2, 1) := dk_28 (dk_at dksX4_pining_1 0 rfl rfl)
theorem dX4_pining_25 : decode cX4_pining 25 = .ok (.ishl, 1) := dk_120 (dk_at dksX4_pining_1 1 rfl rfl)
theorem dX4_pining_26 : decode cX4_pining 26 = .ok (.ior, 1) := dk_128 (dk_at dksX4_pining_1 2 rfl rfl)
theorem dX4_pining_27 : decode cX4_pining 27 = .ok (.istore_n 1, 1) := dk_60 (dk_at dksX4_pining_1 3 rfl rfl)
theorem dX4_pining_28 : decode cX4_pining 28 = .ok (.iinc 2 1, 3) := dk_132 2 1 (dk_at dksX4_pining_1 4 rfl rfl)
theorem dX4_pining_31 : decode cX4_pining 31 = .ok (.goto (-27), 3) := dk_167 255 229 (dk_at dksX4_pining_1 7 rfl rfl)
theorem dX4_pining_34 : decode cX4_pining 34 = .ok (.iload_n 1, 1) := dk_27 (dk_at dksX4_pining_1 10 rfl rfl)
theorem dX4_pining_35 : decode cX4_pining 35 = .ok (.ireturn, 1) := dk_172 (dk_at dksX4_pining_1 11 rfl rfl)
abbrev cX4_alike : ByteArray := prog_22_method_72_code
def yX4_alike : MethodName := ⟨RX4, "alike", "(II)I"⟩
def dkwX4_alike_1 : List UInt8 := [46, 42, 180, 0, 85, 16, 16, 28, 96, 46, 184, 1, 69, 167, 0, 4, 2, 172]
abbrev dktX4_alike_1 : List UInt8 := dkwX4_alike_1 ++ []
def dkwX4_alike_0 : List UInt8 := [42, 27, 182, 1, 155, 153, 0, 35, 42, 28, 182, 1, 155, 153, 0, 27, 42, 180, 0, 85, 16, 16, 27, 96]
abbrev dktX4_alike_0 : List UInt8 := dkwX4_alike_0 ++ dktX4_alike_1
theorem dksX4_alike_0 : cX4_alike.data.toList.drop 0 = dktX4_alike_0 := by decide +kernel
theorem dksX4_alike_1 : cX4_alike.data.toList.drop 24 = dktX4_alike_1 := dk_seg dksX4_alike_0 24 rfl rfl
theorem dX4_alike_0 : decode cX4_alike 0 = .ok (.aload_n 0, 1) := dk_42 (dk_at dksX4_alike_0 0 rfl rfl)
theorem dX4_alike_1 : decode cX4_alike 1 = .ok (.iload_n 1, 1) := dk_27 (dk_at dksX4_alike_0 1 rfl rfl)
theorem dX4_alike_2 : decode cX4_alike 2 = .ok (.invokevirtual 411, 3) := dk_182 1 155 (dk_at dksX4_alike_0 2 rfl rfl)
theorem dX4_alike_5 : decode cX4_alike 5 = .ok (.ifCond .eq 35, 3) := dk_153 0 35 (dk_at dksX4_alike_0 5 rfl rfl)
theorem dX4_alike_8 : decode cX4_alike 8 = .ok (.aload_n 0, 1) := dk_42 (dk_at dksX4_alike_0 8 rfl rfl)
theorem dX4_alike_9 : decode cX4_alike 9 = .ok (.iload_n 2, 1) := dk_28 (dk_at dksX4_alike_0 9 rfl rfl)
theorem dX4_alike_10 : decode cX4_alike 10 = .ok (.invokevirtual 411, 3) := dk_182 1 155 (dk_at dksX4_alike_0 10 rfl rfl)
theorem dX4_alike_13 : decode cX4_alike 13 = .ok (.ifCond .eq 27, 3) := dk_153 0 27 (dk_at dksX4_alike_0 13 rfl rfl)
theorem dX4_alike_16 : decode cX4_alike 16 = .ok (.aload_n 0, 1) := dk_42 (dk_at dksX4_alike_0 16 rfl rfl)
theorem dX4_alike_17 : decode cX4_alike 17 = .ok (.getfield 85, 3) := dk_180 0 85 (dk_at dksX4_alike_0 17 rfl rfl)
theorem dX4_alike_20 : decode cX4_alike 20 = .ok (.bipush 16, 2) := dk_16 16 (dk_at dksX4_alike_0 20 rfl rfl)
theorem dX4_alike_22 : decode cX4_alike 22 = .ok (.iload_n 1, 1) := dk_27 (dk_at dksX4_alike_0 22 rfl rfl)
theorem dX4_alike_23 : decode cX4_alike 23 = .ok (.iadd, 1) := dk_96 (dk_at dksX4_alike_0 23 rfl rfl)
theorem dX4_alike_24 : decode cX4_alike 24 = .ok (.iaload, 1) := dk_46 (dk_at dksX4_alike_1 0 rfl rfl)
theorem dX4_alike_25 : decode cX4_alike 25 = .ok (.aload_n 0, 1) := dk_42 (dk_at dksX4_alike_1 1 rfl rfl)
theorem dX4_alike_26 : decode cX4_alike 26 = .ok (.getfield 85, 3) := dk_180 0 85 (dk_at dksX4_alike_1 2 rfl rfl)
theorem dX4_alike_29 : decode cX4_alike 29 = .ok (.bipush 16, 2) := dk_16 16 (dk_at dksX4_alike_1 5 rfl rfl)
theorem dX4_alike_31 : decode cX4_alike 31 = .ok (.iload_n 2, 1) := dk_28 (dk_at dksX4_alike_1 7 rfl rfl)
theorem dX4_alike_32 : decode cX4_alike 32 = .ok (.iadd, 1) := dk_96 (dk_at dksX4_alike_1 8 rfl rfl)
theorem dX4_alike_33 : decode cX4_alike 33 = .ok (.iaload, 1) := dk_46 (dk_at dksX4_alike_1 9 rfl rfl)
theorem dX4_alike_34 : decode cX4_alike 34 = .ok (.invokestatic 325, 3) := dk_184 1 69 (dk_at dksX4_alike_1 10 rfl rfl)
theorem dX4_alike_37 : decode cX4_alike 37 = .ok (.goto 4, 3) := dk_167 0 4 (dk_at dksX4_alike_1 13 rfl rfl)
theorem dX4_alike_40 : decode cX4_alike 40 = .ok (.iconst (-1), 1) := dk_2 (dk_at dksX4_alike_1 16 rfl rfl)
theorem dX4_alike_41 : decode cX4_alike 41 = .ok (.ireturn, 1) := dk_172 (dk_at dksX4_alike_1 17 rfl rfl)
abbrev cX4_like : ByteArray := prog_22_method_73_code
def yX4_like : MethodName := ⟨RX4, "like", "(I)I"⟩
def dkwX4_like_2 : List UInt8 := [182, 1, 159, 164, 0, 5, 29, 61, 132, 3, 1, 167, 255, 213, 28, 172]
abbrev dktX4_like_2 : List UInt8 := dkwX4_like_2 ++ []
def dkwX4_like_1 : List UInt8 := [182, 1, 155, 153, 0, 29, 29, 27, 159, 0, 24, 28, 155, 0, 18, 42, 27, 29, 182, 1, 159, 42, 27, 28]
abbrev dktX4_like_1 : List UInt8 := dkwX4_like_1 ++ dktX4_like_2
def dkwX4_like_0 : List UInt8 := [42, 27, 182, 1, 155, 154, 0, 5, 2, 172, 2, 61, 3, 62, 29, 16, 8, 162, 0, 43, 42, 29]
abbrev dktX4_like_0 : List UInt8 := dkwX4_like_0 ++ dktX4_like_1
theorem dksX4_like_0 : cX4_like.data.toList.drop 0 = dktX4_like_0 := by decide +kernel
theorem dksX4_like_1 : cX4_like.data.toList.drop 22 = dktX4_like_1 := dk_seg dksX4_like_0 22 rfl rfl
theorem dksX4_like_2 : cX4_like.data.toList.drop 46 = dktX4_like_2 := dk_seg dksX4_like_1 24 rfl rfl
theorem dX4_like_0 : decode cX4_like 0 = .ok (.aload_n 0, 1) := dk_42 (dk_at dksX4_like_0 0 rfl rfl)
theorem dX4_like_1 : decode cX4_like 1 = .ok (.iload_n 1, 1) := dk_27 (dk_at dksX4_like_0 1 rfl rfl)
theorem dX4_like_2 : decode cX4_like 2 = .ok (.invokevirtual 411, 3) := dk_182 1 155 (dk_at dksX4_like_0 2 rfl rfl)
theorem dX4_like_5 : decode cX4_like 5 = .ok (.ifCond .ne 5, 3) := dk_154 0 5 (dk_at dksX4_like_0 5 rfl rfl)
theorem dX4_like_8 : decode cX4_like 8 = .ok (.iconst (-1), 1) := dk_2 (dk_at dksX4_like_0 8 rfl rfl)
theorem dX4_like_9 : decode cX4_like 9 = .ok (.ireturn, 1) := dk_172 (dk_at dksX4_like_0 9 rfl rfl)
theorem dX4_like_10 : decode cX4_like 10 = .ok (.iconst (-1), 1) := dk_2 (dk_at dksX4_like_0 10 rfl rfl)
theorem dX4_like_11 : decode cX4_like 11 = .ok (.istore_n 2, 1) := dk_61 (dk_at dksX4_like_0 11 rfl rfl)
theorem dX4_like_12 : decode cX4_like 12 = .ok (.iconst 0, 1) := dk_3 (dk_at dksX4_like_0 12 rfl rfl)
theorem dX4_like_13 : decode cX4_like 13 = .ok (.istore_n 3, 1) := dk_62 (dk_at dksX4_like_0 13 rfl rfl)
theorem dX4_like_14 : decode cX4_like 14 = .ok (.iload_n 3, 1) := dk_29 (dk_at dksX4_like_0 14 rfl rfl)
theorem dX4_like_15 : decode cX4_like 15 = .ok (.bipush 8, 2) := dk_16 8 (dk_at dksX4_like_0 15 rfl rfl)
theorem dX4_like_17 : decode cX4_like 17 = .ok (.if_icmp .ge 43, 3) := dk_162 0 43 (dk_at dksX4_like_0 17 rfl rfl)
theorem dX4_like_20 : decode cX4_like 20 = .ok (.aload_n 0, 1) := dk_42 (dk_at dksX4_like_0 20 rfl rfl)
theorem dX4_like_21 : decode cX4_like 21 = .ok (.iload_n 3, 1) := dk_29 (dk_at dksX4_like_0 21 rfl rfl)
theorem dX4_like_22 : decode cX4_like 22 = .ok (.invokevirtual 411, 3) := dk_182 1 155 (dk_at dksX4_like_1 0 rfl rfl)
theorem dX4_like_25 : decode cX4_like 25 = .ok (.ifCond .eq 29, 3) := dk_153 0 29 (dk_at dksX4_like_1 3 rfl rfl)
theorem dX4_like_28 : decode cX4_like 28 = .ok (.iload_n 3, 1) := dk_29 (dk_at dksX4_like_1 6 rfl rfl)
theorem dX4_like_29 : decode cX4_like 29 = .ok (.iload_n 1, 1) := dk_27 (dk_at dksX4_like_1 7 rfl rfl)
theorem dX4_like_30 : decode cX4_like 30 = .ok (.if_icmp .eq 24, 3) := dk_159 0 24 (dk_at dksX4_like_1 8 rfl rfl)
theorem dX4_like_33 : decode cX4_like 33 = .ok (.iload_n 2, 1) := dk_28 (dk_at dksX4_like_1 11 rfl rfl)
theorem dX4_like_34 : decode cX4_like 34 = .ok (.ifCond .lt 18, 3) := dk_155 0 18 (dk_at dksX4_like_1 12 rfl rfl)
theorem dX4_like_37 : decode cX4_like 37 = .ok (.aload_n 0, 1) := dk_42 (dk_at dksX4_like_1 15 rfl rfl)
theorem dX4_like_38 : decode cX4_like 38 = .ok (.iload_n 1, 1) := dk_27 (dk_at dksX4_like_1 16 rfl rfl)
theorem dX4_like_39 : decode cX4_like 39 = .ok (.iload_n 3, 1) := dk_29 (dk_at dksX4_like_1 17 rfl rfl)
theorem dX4_like_40 : decode cX4_like 40 = .ok (.invokevirtual 415, 3) := dk_182 1 159 (dk_at dksX4_like_1 18 rfl rfl)
theorem dX4_like_43 : decode cX4_like 43 = .ok (.aload_n 0, 1) := dk_42 (dk_at dksX4_like_1 21 rfl rfl)
theorem dX4_like_44 : decode cX4_like 44 = .ok (.iload_n 1, 1) := dk_27 (dk_at dksX4_like_1 22 rfl rfl)
theorem dX4_like_45 : decode cX4_like 45 = .ok (.iload_n 2, 1) := dk_28 (dk_at dksX4_like_1 23 rfl rfl)
theorem dX4_like_46 : decode cX4_like 46 = .ok (.invokevirtual 415, 3) := dk_182 1 159 (dk_at dksX4_like_2 0 rfl rfl)
theorem dX4_like_49 : decode cX4_like 49 = .ok (.if_icmp .le 5, 3) := dk_164 0 5 (dk_at dksX4_like_2 3 rfl rfl)
theorem dX4_like_52 : decode cX4_like 52 = .ok (.iload_n 3, 1) := dk_29 (dk_at dksX4_like_2 6 rfl rfl)
theorem dX4_like_53 : decode cX4_like 53 = .ok (.istore_n 2, 1) := dk_61 (dk_at dksX4_like_2 7 rfl rfl)
theorem dX4_like_54 : decode cX4_like 54 = .ok (.iinc 3 1, 3) := dk_132 3 1 (dk_at dksX4_like_2 8 rfl rfl)
theorem dX4_like_57 : decode cX4_like 57 = .ok (.goto (-43), 3) := dk_167 255 213 (dk_at dksX4_like_2 11 rfl rfl)
theorem dX4_like_60 : decode cX4_like 60 = .ok (.iload_n 2, 1) := dk_28 (dk_at dksX4_like_2 14 rfl rfl)
theorem dX4_like_61 : decode cX4_like 61 = .ok (.ireturn, 1) := dk_172 (dk_at dksX4_like_2 15 rfl rfl)
abbrev cX4_odd : ByteArray := prog_22_method_75_code
def yX4_odd : MethodName := ⟨RX4, "odd", "()I"⟩
def dkwX4_odd_1 : List UInt8 := [182, 1, 162, 42, 27, 182, 1, 162, 162, 0, 5, 28, 60, 132, 2, 1, 167, 255, 220, 27, 172]
abbrev dktX4_odd_1 : List UInt8 := dkwX4_odd_1 ++ []
def dkwX4_odd_0 : List UInt8 := [2, 60, 3, 61, 28, 16, 8, 162, 0, 36, 42, 28, 182, 1, 155, 153, 0, 22, 27, 155, 0, 16, 42, 28]
abbrev dktX4_odd_0 : List UInt8 := dkwX4_odd_0 ++ dktX4_odd_1
theorem dksX4_odd_0 : cX4_odd.data.toList.drop 0 = dktX4_odd_0 := by decide +kernel
theorem dksX4_odd_1 : cX4_odd.data.toList.drop 24 = dktX4_odd_1 := dk_seg dksX4_odd_0 24 rfl rfl
theorem dX4_odd_0 : decode cX4_odd 0 = .ok (.iconst (-1), 1) := dk_2 (dk_at dksX4_odd_0 0 rfl rfl)
theorem dX4_odd_1 : decode cX4_odd 1 = .ok (.istore_n 1, 1) := dk_60 (dk_at dksX4_odd_0 1 rfl rfl)
theorem dX4_odd_2 : decode cX4_odd 2 = .ok (.iconst 0, 1) := dk_3 (dk_at dksX4_odd_0 2 rfl rfl)
theorem dX4_odd_3 : decode cX4_odd 3 = .ok (.istore_n 2, 1) := dk_61 (dk_at dksX4_odd_0 3 rfl rfl)
theorem dX4_odd_4 : decode cX4_odd 4 = .ok (.iload_n 2, 1) := dk_28 (dk_at dksX4_odd_0 4 rfl rfl)
theorem dX4_odd_5 : decode cX4_odd 5 = .ok (.bipush 8, 2) := dk_16 8 (dk_at dksX4_odd_0 5 rfl rfl)
theorem dX4_odd_7 : decode cX4_odd 7 = .ok (.if_icmp .ge 36, 3) := dk_162 0 36 (dk_at dksX4_odd_0 7 rfl rfl)
theorem dX4_odd_10 : decode cX4_odd 10 = .ok (.aload_n 0, 1) := dk_42 (dk_at dksX4_odd_0 10 rfl rfl)
theorem dX4_odd_11 : decode cX4_odd 11 = .ok (.iload_n 2, 1) := dk_28 (dk_at dksX4_odd_0 11 rfl rfl)
theorem dX4_odd_12 : decode cX4_odd 12 = .ok (.invokevirtual 411, 3) := dk_182 1 155 (dk_at dksX4_odd_0 12 rfl rfl)
theorem dX4_odd_15 : decode cX4_odd 15 = .ok (.ifCond .eq 22, 3) := dk_153 0 22 (dk_at dksX4_odd_0 15 rfl rfl)
theorem dX4_odd_18 : decode cX4_odd 18 = .ok (.iload_n 1, 1) := dk_27 (dk_at dksX4_odd_0 18 rfl rfl)
theorem dX4_odd_19 : decode cX4_odd 19 = .ok (.ifCond .lt 16, 3) := dk_155 0 16 (dk_at dksX4_odd_0 19 rfl rfl)
theorem dX4_odd_22 : decode cX4_odd 22 = .ok (.aload_n 0, 1) := dk_42 (dk_at dksX4_odd_0 22 rfl rfl)
theorem dX4_odd_23 : decode cX4_odd 23 = .ok (.iload_n 2, 1) := dk_28 (dk_at dksX4_odd_0 23 rfl rfl)
theorem dX4_odd_24 : decode cX4_odd 24 = .ok (.invokevirtual 418, 3) := dk_182 1 162 (dk_at dksX4_odd_1 0 rfl rfl)
theorem dX4_odd_27 : decode cX4_odd 27 = .ok (.aload_n 0, 1) := dk_42 (dk_at dksX4_odd_1 3 rfl rfl)
theorem dX4_odd_28 : decode cX4_odd 28 = .ok (.iload_n 1, 1) := dk_27 (dk_at dksX4_odd_1 4 rfl rfl)
theorem dX4_odd_29 : decode cX4_odd 29 = .ok (.invokevirtual 418, 3) := dk_182 1 162 (dk_at dksX4_odd_1 5 rfl rfl)
theorem dX4_odd_32 : decode cX4_odd 32 = .ok (.if_icmp .ge 5, 3) := dk_162 0 5 (dk_at dksX4_odd_1 8 rfl rfl)
theorem dX4_odd_35 : decode cX4_odd 35 = .ok (.iload_n 2, 1) := dk_28 (dk_at dksX4_odd_1 11 rfl rfl)
theorem dX4_odd_36 : decode cX4_odd 36 = .ok (.istore_n 1, 1) := dk_60 (dk_at dksX4_odd_1 12 rfl rfl)
theorem dX4_odd_37 : decode cX4_odd 37 = .ok (.iinc 2 1, 3) := dk_132 2 1 (dk_at dksX4_odd_1 13 rfl rfl)
theorem dX4_odd_40 : decode cX4_odd 40 = .ok (.goto (-36), 3) := dk_167 255 220 (dk_at dksX4_odd_1 16 rfl rfl)
theorem dX4_odd_43 : decode cX4_odd 43 = .ok (.iload_n 1, 1) := dk_27 (dk_at dksX4_odd_1 19 rfl rfl)
theorem dX4_odd_44 : decode cX4_odd 44 = .ok (.ireturn, 1) := dk_172 (dk_at dksX4_odd_1 20 rfl rfl)
abbrev cX4_sharesAll : ByteArray := prog_22_method_74_code
def yX4_sharesAll : MethodName := ⟨RX4, "sharesAll", "(I)I"⟩
def dkwX4_sharesAll_1 : List UInt8 := [42, 27, 29, 182, 1, 159, 167, 0, 4, 3, 96, 61, 132, 3, 1, 167, 255, 221, 28, 172]
abbrev dktX4_sharesAll_1 : List UInt8 := dkwX4_sharesAll_1 ++ []
def dkwX4_sharesAll_0 : List UInt8 := [3, 61, 3, 62, 29, 16, 8, 162, 0, 35, 28, 29, 27, 159, 0, 20, 42, 29, 182, 1, 155, 153, 0, 12]
abbrev dktX4_sharesAll_0 : List UInt8 := dkwX4_sharesAll_0 ++ dktX4_sharesAll_1
theorem dksX4_sharesAll_0 : cX4_sharesAll.data.toList.drop 0 = dktX4_sharesAll_0 := by decide +kernel
theorem dksX4_sharesAll_1 : cX4_sharesAll.data.toList.drop 24 = dktX4_sharesAll_1 := dk_seg dksX4_sharesAll_0 24 rfl rfl
theorem dX4_sharesAll_0 : decode cX4_sharesAll 0 = .ok (.iconst 0, 1) := dk_3 (dk_at dksX4_sharesAll_0 0 rfl rfl)
theorem dX4_sharesAll_1 : decode cX4_sharesAll 1 = .ok (.istore_n 2, 1) := dk_61 (dk_at dksX4_sharesAll_0 1 rfl rfl)
theorem dX4_sharesAll_2 : decode cX4_sharesAll 2 = .ok (.iconst 0, 1) := dk_3 (dk_at dksX4_sharesAll_0 2 rfl rfl)
theorem dX4_sharesAll_3 : decode cX4_sharesAll 3 = .ok (.istore_n 3, 1) := dk_62 (dk_at dksX4_sharesAll_0 3 rfl rfl)
theorem dX4_sharesAll_4 : decode cX4_sharesAll 4 = .ok (.iload_n 3, 1) := dk_29 (dk_at dksX4_sharesAll_0 4 rfl rfl)
theorem dX4_sharesAll_5 : decode cX4_sharesAll 5 = .ok (.bipush 8, 2) := dk_16 8 (dk_at dksX4_sharesAll_0 5 rfl rfl)
theorem dX4_sharesAll_7 : decode cX4_sharesAll 7 = .ok (.if_icmp .ge 35, 3) := dk_162 0 35 (dk_at dksX4_sharesAll_0 7 rfl rfl)
theorem dX4_sharesAll_10 : decode cX4_sharesAll 10 = .ok (.iload_n 2, 1) := dk_28 (dk_at dksX4_sharesAll_0 10 rfl rfl)
theorem dX4_sharesAll_11 : decode cX4_sharesAll 11 = .ok (.iload_n 3, 1) := dk_29 (dk_at dksX4_sharesAll_0 11 rfl rfl)
theorem dX4_sharesAll_12 : decode cX4_sharesAll 12 = .ok (.iload_n 1, 1) := dk_27 (dk_at dksX4_sharesAll_0 12 rfl rfl)
theorem dX4_sharesAll_13 : decode cX4_sharesAll 13 = .ok (.if_icmp .eq 20, 3) := dk_159 0 20 (dk_at dksX4_sharesAll_0 13 rfl rfl)
theorem dX4_sharesAll_16 : decode cX4_sharesAll 16 = .ok (.aload_n 0, 1) := dk_42 (dk_at dksX4_sharesAll_0 16 rfl rfl)
theorem dX4_sharesAll_17 : decode cX4_sharesAll 17 = .ok (.iload_n 3, 1) := dk_29 (dk_at dksX4_sharesAll_0 17 rfl rfl)
theorem dX4_sharesAll_18 : decode cX4_sharesAll 18 = .ok (.invokevirtual 411, 3) := dk_182 1 155 (dk_at dksX4_sharesAll_0 18 rfl rfl)
theorem dX4_sharesAll_21 : decode cX4_sharesAll 21 = .ok (.ifCond .eq 12, 3) := dk_153 0 12 (dk_at dksX4_sharesAll_0 21 rfl rfl)
theorem dX4_sharesAll_24 : decode cX4_sharesAll 24 = .ok (.aload_n 0, 1) := dk_42 (dk_at dksX4_sharesAll_1 0 rfl rfl)
theorem dX4_sharesAll_25 : decode cX4_sharesAll 25 = .ok (.iload_n 1, 1) := dk_27 (dk_at dksX4_sharesAll_1 1 rfl rfl)
theorem dX4_sharesAll_26 : decode cX4_sharesAll 26 = .ok (.iload_n 3, 1) := dk_29 (dk_at dksX4_sharesAll_1 2 rfl rfl)
theorem dX4_sharesAll_27 : decode cX4_sharesAll 27 = .ok (.invokevirtual 415, 3) := dk_182 1 159 (dk_at dksX4_sharesAll_1 3 rfl rfl)
theorem dX4_sharesAll_30 : decode cX4_sharesAll 30 = .ok (.goto 4, 3) := dk_167 0 4 (dk_at dksX4_sharesAll_1 6 rfl rfl)
theorem dX4_sharesAll_33 : decode cX4_sharesAll 33 = .ok (.iconst 0, 1) := dk_3 (dk_at dksX4_sharesAll_1 9 rfl rfl)
theorem dX4_sharesAll_34 : decode cX4_sharesAll 34 = .ok (.iadd, 1) := dk_96 (dk_at dksX4_sharesAll_1 10 rfl rfl)
theorem dX4_sharesAll_35 : decode cX4_sharesAll 35 = .ok (.istore_n 2, 1) := dk_61 (dk_at dksX4_sharesAll_1 11 rfl rfl)
theorem dX4_sharesAll_36 : decode cX4_sharesAll 36 = .ok (.iinc 3 1, 3) := dk_132 3 1 (dk_at dksX4_sharesAll_1 12 rfl rfl)
theorem dX4_sharesAll_39 : decode cX4_sharesAll 39 = .ok (.goto (-35), 3) := dk_167 255 221 (dk_at dksX4_sharesAll_1 15 rfl rfl)
theorem dX4_sharesAll_42 : decode cX4_sharesAll 42 = .ok (.iload_n 2, 1) := dk_28 (dk_at dksX4_sharesAll_1 18 rfl rfl)
theorem dX4_sharesAll_43 : decode cX4_sharesAll 43 = .ok (.ireturn, 1) := dk_172 (dk_at dksX4_sharesAll_1 19 rfl rfl)
abbrev cX4_bearers : ByteArray := prog_22_method_76_code
def yX4_bearers : MethodName := ⟨RX4, "bearers", "(I)I"⟩
def dkwX4_bearers_2 : List UInt8 := [61, 132, 3, 1, 167, 255, 219, 28, 172]
abbrev dktX4_bearers_2 : List UInt8 := dkwX4_bearers_2 ++ []
def dkwX4_bearers_1 : List UInt8 := [182, 1, 155, 153, 0, 19, 42, 180, 0, 85, 16, 16, 29, 96, 46, 27, 122, 4, 126, 167, 0, 4, 3, 96]
abbrev dktX4_bearers_1 : List UInt8 := dkwX4_bearers_1 ++ dktX4_bearers_2
def dkwX4_bearers_0 : List UInt8 := [27, 3, 8, 184, 1, 90, 154, 0, 5, 2, 172, 3, 61, 3, 62, 29, 16, 8, 162, 0, 37, 28, 42, 29]
abbrev dktX4_bearers_0 : List UInt8 := dkwX4_bearers_0 ++ dktX4_bearers_1
theorem dksX4_bearers_0 : cX4_bearers.data.toList.drop 0 = dktX4_bearers_0 := by decide +kernel
theorem dksX4_bearers_1 : cX4_bearers.data.toList.drop 24 = dktX4_bearers_1 := dk_seg dksX4_bearers_0 24 rfl rfl
theorem dksX4_bearers_2 : cX4_bearers.data.toList.drop 48 = dktX4_bearers_2 := dk_seg dksX4_bearers_1 24 rfl rfl
theorem dX4_bearers_0 : decode cX4_bearers 0 = .ok (.iload_n 1, 1) := dk_27 (dk_at dksX4_bearers_0 0 rfl rfl)
theorem dX4_bearers_1 : decode cX4_bearers 1 = .ok (.iconst 0, 1) := dk_3 (dk_at dksX4_bearers_0 1 rfl rfl)
theorem dX4_bearers_2 : decode cX4_bearers 2 = .ok (.iconst 5, 1) := dk_8 (dk_at dksX4_bearers_0 2 rfl rfl)
theorem dX4_bearers_3 : decode cX4_bearers 3 = .ok (.invokestatic 346, 3) := dk_184 1 90 (dk_at dksX4_bearers_0 3 rfl rfl)
theorem dX4_bearers_6 : decode cX4_bearers 6 = .ok (.ifCond .ne 5, 3) := dk_154 0 5 (dk_at dksX4_bearers_0 6 rfl rfl)
theorem dX4_bearers_9 : decode cX4_bearers 9 = .ok (.iconst (-1), 1) := dk_2 (dk_at dksX4_bearers_0 9 rfl rfl)
theorem dX4_bearers_10 : decode cX4_bearers 10 = .ok (.ireturn, 1) := dk_172 (dk_at dksX4_bearers_0 10 rfl rfl)
theorem dX4_bearers_11 : decode cX4_bearers 11 = .ok (.iconst 0, 1) := dk_3 (dk_at dksX4_bearers_0 11 rfl rfl)
theorem dX4_bearers_12 : decode cX4_bearers 12 = .ok (.istore_n 2, 1) := dk_61 (dk_at dksX4_bearers_0 12 rfl rfl)
theorem dX4_bearers_13 : decode cX4_bearers 13 = .ok (.iconst 0, 1) := dk_3 (dk_at dksX4_bearers_0 13 rfl rfl)
theorem dX4_bearers_14 : decode cX4_bearers 14 = .ok (.istore_n 3, 1) := dk_62 (dk_at dksX4_bearers_0 14 rfl rfl)
theorem dX4_bearers_15 : decode cX4_bearers 15 = .ok (.iload_n 3, 1) := dk_29 (dk_at dksX4_bearers_0 15 rfl rfl)
theorem dX4_bearers_16 : decode cX4_bearers 16 = .ok (.bipush 8, 2) := dk_16 8 (dk_at dksX4_bearers_0 16 rfl rfl)
theorem dX4_bearers_18 : decode cX4_bearers 18 = .ok (.if_icmp .ge 37, 3) := dk_162 0 37 (dk_at dksX4_bearers_0 18 rfl rfl)
theorem dX4_bearers_21 : decode cX4_bearers 21 = .ok (.iload_n 2, 1) := dk_28 (dk_at dksX4_bearers_0 21 rfl rfl)
theorem dX4_bearers_22 : decode cX4_bearers 22 = .ok (.aload_n 0, 1) := dk_42 (dk_at dksX4_bearers_0 22 rfl rfl)
theorem dX4_bearers_23 : decode cX4_bearers 23 = .ok (.iload_n 3, 1) := dk_29 (dk_at dksX4_bearers_0 23 rfl rfl)
theorem dX4_bearers_24 : decode cX4_bearers 24 = .ok (.invokevirtual 411, 3) := dk_182 1 155 (dk_at dksX4_bearers_1 0 rfl rfl)
theorem dX4_bearers_27 : decode cX4_bearers 27 = .ok (.ifCond .eq 19, 3) := dk_153 0 19 (dk_at dksX4_bearers_1 3 rfl rfl)
theorem dX4_bearers_30 : decode cX4_bearers 30 = .ok (.aload_n 0, 1) := dk_42 (dk_at dksX4_bearers_1 6 rfl rfl)
theorem dX4_bearers_31 : decode cX4_bearers 31 = .ok (.getfield 85, 3) := dk_180 0 85 (dk_at dksX4_bearers_1 7 rfl rfl)
theorem dX4_bearers_34 : decode cX4_bearers 34 = .ok (.bipush 16, 2) := dk_16 16 (dk_at dksX4_bearers_1 10 rfl rfl)
theorem dX4_bearers_36 : decode cX4_bearers 36 = .ok (.iload_n 3, 1) := dk_29 (dk_at dksX4_bearers_1 12 rfl rfl)
theorem dX4_bearers_37 : decode cX4_bearers 37 = .ok (.iadd, 1) := dk_96 (dk_at dksX4_bearers_1 13 rfl rfl)
theorem dX4_bearers_38 : decode cX4_bearers 38 = .ok (.iaload, 1) := dk_46 (dk_at dksX4_bearers_1 14 rfl rfl)
theorem dX4_bearers_39 : decode cX4_bearers 39 = .ok (.iload_n 1, 1) := dk_27 (dk_at dksX4_bearers_1 15 rfl rfl)
theorem dX4_bearers_40 : decode cX4_bearers 40 = .ok (.ishr, 1) := dk_122 (dk_at dksX4_bearers_1 16 rfl rfl)
theorem dX4_bearers_41 : decode cX4_bearers 41 = .ok (.iconst 1, 1) := dk_4 (dk_at dksX4_bearers_1 17 rfl rfl)
theorem dX4_bearers_42 : decode cX4_bearers 42 = .ok (.iand, 1) := dk_126 (dk_at dksX4_bearers_1 18 rfl rfl)
theorem dX4_bearers_43 : decode cX4_bearers 43 = .ok (.goto 4, 3) := dk_167 0 4 (dk_at dksX4_bearers_1 19 rfl rfl)
theorem dX4_bearers_46 : decode cX4_bearers 46 = .ok (.iconst 0, 1) := dk_3 (dk_at dksX4_bearers_1 22 rfl rfl)
theorem dX4_bearers_47 : decode cX4_bearers 47 = .ok (.iadd, 1) := dk_96 (dk_at dksX4_bearers_1 23 rfl rfl)
theorem dX4_bearers_48 : decode cX4_bearers 48 = .ok (.istore_n 2, 1) := dk_61 (dk_at dksX4_bearers_2 0 rfl rfl)
theorem dX4_bearers_49 : decode cX4_bearers 49 = .ok (.iinc 3 1, 3) := dk_132 3 1 (dk_at dksX4_bearers_2 1 rfl rfl)
theorem dX4_bearers_52 : decode cX4_bearers 52 = .ok (.goto (-37), 3) := dk_167 255 219 (dk_at dksX4_bearers_2 4 rfl rfl)
theorem dX4_bearers_55 : decode cX4_bearers 55 = .ok (.iload_n 2, 1) := dk_28 (dk_at dksX4_bearers_2 7 rfl rfl)
theorem dX4_bearers_56 : decode cX4_bearers 56 = .ok (.ireturn, 1) := dk_172 (dk_at dksX4_bearers_2 8 rfl rfl)
abbrev cX4_roomiest : ByteArray := prog_22_method_77_code
def yX4_roomiest : MethodName := ⟨RX4, "roomiest", "()I"⟩
def dkwX4_roomiest_1 : List UInt8 := [182, 1, 72, 164, 0, 5, 28, 60, 132, 2, 1, 167, 255, 226, 27, 172]
abbrev dktX4_roomiest_1 : List UInt8 := dkwX4_roomiest_1 ++ []
def dkwX4_roomiest_0 : List UInt8 := [2, 60, 3, 61, 28, 42, 182, 1, 87, 162, 0, 28, 27, 155, 0, 16, 42, 28, 182, 1, 72, 42, 27]
abbrev dktX4_roomiest_0 : List UInt8 := dkwX4_roomiest_0 ++ dktX4_roomiest_1
theorem dksX4_roomiest_0 : cX4_roomiest.data.toList.drop 0 = dktX4_roomiest_0 := by decide +kernel
theorem dksX4_roomiest_1 : cX4_roomiest.data.toList.drop 23 = dktX4_roomiest_1 := dk_seg dksX4_roomiest_0 23 rfl rfl
theorem dX4_roomiest_0 : decode cX4_roomiest 0 = .ok (.iconst (-1), 1) := dk_2 (dk_at dksX4_roomiest_0 0 rfl rfl)
theorem dX4_roomiest_1 : decode cX4_roomiest 1 = .ok (.istore_n 1, 1) := dk_60 (dk_at dksX4_roomiest_0 1 rfl rfl)
theorem dX4_roomiest_2 : decode cX4_roomiest 2 = .ok (.iconst 0, 1) := dk_3 (dk_at dksX4_roomiest_0 2 rfl rfl)
theorem dX4_roomiest_3 : decode cX4_roomiest 3 = .ok (.istore_n 2, 1) := dk_61 (dk_at dksX4_roomiest_0 3 rfl rfl)
theorem dX4_roomiest_4 : decode cX4_roomiest 4 = .ok (.iload_n 2, 1) := dk_28 (dk_at dksX4_roomiest_0 4 rfl rfl)
theorem dX4_roomiest_5 : decode cX4_roomiest 5 = .ok (.aload_n 0, 1) := dk_42 (dk_at dksX4_roomiest_0 5 rfl rfl)
theorem dX4_roomiest_6 : decode cX4_roomiest 6 = .ok (.invokevirtual 343, 3) := dk_182 1 87 (dk_at dksX4_roomiest_0 6 rfl rfl)
theorem dX4_roomiest_9 : decode cX4_roomiest 9 = .ok (.if_icmp .ge 28, 3) := dk_162 0 28 (dk_at dksX4_roomiest_0 9 rfl rfl)
theorem dX4_roomiest_12 : decode cX4_roomiest 12 = .ok (.iload_n 1, 1) := dk_27 (dk_at dksX4_roomiest_0 12 rfl rfl)
theorem dX4_roomiest_13 : decode cX4_roomiest 13 = .ok (.ifCond .lt 16, 3) := dk_155 0 16 (dk_at dksX4_roomiest_0 13 rfl rfl)
theorem dX4_roomiest_16 : decode cX4_roomiest 16 = .ok (.aload_n 0, 1) := dk_42 (dk_at dksX4_roomiest_0 16 rfl rfl)
theorem dX4_roomiest_17 : decode cX4_roomiest 17 = .ok (.iload_n 2, 1) := dk_28 (dk_at dksX4_roomiest_0 17 rfl rfl)
theorem dX4_roomiest_18 : decode cX4_roomiest 18 = .ok (.invokevirtual 328, 3) := dk_182 1 72 (dk_at dksX4_roomiest_0 18 rfl rfl)
theorem dX4_roomiest_21 : decode cX4_roomiest 21 = .ok (.aload_n 0, 1) := dk_42 (dk_at dksX4_roomiest_0 21 rfl rfl)
theorem dX4_roomiest_22 : decode cX4_roomiest 22 = .ok (.iload_n 1, 1) := dk_27 (dk_at dksX4_roomiest_0 22 rfl rfl)
theorem dX4_roomiest_23 : decode cX4_roomiest 23 = .ok (.invokevirtual 328, 3) := dk_182 1 72 (dk_at dksX4_roomiest_1 0 rfl rfl)
theorem dX4_roomiest_26 : decode cX4_roomiest 26 = .ok (.if_icmp .le 5, 3) := dk_164 0 5 (dk_at dksX4_roomiest_1 3 rfl rfl)
theorem dX4_roomiest_29 : decode cX4_roomiest 29 = .ok (.iload_n 2, 1) := dk_28 (dk_at dksX4_roomiest_1 6 rfl rfl)
theorem dX4_roomiest_30 : decode cX4_roomiest 30 = .ok (.istore_n 1, 1) := dk_60 (dk_at dksX4_roomiest_1 7 rfl rfl)
theorem dX4_roomiest_31 : decode cX4_roomiest 31 = .ok (.iinc 2 1, 3) := dk_132 2 1 (dk_at dksX4_roomiest_1 8 rfl rfl)
theorem dX4_roomiest_34 : decode cX4_roomiest 34 = .ok (.goto (-30), 3) := dk_167 255 226 (dk_at dksX4_roomiest_1 11 rfl rfl)
theorem dX4_roomiest_37 : decode cX4_roomiest 37 = .ok (.iload_n 1, 1) := dk_27 (dk_at dksX4_roomiest_1 14 rfl rfl)
theorem dX4_roomiest_38 : decode cX4_roomiest 38 = .ok (.ireturn, 1) := dk_172 (dk_at dksX4_roomiest_1 15 rfl rfl)
abbrev cX4_year : ByteArray := prog_22_method_80_code
def yX4_year : MethodName := ⟨RX4, "year", "()I"⟩
def dkwX4_year_0 : List UInt8 := [42, 180, 0, 85, 16, 57, 46, 17, 3, 231, 160, 0, 5, 2, 172, 42, 182, 1, 165, 42, 182, 1, 149, 172]
abbrev dktX4_year_0 : List UInt8 := dkwX4_year_0 ++ []
theorem dksX4_year_0 : cX4_year.data.toList.drop 0 = dktX4_year_0 := by decide +kernel
theorem dX4_year_0 : decode cX4_year 0 = .ok (.aload_n 0, 1) := dk_42 (dk_at dksX4_year_0 0 rfl rfl)
theorem dX4_year_1 : decode cX4_year 1 = .ok (.getfield 85, 3) := dk_180 0 85 (dk_at dksX4_year_0 1 rfl rfl)
theorem dX4_year_4 : decode cX4_year 4 = .ok (.bipush 57, 2) := dk_16 57 (dk_at dksX4_year_0 4 rfl rfl)
theorem dX4_year_6 : decode cX4_year 6 = .ok (.iaload, 1) := dk_46 (dk_at dksX4_year_0 6 rfl rfl)
theorem dX4_year_7 : decode cX4_year 7 = .ok (.sipush 999, 3) := dk_17 3 231 (dk_at dksX4_year_0 7 rfl rfl)
theorem dX4_year_10 : decode cX4_year 10 = .ok (.if_icmp .ne 5, 3) := dk_160 0 5 (dk_at dksX4_year_0 10 rfl rfl)
theorem dX4_year_13 : decode cX4_year 13 = .ok (.iconst (-1), 1) := dk_2 (dk_at dksX4_year_0 13 rfl rfl)
theorem dX4_year_14 : decode cX4_year 14 = .ok (.ireturn, 1) := dk_172 (dk_at dksX4_year_0 14 rfl rfl)
theorem dX4_year_15 : decode cX4_year 15 = .ok (.aload_n 0, 1) := dk_42 (dk_at dksX4_year_0 15 rfl rfl)
theorem dX4_year_16 : decode cX4_year 16 = .ok (.invokevirtual 421, 3) := dk_182 1 165 (dk_at dksX4_year_0 16 rfl rfl)
theorem dX4_year_19 : decode cX4_year 19 = .ok (.aload_n 0, 1) := dk_42 (dk_at dksX4_year_0 19 rfl rfl)
theorem dX4_year_20 : decode cX4_year 20 = .ok (.invokevirtual 405, 3) := dk_182 1 149 (dk_at dksX4_year_0 20 rfl rfl)
theorem dX4_year_23 : decode cX4_year 23 = .ok (.ireturn, 1) := dk_172 (dk_at dksX4_year_0 23 rfl rfl)
abbrev cX4_keepAct : ByteArray := prog_22_method_78_code
def yX4_keepAct : MethodName := ⟨RX4, "keepAct", "()V"⟩
def dkwX4_keepAct_4 : List UInt8 := [3, 181, 1, 110, 177]
abbrev dktX4_keepAct_4 : List UInt8 := dkwX4_keepAct_4 ++ []
def dkwX4_keepAct_3 : List UInt8 := [42, 180, 0, 85, 27, 46, 79, 132, 1, 1, 167, 255, 227, 42, 89, 180, 1, 107, 4, 96, 181, 1, 107, 42]
abbrev dktX4_keepAct_3 : List UInt8 := dkwX4_keepAct_3 ++ dktX4_keepAct_4
def dkwX4_keepAct_2 : List UInt8 := [181, 1, 107, 3, 60, 27, 16, 59, 162, 0, 29, 42, 180, 0, 94, 16, 59, 42, 180, 1, 107, 104, 27, 96]
abbrev dktX4_keepAct_2 : List UInt8 := dkwX4_keepAct_2 ++ dktX4_keepAct_3
def dkwX4_keepAct_1 : List UInt8 := [180, 0, 94, 27, 16, 59, 96, 46, 79, 132, 1, 1, 167, 255, 231, 42, 89, 180, 1, 107, 4, 100]
abbrev dktX4_keepAct_1 : List UInt8 := dkwX4_keepAct_1 ++ dktX4_keepAct_2
def dkwX4_keepAct_0 : List UInt8 := [42, 180, 1, 107, 16, 40, 160, 0, 43, 3, 60, 27, 17, 9, 56, 162, 0, 24, 42, 180, 0, 94, 27, 42]
abbrev dktX4_keepAct_0 : List UInt8 := dkwX4_keepAct_0 ++ dktX4_keepAct_1
theorem dksX4_keepAct_0 : cX4_keepAct.data.toList.drop 0 = dktX4_keepAct_0 := by decide +kernel
theorem dksX4_keepAct_1 : cX4_keepAct.data.toList.drop 24 = dktX4_keepAct_1 := dk_seg dksX4_keepAct_0 24 rfl rfl
theorem dksX4_keepAct_2 : cX4_keepAct.data.toList.drop 46 = dktX4_keepAct_2 := dk_seg dksX4_keepAct_1 22 rfl rfl
theorem dksX4_keepAct_3 : cX4_keepAct.data.toList.drop 70 = dktX4_keepAct_3 := dk_seg dksX4_keepAct_2 24 rfl rfl
theorem dksX4_keepAct_4 : cX4_keepAct.data.toList.drop 94 = dktX4_keepAct_4 := dk_seg dksX4_keepAct_3 24 rfl rfl
theorem dX4_keepAct_0 : decode cX4_keepAct 0 = .ok (.aload_n 0, 1) := dk_42 (dk_at dksX4_keepAct_0 0 rfl rfl)
theorem dX4_keepAct_1 : decode cX4_keepAct 1 = .ok (.getfield 363, 3) := dk_180 1 107 (dk_at dksX4_keepAct_0 1 rfl rfl)
theorem dX4_keepAct_4 : decode cX4_keepAct 4 = .ok (.bipush 40, 2) := dk_16 40 (dk_at dksX4_keepAct_0 4 rfl rfl)
theorem dX4_keepAct_6 : decode cX4_keepAct 6 = .ok (.if_icmp .ne 43, 3) := dk_160 0 43 (dk_at dksX4_keepAct_0 6 rfl rfl)
theorem dX4_keepAct_9 : decode cX4_keepAct 9 = .ok (.iconst 0, 1) := dk_3 (dk_at dksX4_keepAct_0 9 rfl rfl)
theorem dX4_keepAct_10 : decode cX4_keepAct 10 = .ok (.istore_n 1, 1) := dk_60 (dk_at dksX4_keepAct_0 10 rfl rfl)
theorem dX4_keepAct_11 : decode cX4_keepAct 11 = .ok (.iload_n 1, 1) := dk_27 (dk_at dksX4_keepAct_0 11 rfl rfl)
theorem dX4_keepAct_12 : decode cX4_keepAct 12 = .ok (.sipush 2360, 3) := dk_17 9 56 (dk_at dksX4_keepAct_0 12 rfl rfl)
theorem dX4_keepAct_15 : decode cX4_keepAct 15 = .ok (.if_icmp .ge 24, 3) := dk_162 0 24 (dk_at dksX4_keepAct_0 15 rfl rfl)
theorem dX4_keepAct_18 : decode cX4_keepAct 18 = .ok (.aload_n 0, 1) := dk_42 (dk_at dksX4_keepAct_0 18 rfl rfl)
theorem dX4_keepAct_19 : decode cX4_keepAct 19 = .ok (.getfield 94, 3) := dk_180 0 94 (dk_at dksX4_keepAct_0 19 rfl rfl)
theorem dX4_keepAct_22 : decode cX4_keepAct 22 = .ok (.iload_n 1, 1) := dk_27 (dk_at dksX4_keepAct_0 22 rfl rfl)
theorem dX4_keepAct_23 : decode cX4_keepAct 23 = .ok (.aload_n 0, 1) := dk_42 (dk_at dksX4_keepAct_0 23 rfl rfl)
theorem dX4_keepAct_24 : decode cX4_keepAct 24 = .ok (.getfield 94, 3) := dk_180 0 94 (dk_at dksX4_keepAct_1 0 rfl rfl)
theorem dX4_keepAct_27 : decode cX4_keepAct 27 = .ok (.iload_n 1, 1) := dk_27 (dk_at dksX4_keepAct_1 3 rfl rfl)
theorem dX4_keepAct_28 : decode cX4_keepAct 28 = .ok (.bipush 59, 2) := dk_16 59 (dk_at dksX4_keepAct_1 4 rfl rfl)
theorem dX4_keepAct_30 : decode cX4_keepAct 30 = .ok (.iadd, 1) := dk_96 (dk_at dksX4_keepAct_1 6 rfl rfl)
theorem dX4_keepAct_31 : decode cX4_keepAct 31 = .ok (.iaload, 1) := dk_46 (dk_at dksX4_keepAct_1 7 rfl rfl)
theorem dX4_keepAct_32 : decode cX4_keepAct 32 = .ok (.iastore, 1) := dk_79 (dk_at dksX4_keepAct_1 8 rfl rfl)
theorem dX4_keepAct_33 : decode cX4_keepAct 33 = .ok (.iinc 1 1, 3) := dk_132 1 1 (dk_at dksX4_keepAct_1 9 rfl rfl)
theorem dX4_keepAct_36 : decode cX4_keepAct 36 = .ok (.goto (-25), 3) := dk_167 255 231 (dk_at dksX4_keepAct_1 12 rfl rfl)
theorem dX4_keepAct_39 : decode cX4_keepAct 39 = .ok (.aload_n 0, 1) := dk_42 (dk_at dksX4_keepAct_1 15 rfl rfl)
theorem dX4_keepAct_40 : decode cX4_keepAct 40 = .ok (.dup, 1) := dk_89 (dk_at dksX4_keepAct_1 16 rfl rfl)
theorem dX4_keepAct_41 : decode cX4_keepAct 41 = .ok (.getfield 363, 3) := dk_180 1 107 (dk_at dksX4_keepAct_1 17 rfl rfl)
theorem dX4_keepAct_44 : decode cX4_keepAct 44 = .ok (.iconst 1, 1) := dk_4 (dk_at dksX4_keepAct_1 20 rfl rfl)
theorem dX4_keepAct_45 : decode cX4_keepAct 45 = .ok (.isub, 1) := dk_100 (dk_at dksX4_keepAct_1 21 rfl rfl)
theorem dX4_keepAct_46 : decode cX4_keepAct 46 = .ok (.putfield 363, 3) := dk_181 1 107 (dk_at dksX4_keepAct_2 0 rfl rfl)
theorem dX4_keepAct_49 : decode cX4_keepAct 49 = .ok (.iconst 0, 1) := dk_3 (dk_at dksX4_keepAct_2 3 rfl rfl)
theorem dX4_keepAct_50 : decode cX4_keepAct 50 = .ok (.istore_n 1, 1) := dk_60 (dk_at dksX4_keepAct_2 4 rfl rfl)
theorem dX4_keepAct_51 : decode cX4_keepAct 51 = .ok (.iload_n 1, 1) := dk_27 (dk_at dksX4_keepAct_2 5 rfl rfl)
theorem dX4_keepAct_52 : decode cX4_keepAct 52 = .ok (.bipush 59, 2) := dk_16 59 (dk_at dksX4_keepAct_2 6 rfl rfl)
theorem dX4_keepAct_54 : decode cX4_keepAct 54 = .ok (.if_icmp .ge 29, 3) := dk_162 0 29 (dk_at dksX4_keepAct_2 8 rfl rfl)
theorem dX4_keepAct_57 : decode cX4_keepAct 57 = .ok (.aload_n 0, 1) := dk_42 (dk_at dksX4_keepAct_2 11 rfl rfl)
theorem dX4_keepAct_58 : decode cX4_keepAct 58 = .ok (.getfield 94, 3) := dk_180 0 94 (dk_at dksX4_keepAct_2 12 rfl rfl)
theorem dX4_keepAct_61 : decode cX4_keepAct 61 = .ok (.bipush 59, 2) := dk_16 59 (dk_at dksX4_keepAct_2 15 rfl rfl)
theorem dX4_keepAct_63 : decode cX4_keepAct 63 = .ok (.aload_n 0, 1) := dk_42 (dk_at dksX4_keepAct_2 17 rfl rfl)
theorem dX4_keepAct_64 : decode cX4_keepAct 64 = .ok (.getfield 363, 3) := dk_180 1 107 (dk_at dksX4_keepAct_2 18 rfl rfl)
theorem dX4_keepAct_67 : decode cX4_keepAct 67 = .ok (.imul, 1) := dk_104 (dk_at dksX4_keepAct_2 21 rfl rfl)
theorem dX4_keepAct_68 : decode cX4_keepAct 68 = .ok (.iload_n 1, 1) := dk_27 (dk_at dksX4_keepAct_2 22 rfl rfl)
theorem dX4_keepAct_69 : decode cX4_keepAct 69 = .ok (.iadd, 1) := dk_96 (dk_at dksX4_keepAct_2 23 rfl rfl)
theorem dX4_keepAct_70 : decode cX4_keepAct 70 = .ok (.aload_n 0, 1) := dk_42 (dk_at dksX4_keepAct_3 0 rfl rfl)
theorem dX4_keepAct_71 : decode cX4_keepAct 71 = .ok (.getfield 85, 3) := dk_180 0 85 (dk_at dksX4_keepAct_3 1 rfl rfl)
theorem dX4_keepAct_74 : decode cX4_keepAct 74 = .ok (.iload_n 1, 1) := dk_27 (dk_at dksX4_keepAct_3 4 rfl rfl)
theorem dX4_keepAct_75 : decode cX4_keepAct 75 = .ok (.iaload, 1) := dk_46 (dk_at dksX4_keepAct_3 5 rfl rfl)
theorem dX4_keepAct_76 : decode cX4_keepAct 76 = .ok (.iastore, 1) := dk_79 (dk_at dksX4_keepAct_3 6 rfl rfl)
theorem dX4_keepAct_77 : decode cX4_keepAct 77 = .ok (.iinc 1 1, 3) := dk_132 1 1 (dk_at dksX4_keepAct_3 7 rfl rfl)
theorem dX4_keepAct_80 : decode cX4_keepAct 80 = .ok (.goto (-29), 3) := dk_167 255 227 (dk_at dksX4_keepAct_3 10 rfl rfl)
theorem dX4_keepAct_83 : decode cX4_keepAct 83 = .ok (.aload_n 0, 1) := dk_42 (dk_at dksX4_keepAct_3 13 rfl rfl)
theorem dX4_keepAct_84 : decode cX4_keepAct 84 = .ok (.dup, 1) := dk_89 (dk_at dksX4_keepAct_3 14 rfl rfl)
theorem dX4_keepAct_85 : decode cX4_keepAct 85 = .ok (.getfield 363, 3) := dk_180 1 107 (dk_at dksX4_keepAct_3 15 rfl rfl)
theorem dX4_keepAct_88 : decode cX4_keepAct 88 = .ok (.iconst 1, 1) := dk_4 (dk_at dksX4_keepAct_3 18 rfl rfl)
theorem dX4_keepAct_89 : decode cX4_keepAct 89 = .ok (.iadd, 1) := dk_96 (dk_at dksX4_keepAct_3 19 rfl rfl)
theorem dX4_keepAct_90 : decode cX4_keepAct 90 = .ok (.putfield 363, 3) := dk_181 1 107 (dk_at dksX4_keepAct_3 20 rfl rfl)
theorem dX4_keepAct_93 : decode cX4_keepAct 93 = .ok (.aload_n 0, 1) := dk_42 (dk_at dksX4_keepAct_3 23 rfl rfl)
theorem dX4_keepAct_94 : decode cX4_keepAct 94 = .ok (.iconst 0, 1) := dk_3 (dk_at dksX4_keepAct_4 0 rfl rfl)
theorem dX4_keepAct_95 : decode cX4_keepAct 95 = .ok (.putfield 366, 3) := dk_181 1 110 (dk_at dksX4_keepAct_4 1 rfl rfl)
theorem dX4_keepAct_98 : decode cX4_keepAct 98 = .ok (.return_, 1) := dk_177 (dk_at dksX4_keepAct_4 4 rfl rfl)
abbrev cX4_goYear : ByteArray := prog_22_method_64_code
def yX4_goYear : MethodName := ⟨RX4, "goYear", "()I"⟩
def dkwX4_goYear_7 : List UInt8 := [27, 172]
abbrev dktX4_goYear_7 : List UInt8 := dkwX4_goYear_7 ++ []
def dkwX4_goYear_6 : List UInt8 := [128, 60, 42, 28, 182, 1, 146, 132, 2, 1, 167, 255, 220, 42, 180, 0, 85, 16, 57, 92, 46, 4, 96, 79]
abbrev dktX4_goYear_6 : List UInt8 := dkwX4_goYear_6 ++ dktX4_goYear_7
def dkwX4_goYear_5 : List UInt8 := [182, 1, 87, 162, 0, 34, 42, 28, 182, 1, 143, 154, 0, 6, 167, 0, 17, 27, 4, 42, 182, 1, 128, 120]
abbrev dktX4_goYear_5 : List UInt8 := dkwX4_goYear_5 ++ dktX4_goYear_6
def dkwX4_goYear_4 : List UInt8 := [180, 0, 85, 3, 27, 96, 92, 46, 4, 96, 79, 132, 1, 1, 167, 255, 180, 3, 60, 3, 61, 28, 42]
abbrev dktX4_goYear_4 : List UInt8 := dkwX4_goYear_4 ++ dktX4_goYear_5
def dkwX4_goYear_3 : List UInt8 := [3, 61, 28, 153, 0, 31, 42, 42, 180, 0, 85, 16, 8, 27, 96, 46, 182, 1, 72, 158, 0, 15, 42]
abbrev dktX4_goYear_3 : List UInt8 := dkwX4_goYear_3 ++ dktX4_goYear_4
def dkwX4_goYear_2 : List UInt8 := [16, 19, 184, 1, 90, 153, 0, 19, 42, 180, 0, 85, 16, 32, 27, 96, 46, 154, 0, 7, 4, 167, 0, 4]
abbrev dktX4_goYear_2 : List UInt8 := dkwX4_goYear_2 ++ dktX4_goYear_3
def dkwX4_goYear_1 : List UInt8 := [132, 1, 1, 167, 255, 231, 3, 60, 27, 16, 8, 162, 0, 76, 42, 180, 0, 85, 3, 27, 96, 46, 4]
abbrev dktX4_goYear_1 : List UInt8 := dkwX4_goYear_1 ++ dktX4_goYear_2
def dkwX4_goYear_0 : List UInt8 := [3, 60, 27, 16, 8, 162, 0, 25, 42, 180, 0, 85, 3, 27, 96, 46, 158, 0, 8, 42, 27, 182, 1, 140]
abbrev dktX4_goYear_0 : List UInt8 := dkwX4_goYear_0 ++ dktX4_goYear_1
theorem dksX4_goYear_0 : cX4_goYear.data.toList.drop 0 = dktX4_goYear_0 := by decide +kernel
theorem dksX4_goYear_1 : cX4_goYear.data.toList.drop 24 = dktX4_goYear_1 := dk_seg dksX4_goYear_0 24 rfl rfl
theorem dksX4_goYear_2 : cX4_goYear.data.toList.drop 47 = dktX4_goYear_2 := dk_seg dksX4_goYear_1 23 rfl rfl
theorem dksX4_goYear_3 : cX4_goYear.data.toList.drop 71 = dktX4_goYear_3 := dk_seg dksX4_goYear_2 24 rfl rfl
theorem dksX4_goYear_4 : cX4_goYear.data.toList.drop 94 = dktX4_goYear_4 := dk_seg dksX4_goYear_3 23 rfl rfl
theorem dksX4_goYear_5 : cX4_goYear.data.toList.drop 117 = dktX4_goYear_5 := dk_seg dksX4_goYear_4 23 rfl rfl
theorem dksX4_goYear_6 : cX4_goYear.data.toList.drop 141 = dktX4_goYear_6 := dk_seg dksX4_goYear_5 24 rfl rfl
theorem dksX4_goYear_7 : cX4_goYear.data.toList.drop 165 = dktX4_goYear_7 := dk_seg dksX4_goYear_6 24 rfl rfl
theorem dX4_goYear_0 : decode cX4_goYear 0 = .ok (.iconst 0, 1) := dk_3 (dk_at dksX4_goYear_0 0 rfl rfl)
theorem dX4_goYear_1 : decode cX4_goYear 1 = .ok (.istore_n 1, 1) := dk_60 (dk_at dksX4_goYear_0 1 rfl rfl)
theorem dX4_goYear_2 : decode cX4_goYear 2 = .ok (.iload_n 1, 1) := dk_27 (dk_at dksX4_goYear_0 2 rfl rfl)
theorem dX4_goYear_3 : decode cX4_goYear 3 = .ok (.bipush 8, 2) := dk_16 8 (dk_at dksX4_goYear_0 3 rfl rfl)
theorem dX4_goYear_5 : decode cX4_goYear 5 = .ok (.if_icmp .ge 25, 3) := dk_162 0 25 (dk_at dksX4_goYear_0 5 rfl rfl)
theorem dX4_goYear_8 : decode cX4_goYear 8 = .ok (.aload_n 0, 1) := dk_42 (dk_at dksX4_goYear_0 8 rfl rfl)
theorem dX4_goYear_9 : decode cX4_goYear 9 = .ok (.getfield 85, 3) := dk_180 0 85 (dk_at dksX4_goYear_0 9 rfl rfl)
theorem dX4_goYear_12 : decode cX4_goYear 12 = .ok (.iconst 0, 1) := dk_3 (dk_at dksX4_goYear_0 12 rfl rfl)
theorem dX4_goYear_13 : decode cX4_goYear 13 = .ok (.iload_n 1, 1) := dk_27 (dk_at dksX4_goYear_0 13 rfl rfl)
theorem dX4_goYear_14 : decode cX4_goYear 14 = .ok (.iadd, 1) := dk_96 (dk_at dksX4_goYear_0 14 rfl rfl)
theorem dX4_goYear_15 : decode cX4_goYear 15 = .ok (.iaload, 1) := dk_46 (dk_at dksX4_goYear_0 15 rfl rfl)
theorem dX4_goYear_16 : decode cX4_goYear 16 = .ok (.ifCond .le 8, 3) := dk_158 0 8 (dk_at dksX4_goYear_0 16 rfl rfl)
theorem dX4_goYear_19 : decode cX4_goYear 19 = .ok (.aload_n 0, 1) := dk_42 (dk_at dksX4_goYear_0 19 rfl rfl)
theorem dX4_goYear_20 : decode cX4_goYear 20 = .ok (.iload_n 1, 1) := dk_27 (dk_at dksX4_goYear_0 20 rfl rfl)
theorem dX4_goYear_21 : decode cX4_goYear 21 = .ok (.invokevirtual 396, 3) := dk_182 1 140 (dk_at dksX4_goYear_0 21 rfl rfl)
theorem dX4_goYear_24 : decode cX4_goYear 24 = .ok (.iinc 1 1, 3) := dk_132 1 1 (dk_at dksX4_goYear_1 0 rfl rfl)
theorem dX4_goYear_27 : decode cX4_goYear 27 = .ok (.goto (-25), 3) := dk_167 255 231 (dk_at dksX4_goYear_1 3 rfl rfl)
theorem dX4_goYear_30 : decode cX4_goYear 30 = .ok (.iconst 0, 1) := dk_3 (dk_at dksX4_goYear_1 6 rfl rfl)
theorem dX4_goYear_31 : decode cX4_goYear 31 = .ok (.istore_n 1, 1) := dk_60 (dk_at dksX4_goYear_1 7 rfl rfl)
theorem dX4_goYear_32 : decode cX4_goYear 32 = .ok (.iload_n 1, 1) := dk_27 (dk_at dksX4_goYear_1 8 rfl rfl)
theorem dX4_goYear_33 : decode cX4_goYear 33 = .ok (.bipush 8, 2) := dk_16 8 (dk_at dksX4_goYear_1 9 rfl rfl)
theorem dX4_goYear_35 : decode cX4_goYear 35 = .ok (.if_icmp .ge 76, 3) := dk_162 0 76 (dk_at dksX4_goYear_1 11 rfl rfl)
theorem dX4_goYear_38 : decode cX4_goYear 38 = .ok (.aload_n 0, 1) := dk_42 (dk_at dksX4_goYear_1 14 rfl rfl)
theorem dX4_goYear_39 : decode cX4_goYear 39 = .ok (.getfield 85, 3) := dk_180 0 85 (dk_at dksX4_goYear_1 15 rfl rfl)
theorem dX4_goYear_42 : decode cX4_goYear 42 = .ok (.iconst 0, 1) := dk_3 (dk_at dksX4_goYear_1 18 rfl rfl)
theorem dX4_goYear_43 : decode cX4_goYear 43 = .ok (.iload_n 1, 1) := dk_27 (dk_at dksX4_goYear_1 19 rfl rfl)
theorem dX4_goYear_44 : decode cX4_goYear 44 = .ok (.iadd, 1) := dk_96 (dk_at dksX4_goYear_1 20 rfl rfl)
theorem dX4_goYear_45 : decode cX4_goYear 45 = .ok (.iaload, 1) := dk_46 (dk_at dksX4_goYear_1 21 rfl rfl)
theorem dX4_goYear_46 : decode cX4_goYear 46 = .ok (.iconst 1, 1) := dk_4 (dk_at dksX4_goYear_1 22 rfl rfl)
theorem dX4_goYear_47 : decode cX4_goYear 47 = .ok (.bipush 19, 2) := dk_16 19 (dk_at dksX4_goYear_2 0 rfl rfl)
theorem dX4_goYear_49 : decode cX4_goYear 49 = .ok (.invokestatic 346, 3) := dk_184 1 90 (dk_at dksX4_goYear_2 2 rfl rfl)
theorem dX4_goYear_52 : decode cX4_goYear 52 = .ok (.ifCond .eq 19, 3) := dk_153 0 19 (dk_at dksX4_goYear_2 5 rfl rfl)
theorem dX4_goYear_55 : decode cX4_goYear 55 = .ok (.aload_n 0, 1) := dk_42 (dk_at dksX4_goYear_2 8 rfl rfl)
theorem dX4_goYear_56 : decode cX4_goYear 56 = .ok (.getfield 85, 3) := dk_180 0 85 (dk_at dksX4_goYear_2 9 rfl rfl)
theorem dX4_goYear_59 : decode cX4_goYear 59 = .ok (.bipush 32, 2) := dk_16 32 (dk_at dksX4_goYear_2 12 rfl rfl)
theorem dX4_goYear_61 : decode cX4_goYear 61 = .ok (.iload_n 1, 1) := dk_27 (dk_at dksX4_goYear_2 14 rfl rfl)
theorem dX4_goYear_62 : decode cX4_goYear 62 = .ok (.iadd, 1) := dk_96 (dk_at dksX4_goYear_2 15 rfl rfl)
theorem dX4_goYear_63 : decode cX4_goYear 63 = .ok (.iaload, 1) := dk_46 (dk_at dksX4_goYear_2 16 rfl rfl)
theorem dX4_goYear_64 : decode cX4_goYear 64 = .ok (.ifCond .ne 7, 3) := dk_154 0 7 (dk_at dksX4_goYear_2 17 rfl rfl)
theorem dX4_goYear_67 : decode cX4_goYear 67 = .ok (.iconst 1, 1) := dk_4 (dk_at dksX4_goYear_2 20 rfl rfl)
theorem dX4_goYear_68 : decode cX4_goYear 68 = .ok (.goto 4, 3) := dk_167 0 4 (dk_at dksX4_goYear_2 21 rfl rfl)
theorem dX4_goYear_71 : decode cX4_goYear 71 = .ok (.iconst 0, 1) := dk_3 (dk_at dksX4_goYear_3 0 rfl rfl)
theorem dX4_goYear_72 : decode cX4_goYear 72 = .ok (.istore_n 2, 1) := dk_61 (dk_at dksX4_goYear_3 1 rfl rfl)
theorem dX4_goYear_73 : decode cX4_goYear 73 = .ok (.iload_n 2, 1) := dk_28 (dk_at dksX4_goYear_3 2 rfl rfl)
theorem dX4_goYear_74 : decode cX4_goYear 74 = .ok (.ifCond .eq 31, 3) := dk_153 0 31 (dk_at dksX4_goYear_3 3 rfl rfl)
theorem dX4_goYear_77 : decode cX4_goYear 77 = .ok (.aload_n 0, 1) := dk_42 (dk_at dksX4_goYear_3 6 rfl rfl)
theorem dX4_goYear_78 : decode cX4_goYear 78 = .ok (.aload_n 0, 1) := dk_42 (dk_at dksX4_goYear_3 7 rfl rfl)
theorem dX4_goYear_79 : decode cX4_goYear 79 = .ok (.getfield 85, 3) := dk_180 0 85 (dk_at dksX4_goYear_3 8 rfl rfl)
theorem dX4_goYear_82 : decode cX4_goYear 82 = .ok (.bipush 8, 2) := dk_16 8 (dk_at dksX4_goYear_3 11 rfl rfl)
theorem dX4_goYear_84 : decode cX4_goYear 84 = .ok (.iload_n 1, 1) := dk_27 (dk_at dksX4_goYear_3 13 rfl rfl)
theorem dX4_goYear_85 : decode cX4_goYear 85 = .ok (.iadd, 1) := dk_96 (dk_at dksX4_goYear_3 14 rfl rfl)
theorem dX4_goYear_86 : decode cX4_goYear 86 = .ok (.iaload, 1) := dk_46 (dk_at dksX4_goYear_3 15 rfl rfl)
theorem dX4_goYear_87 : decode cX4_goYear 87 = .ok (.invokevirtual 328, 3) := dk_182 1 72 (dk_at dksX4_goYear_3 16 rfl rfl)
theorem dX4_goYear_90 : decode cX4_goYear 90 = .ok (.ifCond .le 15, 3) := dk_158 0 15 (dk_at dksX4_goYear_3 19 rfl rfl)
theorem dX4_goYear_93 : decode cX4_goYear 93 = .ok (.aload_n 0, 1) := dk_42 (dk_at dksX4_goYear_3 22 rfl rfl)
theorem dX4_goYear_94 : decode cX4_goYear 94 = .ok (.getfield 85, 3) := dk_180 0 85 (dk_at dksX4_goYear_4 0 rfl rfl)
theorem dX4_goYear_97 : decode cX4_goYear 97 = .ok (.iconst 0, 1) := dk_3 (dk_at dksX4_goYear_4 3 rfl rfl)
theorem dX4_goYear_98 : decode cX4_goYear 98 = .ok (.iload_n 1, 1) := dk_27 (dk_at dksX4_goYear_4 4 rfl rfl)
theorem dX4_goYear_99 : decode cX4_goYear 99 = .ok (.iadd, 1) := dk_96 (dk_at dksX4_goYear_4 5 rfl rfl)
theorem dX4_goYear_100 : decode cX4_goYear 100 = .ok (.dup2, 1) := dk_92 (dk_at dksX4_goYear_4 6 rfl rfl)
theorem dX4_goYear_101 : decode cX4_goYear 101 = .ok (.iaload, 1) := dk_46 (dk_at dksX4_goYear_4 7 rfl rfl)
theorem dX4_goYear_102 : decode cX4_goYear 102 = .ok (.iconst 1, 1) := dk_4 (dk_at dksX4_goYear_4 8 rfl rfl)
theorem dX4_goYear_103 : decode cX4_goYear 103 = .ok (.iadd, 1) := dk_96 (dk_at dksX4_goYear_4 9 rfl rfl)
theorem dX4_goYear_104 : decode cX4_goYear 104 = .ok (.iastore, 1) := dk_79 (dk_at dksX4_goYear_4 10 rfl rfl)
theorem dX4_goYear_105 : decode cX4_goYear 105 = .ok (.iinc 1 1, 3) := dk_132 1 1 (dk_at dksX4_goYear_4 11 rfl rfl)
theorem dX4_goYear_108 : decode cX4_goYear 108 = .ok (.goto (-76), 3) := dk_167 255 180 (dk_at dksX4_goYear_4 14 rfl rfl)
theorem dX4_goYear_111 : decode cX4_goYear 111 = .ok (.iconst 0, 1) := dk_3 (dk_at dksX4_goYear_4 17 rfl rfl)
theorem dX4_goYear_112 : decode cX4_goYear 112 = .ok (.istore_n 1, 1) := dk_60 (dk_at dksX4_goYear_4 18 rfl rfl)
theorem dX4_goYear_113 : decode cX4_goYear 113 = .ok (.iconst 0, 1) := dk_3 (dk_at dksX4_goYear_4 19 rfl rfl)
theorem dX4_goYear_114 : decode cX4_goYear 114 = .ok (.istore_n 2, 1) := dk_61 (dk_at dksX4_goYear_4 20 rfl rfl)
theorem dX4_goYear_115 : decode cX4_goYear 115 = .ok (.iload_n 2, 1) := dk_28 (dk_at dksX4_goYear_4 21 rfl rfl)
theorem dX4_goYear_116 : decode cX4_goYear 116 = .ok (.aload_n 0, 1) := dk_42 (dk_at dksX4_goYear_4 22 rfl rfl)
theorem dX4_goYear_117 : decode cX4_goYear 117 = .ok (.invokevirtual 343, 3) := dk_182 1 87 (dk_at dksX4_goYear_5 0 rfl rfl)
theorem dX4_goYear_120 : decode cX4_goYear 120 = .ok (.if_icmp .ge 34, 3) := dk_162 0 34 (dk_at dksX4_goYear_5 3 rfl rfl)
theorem dX4_goYear_123 : decode cX4_goYear 123 = .ok (.aload_n 0, 1) := dk_42 (dk_at dksX4_goYear_5 6 rfl rfl)
theorem dX4_goYear_124 : decode cX4_goYear 124 = .ok (.iload_n 2, 1) := dk_28 (dk_at dksX4_goYear_5 7 rfl rfl)
theorem dX4_goYear_125 : decode cX4_goYear 125 = .ok (.invokevirtual 399, 3) := dk_182 1 143 (dk_at dksX4_goYear_5 8 rfl rfl)
theorem dX4_goYear_128 : decode cX4_goYear 128 = .ok (.ifCond .ne 6, 3) := dk_154 0 6 (dk_at dksX4_goYear_5 11 rfl rfl)
theorem dX4_goYear_131 : decode cX4_goYear 131 = .ok (.goto 17, 3) := dk_167 0 17 (dk_at dksX4_goYear_5 14 rfl rfl)
theorem dX4_goYear_134 : decode cX4_goYear 134 = .ok (.iload_n 1, 1) := dk_27 (dk_at dksX4_goYear_5 17 rfl rfl)
theorem dX4_goYear_135 : decode cX4_goYear 135 = .ok (.iconst 1, 1) := dk_4 (dk_at dksX4_goYear_5 18 rfl rfl)
theorem dX4_goYear_136 : decode cX4_goYear 136 = .ok (.aload_n 0, 1) := dk_42 (dk_at dksX4_goYear_5 19 rfl rfl)
theorem dX4_goYear_137 : decode cX4_goYear 137 = .ok (.invokevirtual 384, 3) := dk_182 1 128 (dk_at dksX4_goYear_5 20 rfl rfl)
theorem dX4_goYear_140 : decode cX4_goYear 140 = .ok (.ishl, 1) := dk_120 (dk_at dksX4_goYear_5 23 rfl rfl)
theorem dX4_goYear_141 : decode cX4_goYear 141 = .ok (.ior, 1) := dk_128 (dk_at dksX4_goYear_6 0 rfl rfl)
theorem dX4_goYear_142 : decode cX4_goYear 142 = .ok (.istore_n 1, 1) := dk_60 (dk_at dksX4_goYear_6 1 rfl rfl)
theorem dX4_goYear_143 : decode cX4_goYear 143 = .ok (.aload_n 0, 1) := dk_42 (dk_at dksX4_goYear_6 2 rfl rfl)
theorem dX4_goYear_144 : decode cX4_goYear 144 = .ok (.iload_n 2, 1) := dk_28 (dk_at dksX4_goYear_6 3 rfl rfl)
theorem dX4_goYear_145 : decode cX4_goYear 145 = .ok (.invokevirtual 402, 3) := dk_182 1 146 (dk_at dksX4_goYear_6 4 rfl rfl)
theorem dX4_goYear_148 : decode cX4_goYear 148 = .ok (.iinc 2 1, 3) := dk_132 2 1 (dk_at dksX4_goYear_6 7 rfl rfl)
theorem dX4_goYear_151 : decode cX4_goYear 151 = .ok (.goto (-36), 3) := dk_167 255 220 (dk_at dksX4_goYear_6 10 rfl rfl)
theorem dX4_goYear_154 : decode cX4_goYear 154 = .ok (.aload_n 0, 1) := dk_42 (dk_at dksX4_goYear_6 13 rfl rfl)
theorem dX4_goYear_155 : decode cX4_goYear 155 = .ok (.getfield 85, 3) := dk_180 0 85 (dk_at dksX4_goYear_6 14 rfl rfl)
theorem dX4_goYear_158 : decode cX4_goYear 158 = .ok (.bipush 57, 2) := dk_16 57 (dk_at dksX4_goYear_6 17 rfl rfl)
theorem dX4_goYear_160 : decode cX4_goYear 160 = .ok (.dup2, 1) := dk_92 (dk_at dksX4_goYear_6 19 rfl rfl)
theorem dX4_goYear_161 : decode cX4_goYear 161 = .ok (.iaload, 1) := dk_46 (dk_at dksX4_goYear_6 20 rfl rfl)
theorem dX4_goYear_162 : decode cX4_goYear 162 = .ok (.iconst 1, 1) := dk_4 (dk_at dksX4_goYear_6 21 rfl rfl)
theorem dX4_goYear_163 : decode cX4_goYear 163 = .ok (.iadd, 1) := dk_96 (dk_at dksX4_goYear_6 22 rfl rfl)
theorem dX4_goYear_164 : decode cX4_goYear 164 = .ok (.iastore, 1) := dk_79 (dk_at dksX4_goYear_6 23 rfl rfl)
theorem dX4_goYear_165 : decode cX4_goYear 165 = .ok (.iload_n 1, 1) := dk_27 (dk_at dksX4_goYear_7 0 rfl rfl)
theorem dX4_goYear_166 : decode cX4_goYear 166 = .ok (.ireturn, 1) := dk_172 (dk_at dksX4_goYear_7 1 rfl rfl)
abbrev cX4_listen : ByteArray := prog_22_method_63_code
def yX4_listen : MethodName := ⟨RX4, "listen", "(I)V"⟩
def dkwX4_listen_3 : List UInt8 := [42, 180, 0, 30, 42, 180, 0, 244, 46, 161, 0, 8, 42, 27, 182, 1, 137, 177]
abbrev dktX4_listen_3 : List UInt8 := dkwX4_listen_3 ++ []
def dkwX4_listen_2 : List UInt8 := [79, 42, 180, 0, 85, 16, 32, 27, 96, 46, 42, 180, 0, 91, 155, 0, 10, 42, 180, 0, 91, 167, 0, 12]
abbrev dktX4_listen_2 : List UInt8 := dkwX4_listen_2 ++ dktX4_listen_3
def dkwX4_listen_1 : List UInt8 := [79, 42, 180, 0, 85, 16, 32, 27, 96, 3, 79, 177, 42, 180, 0, 85, 16, 32, 27, 96, 92, 46, 4, 96]
abbrev dktX4_listen_1 : List UInt8 := dkwX4_listen_1 ++ dktX4_listen_2
def dkwX4_listen_0 : List UInt8 := [42, 180, 0, 85, 16, 24, 27, 96, 46, 158, 0, 27, 42, 180, 0, 85, 16, 24, 27, 96, 92, 46, 4, 100]
abbrev dktX4_listen_0 : List UInt8 := dkwX4_listen_0 ++ dktX4_listen_1
theorem dksX4_listen_0 : cX4_listen.data.toList.drop 0 = dktX4_listen_0 := by decide +kernel
theorem dksX4_listen_1 : cX4_listen.data.toList.drop 24 = dktX4_listen_1 := dk_seg dksX4_listen_0 24 rfl rfl
theorem dksX4_listen_2 : cX4_listen.data.toList.drop 48 = dktX4_listen_2 := dk_seg dksX4_listen_1 24 rfl rfl
theorem dksX4_listen_3 : cX4_listen.data.toList.drop 72 = dktX4_listen_3 := dk_seg dksX4_listen_2 24 rfl rfl
theorem dX4_listen_0 : decode cX4_listen 0 = .ok (.aload_n 0, 1) := dk_42 (dk_at dksX4_listen_0 0 rfl rfl)
theorem dX4_listen_1 : decode cX4_listen 1 = .ok (.getfield 85, 3) := dk_180 0 85 (dk_at dksX4_listen_0 1 rfl rfl)
theorem dX4_listen_4 : decode cX4_listen 4 = .ok (.bipush 24, 2) := dk_16 24 (dk_at dksX4_listen_0 4 rfl rfl)
theorem dX4_listen_6 : decode cX4_listen 6 = .ok (.iload_n 1, 1) := dk_27 (dk_at dksX4_listen_0 6 rfl rfl)
theorem dX4_listen_7 : decode cX4_listen 7 = .ok (.iadd, 1) := dk_96 (dk_at dksX4_listen_0 7 rfl rfl)
theorem dX4_listen_8 : decode cX4_listen 8 = .ok (.iaload, 1) := dk_46 (dk_at dksX4_listen_0 8 rfl rfl)
theorem dX4_listen_9 : decode cX4_listen 9 = .ok (.ifCond .le 27, 3) := dk_158 0 27 (dk_at dksX4_listen_0 9 rfl rfl)
theorem dX4_listen_12 : decode cX4_listen 12 = .ok (.aload_n 0, 1) := dk_42 (dk_at dksX4_listen_0 12 rfl rfl)
theorem dX4_listen_13 : decode cX4_listen 13 = .ok (.getfield 85, 3) := dk_180 0 85 (dk_at dksX4_listen_0 13 rfl rfl)
theorem dX4_listen_16 : decode cX4_listen 16 = .ok (.bipush 24, 2) := dk_16 24 (dk_at dksX4_listen_0 16 rfl rfl)
theorem dX4_listen_18 : decode cX4_listen 18 = .ok (.iload_n 1, 1) := dk_27 (dk_at dksX4_listen_0 18 rfl rfl)
theorem dX4_listen_19 : decode cX4_listen 19 = .ok (.iadd, 1) := dk_96 (dk_at dksX4_listen_0 19 rfl rfl)
theorem dX4_listen_20 : decode cX4_listen 20 = .ok (.dup2, 1) := dk_92 (dk_at dksX4_listen_0 20 rfl rfl)
theorem dX4_listen_21 : decode cX4_listen 21 = .ok (.iaload, 1) := dk_46 (dk_at dksX4_listen_0 21 rfl rfl)
theorem dX4_listen_22 : decode cX4_listen 22 = .ok (.iconst 1, 1) := dk_4 (dk_at dksX4_listen_0 22 rfl rfl)
theorem dX4_listen_23 : decode cX4_listen 23 = .ok (.isub, 1) := dk_100 (dk_at dksX4_listen_0 23 rfl rfl)
theorem dX4_listen_24 : decode cX4_listen 24 = .ok (.iastore, 1) := dk_79 (dk_at dksX4_listen_1 0 rfl rfl)
theorem dX4_listen_25 : decode cX4_listen 25 = .ok (.aload_n 0, 1) := dk_42 (dk_at dksX4_listen_1 1 rfl rfl)
theorem dX4_listen_26 : decode cX4_listen 26 = .ok (.getfield 85, 3) := dk_180 0 85 (dk_at dksX4_listen_1 2 rfl rfl)
theorem dX4_listen_29 : decode cX4_listen 29 = .ok (.bipush 32, 2) := dk_16 32 (dk_at dksX4_listen_1 5 rfl rfl)
theorem dX4_listen_31 : decode cX4_listen 31 = .ok (.iload_n 1, 1) := dk_27 (dk_at dksX4_listen_1 7 rfl rfl)
theorem dX4_listen_32 : decode cX4_listen 32 = .ok (.iadd, 1) := dk_96 (dk_at dksX4_listen_1 8 rfl rfl)
theorem dX4_listen_33 : decode cX4_listen 33 = .ok (.iconst 0, 1) := dk_3 (dk_at dksX4_listen_1 9 rfl rfl)
theorem dX4_listen_34 : decode cX4_listen 34 = .ok (.iastore, 1) := dk_79 (dk_at dksX4_listen_1 10 rfl rfl)
theorem dX4_listen_35 : decode cX4_listen 35 = .ok (.return_, 1) := dk_177 (dk_at dksX4_listen_1 11 rfl rfl)
theorem dX4_listen_36 : decode cX4_listen 36 = .ok (.aload_n 0, 1) := dk_42 (dk_at dksX4_listen_1 12 rfl rfl)
theorem dX4_listen_37 : decode cX4_listen 37 = .ok (.getfield 85, 3) := dk_180 0 85 (dk_at dksX4_listen_1 13 rfl rfl)
theorem dX4_listen_40 : decode cX4_listen 40 = .ok (.bipush 32, 2) := dk_16 32 (dk_at dksX4_listen_1 16 rfl rfl)
theorem dX4_listen_42 : decode cX4_listen 42 = .ok (.iload_n 1, 1) := dk_27 (dk_at dksX4_listen_1 18 rfl rfl)
theorem dX4_listen_43 : decode cX4_listen 43 = .ok (.iadd, 1) := dk_96 (dk_at dksX4_listen_1 19 rfl rfl)
theorem dX4_listen_44 : decode cX4_listen 44 = .ok (.dup2, 1) := dk_92 (dk_at dksX4_listen_1 20 rfl rfl)
theorem dX4_listen_45 : decode cX4_listen 45 = .ok (.iaload, 1) := dk_46 (dk_at dksX4_listen_1 21 rfl rfl)
theorem dX4_listen_46 : decode cX4_listen 46 = .ok (.iconst 1, 1) := dk_4 (dk_at dksX4_listen_1 22 rfl rfl)
theorem dX4_listen_47 : decode cX4_listen 47 = .ok (.iadd, 1) := dk_96 (dk_at dksX4_listen_1 23 rfl rfl)
theorem dX4_listen_48 : decode cX4_listen 48 = .ok (.iastore, 1) := dk_79 (dk_at dksX4_listen_2 0 rfl rfl)
theorem dX4_listen_49 : decode cX4_listen 49 = .ok (.aload_n 0, 1) := dk_42 (dk_at dksX4_listen_2 1 rfl rfl)
theorem dX4_listen_50 : decode cX4_listen 50 = .ok (.getfield 85, 3) := dk_180 0 85 (dk_at dksX4_listen_2 2 rfl rfl)
theorem dX4_listen_53 : decode cX4_listen 53 = .ok (.bipush 32, 2) := dk_16 32 (dk_at dksX4_listen_2 5 rfl rfl)
theorem dX4_listen_55 : decode cX4_listen 55 = .ok (.iload_n 1, 1) := dk_27 (dk_at dksX4_listen_2 7 rfl rfl)
theorem dX4_listen_56 : decode cX4_listen 56 = .ok (.iadd, 1) := dk_96 (dk_at dksX4_listen_2 8 rfl rfl)
theorem dX4_listen_57 : decode cX4_listen 57 = .ok (.iaload, 1) := dk_46 (dk_at dksX4_listen_2 9 rfl rfl)
theorem dX4_listen_58 : decode cX4_listen 58 = .ok (.aload_n 0, 1) := dk_42 (dk_at dksX4_listen_2 10 rfl rfl)
theorem dX4_listen_59 : decode cX4_listen 59 = .ok (.getfield 91, 3) := dk_180 0 91 (dk_at dksX4_listen_2 11 rfl rfl)
theorem dX4_listen_62 : decode cX4_listen 62 = .ok (.ifCond .lt 10, 3) := dk_155 0 10 (dk_at dksX4_listen_2 14 rfl rfl)
theorem dX4_listen_65 : decode cX4_listen 65 = .ok (.aload_n 0, 1) := dk_42 (dk_at dksX4_listen_2 17 rfl rfl)
theorem dX4_listen_66 : decode cX4_listen 66 = .ok (.getfield 91, 3) := dk_180 0 91 (dk_at dksX4_listen_2 18 rfl rfl)
theorem dX4_listen_69 : decode cX4_listen 69 = .ok (.goto 12, 3) := dk_167 0 12 (dk_at dksX4_listen_2 21 rfl rfl)
theorem dX4_listen_72 : decode cX4_listen 72 = .ok (.aload_n 0, 1) := dk_42 (dk_at dksX4_listen_3 0 rfl rfl)
theorem dX4_listen_73 : decode cX4_listen 73 = .ok (.getfield 30, 3) := dk_180 0 30 (dk_at dksX4_listen_3 1 rfl rfl)
theorem dX4_listen_76 : decode cX4_listen 76 = .ok (.aload_n 0, 1) := dk_42 (dk_at dksX4_listen_3 4 rfl rfl)
theorem dX4_listen_77 : decode cX4_listen 77 = .ok (.getfield 244, 3) := dk_180 0 244 (dk_at dksX4_listen_3 5 rfl rfl)
theorem dX4_listen_80 : decode cX4_listen 80 = .ok (.iaload, 1) := dk_46 (dk_at dksX4_listen_3 8 rfl rfl)
theorem dX4_listen_81 : decode cX4_listen 81 = .ok (.if_icmp .lt 8, 3) := dk_161 0 8 (dk_at dksX4_listen_3 9 rfl rfl)
theorem dX4_listen_84 : decode cX4_listen 84 = .ok (.aload_n 0, 1) := dk_42 (dk_at dksX4_listen_3 12 rfl rfl)
theorem dX4_listen_85 : decode cX4_listen 85 = .ok (.iload_n 1, 1) := dk_27 (dk_at dksX4_listen_3 13 rfl rfl)
theorem dX4_listen_86 : decode cX4_listen 86 = .ok (.invokevirtual 393, 3) := dk_182 1 137 (dk_at dksX4_listen_3 14 rfl rfl)
theorem dX4_listen_89 : decode cX4_listen 89 = .ok (.return_, 1) := dk_177 (dk_at dksX4_listen_3 17 rfl rfl)
abbrev cX4_loseOne : ByteArray := prog_22_method_53_code
def yX4_loseOne : MethodName := ⟨RX4, "loseOne", "(I)V"⟩
def dkwX4_loseOne_2 : List UInt8 := [160, 0, 13, 42, 180, 0, 85, 16, 48, 28, 96, 2, 79, 132, 2, 1, 167, 255, 201, 177]
abbrev dktX4_loseOne_2 : List UInt8 := dkwX4_loseOne_2 ++ []
def dkwX4_loseOne_1 : List UInt8 := [160, 0, 13, 42, 180, 0, 85, 16, 40, 28, 96, 2, 79, 42, 180, 0, 85, 16, 48, 28, 96, 46, 27]
abbrev dktX4_loseOne_1 : List UInt8 := dkwX4_loseOne_1 ++ dktX4_loseOne_2
def dkwX4_loseOne_0 : List UInt8 := [42, 27, 182, 1, 103, 3, 61, 28, 16, 8, 162, 0, 55, 42, 180, 0, 85, 16, 40, 28, 96, 46, 27]
abbrev dktX4_loseOne_0 : List UInt8 := dkwX4_loseOne_0 ++ dktX4_loseOne_1
theorem dksX4_loseOne_0 : cX4_loseOne.data.toList.drop 0 = dktX4_loseOne_0 := by decide +kernel
theorem dksX4_loseOne_1 : cX4_loseOne.data.toList.drop 23 = dktX4_loseOne_1 := dk_seg dksX4_loseOne_0 23 rfl rfl
theorem dksX4_loseOne_2 : cX4_loseOne.data.toList.drop 46 = dktX4_loseOne_2 := dk_seg dksX4_loseOne_1 23 rfl rfl
theorem dX4_loseOne_0 : decode cX4_loseOne 0 = .ok (.aload_n 0, 1) := dk_42 (dk_at dksX4_loseOne_0 0 rfl rfl)
theorem dX4_loseOne_1 : decode cX4_loseOne 1 = .ok (.iload_n 1, 1) := dk_27 (dk_at dksX4_loseOne_0 1 rfl rfl)
theorem dX4_loseOne_2 : decode cX4_loseOne 2 = .ok (.invokevirtual 359, 3) := dk_182 1 103 (dk_at dksX4_loseOne_0 2 rfl rfl)
theorem dX4_loseOne_5 : decode cX4_loseOne 5 = .ok (.iconst 0, 1) := dk_3 (dk_at dksX4_loseOne_0 5 rfl rfl)
theorem dX4_loseOne_6 : decode cX4_loseOne 6 = .ok (.istore_n 2, 1) := dk_61 (dk_at dksX4_loseOne_0 6 rfl rfl)
theorem dX4_loseOne_7 : decode cX4_loseOne 7 = .ok (.iload_n 2, 1) := dk_28 (dk_at dksX4_loseOne_0 7 rfl rfl)
theorem dX4_loseOne_8 : decode cX4_loseOne 8 = .ok (.bipush 8, 2) := dk_16 8 (dk_at dksX4_loseOne_0 8 rfl rfl)
theorem dX4_loseOne_10 : decode cX4_loseOne 10 = .ok (.if_icmp .ge 55, 3) := dk_162 0 55 (dk_at dksX4_loseOne_0 10 rfl rfl)
theorem dX4_loseOne_13 : decode cX4_loseOne 13 = .ok (.aload_n 0, 1) := dk_42 (dk_at dksX4_loseOne_0 13 rfl rfl)
theorem dX4_loseOne_14 : decode cX4_loseOne 14 = .ok (.getfield 85, 3) := dk_180 0 85 (dk_at dksX4_loseOne_0 14 rfl rfl)
theorem dX4_loseOne_17 : decode cX4_loseOne 17 = .ok (.bipush 40, 2) := dk_16 40 (dk_at dksX4_loseOne_0 17 rfl rfl)
theorem dX4_loseOne_19 : decode cX4_loseOne 19 = .ok (.iload_n 2, 1) := dk_28 (dk_at dksX4_loseOne_0 19 rfl rfl)
theorem dX4_loseOne_20 : decode cX4_loseOne 20 = .ok (.iadd, 1) := dk_96 (dk_at dksX4_loseOne_0 20 rfl rfl)
theorem dX4_loseOne_21 : decode cX4_loseOne 21 = .ok (.iaload, 1) := dk_46 (dk_at dksX4_loseOne_0 21 rfl rfl)
theorem dX4_loseOne_22 : decode cX4_loseOne 22 = .ok (.iload_n 1, 1) := dk_27 (dk_at dksX4_loseOne_0 22 rfl rfl)
theorem dX4_loseOne_23 : decode cX4_loseOne 23 = .ok (.if_icmp .ne 13, 3) := dk_160 0 13 (dk_at dksX4_loseOne_1 0 rfl rfl)
theorem dX4_loseOne_26 : decode cX4_loseOne 26 = .ok (.aload_n 0, 1) := dk_42 (dk_at dksX4_loseOne_1 3 rfl rfl)
theorem dX4_loseOne_27 : decode cX4_loseOne 27 = .ok (.getfield 85, 3) := dk_180 0 85 (dk_at dksX4_loseOne_1 4 rfl rfl)
theorem dX4_loseOne_30 : decode cX4_loseOne 30 = .ok (.bipush 40, 2) := dk_16 40 (dk_at dksX4_loseOne_1 7 rfl rfl)
theorem dX4_loseOne_32 : decode cX4_loseOne 32 = .ok (.iload_n 2, 1) := dk_28 (dk_at dksX4_loseOne_1 9 rfl rfl)
theorem dX4_loseOne_33 : decode cX4_loseOne 33 = .ok (.iadd, 1) := dk_96 (dk_at dksX4_loseOne_1 10 rfl rfl)
theorem dX4_loseOne_34 : decode cX4_loseOne 34 = .ok (.iconst (-1), 1) := dk_2 (dk_at dksX4_loseOne_1 11 rfl rfl)
theorem dX4_loseOne_35 : decode cX4_loseOne 35 = .ok (.iastore, 1) := dk_79 (dk_at dksX4_loseOne_1 12 rfl rfl)
theorem dX4_loseOne_36 : decode cX4_loseOne 36 = .ok (.aload_n 0, 1) := dk_42 (dk_at dksX4_loseOne_1 13 rfl rfl)
theorem dX4_loseOne_37 : decode cX4_loseOne 37 = .ok (.getfield 85, 3) := dk_180 0 85 (dk_at dksX4_loseOne_1 14 rfl rfl)
theorem dX4_loseOne_40 : decode cX4_loseOne 40 = .ok (.bipush 48, 2) := dk_16 48 (dk_at dksX4_loseOne_1 17 rfl rfl)
theorem dX4_loseOne_42 : decode cX4_loseOne 42 = .ok (.iload_n 2, 1) := dk_28 (dk_at dksX4_loseOne_1 19 rfl rfl)
theorem dX4_loseOne_43 : decode cX4_loseOne 43 = .ok (.iadd, 1) := dk_96 (dk_at dksX4_loseOne_1 20 rfl rfl)
theorem dX4_loseOne_44 : decode cX4_loseOne 44 = .ok (.iaload, 1) := dk_46 (dk_at dksX4_loseOne_1 21 rfl rfl)
theorem dX4_loseOne_45 : decode cX4_loseOne 45 = .ok (.iload_n 1, 1) := dk_27 (dk_at dksX4_loseOne_1 22 rfl rfl)
theorem dX4_loseOne_46 : decode cX4_loseOne 46 = .ok (.if_icmp .ne 13, 3) := dk_160 0 13 (dk_at dksX4_loseOne_2 0 rfl rfl)
theorem dX4_loseOne_49 : decode cX4_loseOne 49 = .ok (.aload_n 0, 1) := dk_42 (dk_at dksX4_loseOne_2 3 rfl rfl)
theorem dX4_loseOne_50 : decode cX4_loseOne 50 = .ok (.getfield 85, 3) := dk_180 0 85 (dk_at dksX4_loseOne_2 4 rfl rfl)
theorem dX4_loseOne_53 : decode cX4_loseOne 53 = .ok (.bipush 48, 2) := dk_16 48 (dk_at dksX4_loseOne_2 7 rfl rfl)
theorem dX4_loseOne_55 : decode cX4_loseOne 55 = .ok (.iload_n 2, 1) := dk_28 (dk_at dksX4_loseOne_2 9 rfl rfl)
theorem dX4_loseOne_56 : decode cX4_loseOne 56 = .ok (.iadd, 1) := dk_96 (dk_at dksX4_loseOne_2 10 rfl rfl)
theorem dX4_loseOne_57 : decode cX4_loseOne 57 = .ok (.iconst (-1), 1) := dk_2 (dk_at dksX4_loseOne_2 11 rfl rfl)
theorem dX4_loseOne_58 : decode cX4_loseOne 58 = .ok (.iastore, 1) := dk_79 (dk_at dksX4_loseOne_2 12 rfl rfl)
theorem dX4_loseOne_59 : decode cX4_loseOne 59 = .ok (.iinc 2 1, 3) := dk_132 2 1 (dk_at dksX4_loseOne_2 13 rfl rfl)
theorem dX4_loseOne_62 : decode cX4_loseOne 62 = .ok (.goto (-55), 3) := dk_167 255 201 (dk_at dksX4_loseOne_2 16 rfl rfl)
theorem dX4_loseOne_65 : decode cX4_loseOne 65 = .ok (.return_, 1) := dk_177 (dk_at dksX4_loseOne_2 19 rfl rfl)
abbrev cX4_bringForth : ByteArray := prog_22_method_62_code
def yX4_bringForth : MethodName := ⟨RX4, "bringForth", "(I)V"⟩
def dkwX4_bringForth_8 : List UInt8 := [96, 21, 4, 79, 177]
abbrev dktX4_bringForth_8 : List UInt8 := dkwX4_bringForth_8 ++ []
def dkwX4_bringForth_7 : List UInt8 := [21, 5, 96, 3, 79, 42, 180, 0, 85, 16, 40, 21, 5, 96, 29, 79, 42, 180, 0, 85, 16, 48, 21, 5]
abbrev dktX4_bringForth_7 : List UInt8 := dkwX4_bringForth_7 ++ dktX4_bringForth_8
def dkwX4_bringForth_6 : List UInt8 := [21, 5, 96, 21, 6, 79, 42, 180, 0, 85, 16, 24, 21, 5, 96, 3, 79, 42, 180, 0, 85, 16, 32]
abbrev dktX4_bringForth_6 : List UInt8 := dkwX4_bringForth_6 ++ dktX4_bringForth_7
def dkwX4_bringForth_5 : List UInt8 := [3, 21, 5, 96, 21, 7, 79, 42, 180, 0, 85, 16, 8, 21, 5, 96, 27, 79, 42, 180, 0, 85, 16, 16]
abbrev dktX4_bringForth_5 : List UInt8 := dkwX4_bringForth_5 ++ dktX4_bringForth_6
def dkwX4_bringForth_4 : List UInt8 := [21, 7, 120, 126, 128, 54, 6, 132, 7, 1, 167, 255, 207, 42, 28, 182, 1, 134, 54, 7, 42, 180, 0, 85]
abbrev dktX4_bringForth_4 : List UInt8 := dkwX4_bringForth_4 ++ dktX4_bringForth_5
def dkwX4_bringForth_3 : List UInt8 := [180, 0, 85, 16, 58, 46, 21, 7, 184, 0, 250, 153, 0, 7, 29, 167, 0, 5, 21, 4, 96, 46, 4]
abbrev dktX4_bringForth_3 : List UInt8 := dkwX4_bringForth_3 ++ dktX4_bringForth_4
def dkwX4_bringForth_2 : List UInt8 := [3, 54, 6, 3, 54, 7, 21, 7, 16, 6, 162, 0, 48, 21, 6, 42, 180, 0, 85, 16, 16, 42]
abbrev dktX4_bringForth_2 : List UInt8 := dkwX4_bringForth_2 ++ dktX4_bringForth_3
def dkwX4_bringForth_1 : List UInt8 := [180, 0, 85, 16, 58, 17, 0, 137, 42, 180, 0, 85, 16, 58, 46, 104, 16, 71, 96, 17, 3, 232, 112, 79]
abbrev dktX4_bringForth_1 : List UInt8 := dkwX4_bringForth_1 ++ dktX4_bringForth_2
def dkwX4_bringForth_0 : List UInt8 := [42, 27, 182, 1, 125, 61, 28, 16, 8, 108, 62, 28, 16, 8, 112, 54, 4, 42, 182, 1, 128, 54, 5, 42]
abbrev dktX4_bringForth_0 : List UInt8 := dkwX4_bringForth_0 ++ dktX4_bringForth_1
theorem dksX4_bringForth_0 : cX4_bringForth.data.toList.drop 0 = dktX4_bringForth_0 := by decide +kernel
theorem dksX4_bringForth_1 : cX4_bringForth.data.toList.drop 24 = dktX4_bringForth_1 := dk_seg dksX4_bringForth_0 24 rfl rfl
theorem dksX4_bringForth_2 : cX4_bringForth.data.toList.drop 48 = dktX4_bringForth_2 := dk_seg dksX4_bringForth_1 24 rfl rfl
theorem dksX4_bringForth_3 : cX4_bringForth.data.toList.drop 70 = dktX4_bringForth_3 := dk_seg dksX4_bringForth_2 22 rfl rfl
theorem dksX4_bringForth_4 : cX4_bringForth.data.toList.drop 93 = dktX4_bringForth_4 := dk_seg dksX4_bringForth_3 23 rfl rfl
theorem dksX4_bringForth_5 : cX4_bringForth.data.toList.drop 117 = dktX4_bringForth_5 := dk_seg dksX4_bringForth_4 24 rfl rfl
theorem dksX4_bringForth_6 : cX4_bringForth.data.toList.drop 141 = dktX4_bringForth_6 := dk_seg dksX4_bringForth_5 24 rfl rfl
theorem dksX4_bringForth_7 : cX4_bringForth.data.toList.drop 164 = dktX4_bringForth_7 := dk_seg dksX4_bringForth_6 23 rfl rfl
theorem dksX4_bringForth_8 : cX4_bringForth.data.toList.drop 188 = dktX4_bringForth_8 := dk_seg dksX4_bringForth_7 24 rfl rfl
theorem dX4_bringForth_0 : decode cX4_bringForth 0 = .ok (.aload_n 0, 1) := dk_42 (dk_at dksX4_bringForth_0 0 rfl rfl)
theorem dX4_bringForth_1 : decode cX4_bringForth 1 = .ok (.iload_n 1, 1) := dk_27 (dk_at dksX4_bringForth_0 1 rfl rfl)
theorem dX4_bringForth_2 : decode cX4_bringForth 2 = .ok (.invokevirtual 381, 3) := dk_182 1 125 (dk_at dksX4_bringForth_0 2 rfl rfl)
theorem dX4_bringForth_5 : decode cX4_bringForth 5 = .ok (.istore_n 2, 1) := dk_61 (dk_at dksX4_bringForth_0 5 rfl rfl)
theorem dX4_bringForth_6 : decode cX4_bringForth 6 = .ok (.iload_n 2, 1) := dk_28 (dk_at dksX4_bringForth_0 6 rfl rfl)
theorem dX4_bringForth_7 : decode cX4_bringForth 7 = .ok (.bipush 8, 2) := dk_16 8 (dk_at dksX4_bringForth_0 7 rfl rfl)
theorem dX4_bringForth_9 : decode cX4_bringForth 9 = .ok (.idiv, 1) := dk_108 (dk_at dksX4_bringForth_0 9 rfl rfl)
theorem dX4_bringForth_10 : decode cX4_bringForth 10 = .ok (.istore_n 3, 1) := dk_62 (dk_at dksX4_bringForth_0 10 rfl rfl)
theorem dX4_bringForth_11 : decode cX4_bringForth 11 = .ok (.iload_n 2, 1) := dk_28 (dk_at dksX4_bringForth_0 11 rfl rfl)
theorem dX4_bringForth_12 : decode cX4_bringForth 12 = .ok (.bipush 8, 2) := dk_16 8 (dk_at dksX4_bringForth_0 12 rfl rfl)
theorem dX4_bringForth_14 : decode cX4_bringForth 14 = .ok (.irem, 1) := dk_112 (dk_at dksX4_bringForth_0 14 rfl rfl)
theorem dX4_bringForth_15 : decode cX4_bringForth 15 = .ok (.istore 4, 2) := dk_54 4 (dk_at dksX4_bringForth_0 15 rfl rfl)
theorem dX4_bringForth_17 : decode cX4_bringForth 17 = .ok (.aload_n 0, 1) := dk_42 (dk_at dksX4_bringForth_0 17 rfl rfl)
theorem dX4_bringForth_18 : decode cX4_bringForth 18 = .ok (.invokevirtual 384, 3) := dk_182 1 128 (dk_at dksX4_bringForth_0 18 rfl rfl)
theorem dX4_bringForth_21 : decode cX4_bringForth 21 = .ok (.istore 5, 2) := dk_54 5 (dk_at dksX4_bringForth_0 21 rfl rfl)
theorem dX4_bringForth_23 : decode cX4_bringForth 23 = .ok (.aload_n 0, 1) := dk_42 (dk_at dksX4_bringForth_0 23 rfl rfl)
theorem dX4_bringForth_24 : decode cX4_bringForth 24 = .ok (.getfield 85, 3) := dk_180 0 85 (dk_at dksX4_bringForth_1 0 rfl rfl)
theorem dX4_bringForth_27 : decode cX4_bringForth 27 = .ok (.bipush 58, 2) := dk_16 58 (dk_at dksX4_bringForth_1 3 rfl rfl)
theorem dX4_bringForth_29 : decode cX4_bringForth 29 = .ok (.sipush 137, 3) := dk_17 0 137 (dk_at dksX4_bringForth_1 5 rfl rfl)
theorem dX4_bringForth_32 : decode cX4_bringForth 32 = .ok (.aload_n 0, 1) := dk_42 (dk_at dksX4_bringForth_1 8 rfl rfl)
theorem dX4_bringForth_33 : decode cX4_bringForth 33 = .ok (.getfield 85, 3) := dk_180 0 85 (dk_at dksX4_bringForth_1 9 rfl rfl)
theorem dX4_bringForth_36 : decode cX4_bringForth 36 = .ok (.bipush 58, 2) := dk_16 58 (dk_at dksX4_bringForth_1 12 rfl rfl)
theorem dX4_bringForth_38 : decode cX4_bringForth 38 = .ok (.iaload, 1) := dk_46 (dk_at dksX4_bringForth_1 14 rfl rfl)
theorem dX4_bringForth_39 : decode cX4_bringForth 39 = .ok (.imul, 1) := dk_104 (dk_at dksX4_bringForth_1 15 rfl rfl)
theorem dX4_bringForth_40 : decode cX4_bringForth 40 = .ok (.bipush 71, 2) := dk_16 71 (dk_at dksX4_bringForth_1 16 rfl rfl)
theorem dX4_bringForth_42 : decode cX4_bringForth 42 = .ok (.iadd, 1) := dk_96 (dk_at dksX4_bringForth_1 18 rfl rfl)
theorem dX4_bringForth_43 : decode cX4_bringForth 43 = .ok (.sipush 1000, 3) := dk_17 3 232 (dk_at dksX4_bringForth_1 19 rfl rfl)
theorem dX4_bringForth_46 : decode cX4_bringForth 46 = .ok (.irem, 1) := dk_112 (dk_at dksX4_bringForth_1 22 rfl rfl)
theorem dX4_bringForth_47 : decode cX4_bringForth 47 = .ok (.iastore, 1) := dk_79 (dk_at dksX4_bringForth_1 23 rfl rfl)
theorem dX4_bringForth_48 : decode cX4_bringForth 48 = .ok (.iconst 0, 1) := dk_3 (dk_at dksX4_bringForth_2 0 rfl rfl)
theorem dX4_bringForth_49 : decode cX4_bringForth 49 = .ok (.istore 6, 2) := dk_54 6 (dk_at dksX4_bringForth_2 1 rfl rfl)
theorem dX4_bringForth_51 : decode cX4_bringForth 51 = .ok (.iconst 0, 1) := dk_3 (dk_at dksX4_bringForth_2 3 rfl rfl)
theorem dX4_bringForth_52 : decode cX4_bringForth 52 = .ok (.istore 7, 2) := dk_54 7 (dk_at dksX4_bringForth_2 4 rfl rfl)
theorem dX4_bringForth_54 : decode cX4_bringForth 54 = .ok (.iload 7, 2) := dk_21 7 (dk_at dksX4_bringForth_2 6 rfl rfl)
theorem dX4_bringForth_56 : decode cX4_bringForth 56 = .ok (.bipush 6, 2) := dk_16 6 (dk_at dksX4_bringForth_2 8 rfl rfl)
theorem dX4_bringForth_58 : decode cX4_bringForth 58 = .ok (.if_icmp .ge 48, 3) := dk_162 0 48 (dk_at dksX4_bringForth_2 10 rfl rfl)
theorem dX4_bringForth_61 : decode cX4_bringForth 61 = .ok (.iload 6, 2) := dk_21 6 (dk_at dksX4_bringForth_2 13 rfl rfl)
theorem dX4_bringForth_63 : decode cX4_bringForth 63 = .ok (.aload_n 0, 1) := dk_42 (dk_at dksX4_bringForth_2 15 rfl rfl)
theorem dX4_bringForth_64 : decode cX4_bringForth 64 = .ok (.getfield 85, 3) := dk_180 0 85 (dk_at dksX4_bringForth_2 16 rfl rfl)
theorem dX4_bringForth_67 : decode cX4_bringForth 67 = .ok (.bipush 16, 2) := dk_16 16 (dk_at dksX4_bringForth_2 19 rfl rfl)
theorem dX4_bringForth_69 : decode cX4_bringForth 69 = .ok (.aload_n 0, 1) := dk_42 (dk_at dksX4_bringForth_2 21 rfl rfl)
theorem dX4_bringForth_70 : decode cX4_bringForth 70 = .ok (.getfield 85, 3) := dk_180 0 85 (dk_at dksX4_bringForth_3 0 rfl rfl)
theorem dX4_bringForth_73 : decode cX4_bringForth 73 = .ok (.bipush 58, 2) := dk_16 58 (dk_at dksX4_bringForth_3 3 rfl rfl)
theorem dX4_bringForth_75 : decode cX4_bringForth 75 = .ok (.iaload, 1) := dk_46 (dk_at dksX4_bringForth_3 5 rfl rfl)
theorem dX4_bringForth_76 : decode cX4_bringForth 76 = .ok (.iload 7, 2) := dk_21 7 (dk_at dksX4_bringForth_3 6 rfl rfl)
theorem dX4_bringForth_78 : decode cX4_bringForth 78 = .ok (.invokestatic 250, 3) := dk_184 0 250 (dk_at dksX4_bringForth_3 8 rfl rfl)
theorem dX4_bringForth_81 : decode cX4_bringForth 81 = .ok (.ifCond .eq 7, 3) := dk_153 0 7 (dk_at dksX4_bringForth_3 11 rfl rfl)
theorem dX4_bringForth_84 : decode cX4_bringForth 84 = .ok (.iload_n 3, 1) := dk_29 (dk_at dksX4_bringForth_3 14 rfl rfl)
theorem dX4_bringForth_85 : decode cX4_bringForth 85 = .ok (.goto 5, 3) := dk_167 0 5 (dk_at dksX4_bringForth_3 15 rfl rfl)
theorem dX4_bringForth_88 : decode cX4_bringForth 88 = .ok (.iload 4, 2) := dk_21 4 (dk_at dksX4_bringForth_3 18 rfl rfl)
theorem dX4_bringForth_90 : decode cX4_bringForth 90 = .ok (.iadd, 1) := dk_96 (dk_at dksX4_bringForth_3 20 rfl rfl)
theorem dX4_bringForth_91 : decode cX4_bringForth 91 = .ok (.iaload, 1) := dk_46 (dk_at dksX4_bringForth_3 21 rfl rfl)
theorem dX4_bringForth_92 : decode cX4_bringForth 92 = .ok (.iconst 1, 1) := dk_4 (dk_at dksX4_bringForth_3 22 rfl rfl)
theorem dX4_bringForth_93 : decode cX4_bringForth 93 = .ok (.iload 7, 2) := dk_21 7 (dk_at dksX4_bringForth_4 0 rfl rfl)
theorem dX4_bringForth_95 : decode cX4_bringForth 95 = .ok (.ishl, 1) := dk_120 (dk_at dksX4_bringForth_4 2 rfl rfl)
theorem dX4_bringForth_96 : decode cX4_bringForth 96 = .ok (.iand, 1) := dk_126 (dk_at dksX4_bringForth_4 3 rfl rfl)
theorem dX4_bringForth_97 : decode cX4_bringForth 97 = .ok (.ior, 1) := dk_128 (dk_at dksX4_bringForth_4 4 rfl rfl)
theorem dX4_bringForth_98 : decode cX4_bringForth 98 = .ok (.istore 6, 2) := dk_54 6 (dk_at dksX4_bringForth_4 5 rfl rfl)
theorem dX4_bringForth_100 : decode cX4_bringForth 100 = .ok (.iinc 7 1, 3) := dk_132 7 1 (dk_at dksX4_bringForth_4 7 rfl rfl)
theorem dX4_bringForth_103 : decode cX4_bringForth 103 = .ok (.goto (-49), 3) := dk_167 255 207 (dk_at dksX4_bringForth_4 10 rfl rfl)
theorem dX4_bringForth_106 : decode cX4_bringForth 106 = .ok (.aload_n 0, 1) := dk_42 (dk_at dksX4_bringForth_4 13 rfl rfl)
theorem dX4_bringForth_107 : decode cX4_bringForth 107 = .ok (.iload_n 2, 1) := dk_28 (dk_at dksX4_bringForth_4 14 rfl rfl)
theorem dX4_bringForth_108 : decode cX4_bringForth 108 = .ok (.invokevirtual 390, 3) := dk_182 1 134 (dk_at dksX4_bringForth_4 15 rfl rfl)
theorem dX4_bringForth_111 : decode cX4_bringForth 111 = .ok (.istore 7, 2) := dk_54 7 (dk_at dksX4_bringForth_4 18 rfl rfl)
theorem dX4_bringForth_113 : decode cX4_bringForth 113 = .ok (.aload_n 0, 1) := dk_42 (dk_at dksX4_bringForth_4 20 rfl rfl)
theorem dX4_bringForth_114 : decode cX4_bringForth 114 = .ok (.getfield 85, 3) := dk_180 0 85 (dk_at dksX4_bringForth_4 21 rfl rfl)
theorem dX4_bringForth_117 : decode cX4_bringForth 117 = .ok (.iconst 0, 1) := dk_3 (dk_at dksX4_bringForth_5 0 rfl rfl)
theorem dX4_bringForth_118 : decode cX4_bringForth 118 = .ok (.iload 5, 2) := dk_21 5 (dk_at dksX4_bringForth_5 1 rfl rfl)
theorem dX4_bringForth_120 : decode cX4_bringForth 120 = .ok (.iadd, 1) := dk_96 (dk_at dksX4_bringForth_5 3 rfl rfl)
theorem dX4_bringForth_121 : decode cX4_bringForth 121 = .ok (.iload 7, 2) := dk_21 7 (dk_at dksX4_bringForth_5 4 rfl rfl)
theorem dX4_bringForth_123 : decode cX4_bringForth 123 = .ok (.iastore, 1) := dk_79 (dk_at dksX4_bringForth_5 6 rfl rfl)
theorem dX4_bringForth_124 : decode cX4_bringForth 124 = .ok (.aload_n 0, 1) := dk_42 (dk_at dksX4_bringForth_5 7 rfl rfl)
theorem dX4_bringForth_125 : decode cX4_bringForth 125 = .ok (.getfield 85, 3) := dk_180 0 85 (dk_at dksX4_bringForth_5 8 rfl rfl)
theorem dX4_bringForth_128 : decode cX4_bringForth 128 = .ok (.bipush 8, 2) := dk_16 8 (dk_at dksX4_bringForth_5 11 rfl rfl)
theorem dX4_bringForth_130 : decode cX4_bringForth 130 = .ok (.iload 5, 2) := dk_21 5 (dk_at dksX4_bringForth_5 13 rfl rfl)
theorem dX4_bringForth_132 : decode cX4_bringForth 132 = .ok (.iadd, 1) := dk_96 (dk_at dksX4_bringForth_5 15 rfl rfl)
theorem dX4_bringForth_133 : decode cX4_bringForth 133 = .ok (.iload_n 1, 1) := dk_27 (dk_at dksX4_bringForth_5 16 rfl rfl)
theorem dX4_bringForth_134 : decode cX4_bringForth 134 = .ok (.iastore, 1) := dk_79 (dk_at dksX4_bringForth_5 17 rfl rfl)
theorem dX4_bringForth_135 : decode cX4_bringForth 135 = .ok (.aload_n 0, 1) := dk_42 (dk_at dksX4_bringForth_5 18 rfl rfl)
theorem dX4_bringForth_136 : decode cX4_bringForth 136 = .ok (.getfield 85, 3) := dk_180 0 85 (dk_at dksX4_bringForth_5 19 rfl rfl)
theorem dX4_bringForth_139 : decode cX4_bringForth 139 = .ok (.bipush 16, 2) := dk_16 16 (dk_at dksX4_bringForth_5 22 rfl rfl)
theorem dX4_bringForth_141 : decode cX4_bringForth 141 = .ok (.iload 5, 2) := dk_21 5 (dk_at dksX4_bringForth_6 0 rfl rfl)
theorem dX4_bringForth_143 : decode cX4_bringForth 143 = .ok (.iadd, 1) := dk_96 (dk_at dksX4_bringForth_6 2 rfl rfl)
theorem dX4_bringForth_144 : decode cX4_bringForth 144 = .ok (.iload 6, 2) := dk_21 6 (dk_at dksX4_bringForth_6 3 rfl rfl)
theorem dX4_bringForth_146 : decode cX4_bringForth 146 = .ok (.iastore, 1) := dk_79 (dk_at dksX4_bringForth_6 5 rfl rfl)
theorem dX4_bringForth_147 : decode cX4_bringForth 147 = .ok (.aload_n 0, 1) := dk_42 (dk_at dksX4_bringForth_6 6 rfl rfl)
theorem dX4_bringForth_148 : decode cX4_bringForth 148 = .ok (.getfield 85, 3) := dk_180 0 85 (dk_at dksX4_bringForth_6 7 rfl rfl)
theorem dX4_bringForth_151 : decode cX4_bringForth 151 = .ok (.bipush 24, 2) := dk_16 24 (dk_at dksX4_bringForth_6 10 rfl rfl)
theorem dX4_bringForth_153 : decode cX4_bringForth 153 = .ok (.iload 5, 2) := dk_21 5 (dk_at dksX4_bringForth_6 12 rfl rfl)
theorem dX4_bringForth_155 : decode cX4_bringForth 155 = .ok (.iadd, 1) := dk_96 (dk_at dksX4_bringForth_6 14 rfl rfl)
theorem dX4_bringForth_156 : decode cX4_bringForth 156 = .ok (.iconst 0, 1) := dk_3 (dk_at dksX4_bringForth_6 15 rfl rfl)
theorem dX4_bringForth_157 : decode cX4_bringForth 157 = .ok (.iastore, 1) := dk_79 (dk_at dksX4_bringForth_6 16 rfl rfl)
theorem dX4_bringForth_158 : decode cX4_bringForth 158 = .ok (.aload_n 0, 1) := dk_42 (dk_at dksX4_bringForth_6 17 rfl rfl)
theorem dX4_bringForth_159 : decode cX4_bringForth 159 = .ok (.getfield 85, 3) := dk_180 0 85 (dk_at dksX4_bringForth_6 18 rfl rfl)
theorem dX4_bringForth_162 : decode cX4_bringForth 162 = .ok (.bipush 32, 2) := dk_16 32 (dk_at dksX4_bringForth_6 21 rfl rfl)
theorem dX4_bringForth_164 : decode cX4_bringForth 164 = .ok (.iload 5, 2) := dk_21 5 (dk_at dksX4_bringForth_7 0 rfl rfl)
theorem dX4_bringForth_166 : decode cX4_bringForth 166 = .ok (.iadd, 1) := dk_96 (dk_at dksX4_bringForth_7 2 rfl rfl)
theorem dX4_bringForth_167 : decode cX4_bringForth 167 = .ok (.iconst 0, 1) := dk_3 (dk_at dksX4_bringForth_7 3 rfl rfl)
theorem dX4_bringForth_168 : decode cX4_bringForth 168 = .ok (.iastore, 1) := dk_79 (dk_at dksX4_bringForth_7 4 rfl rfl)
theorem dX4_bringForth_169 : decode cX4_bringForth 169 = .ok (.aload_n 0, 1) := dk_42 (dk_at dksX4_bringForth_7 5 rfl rfl)
theorem dX4_bringForth_170 : decode cX4_bringForth 170 = .ok (.getfield 85, 3) := dk_180 0 85 (dk_at dksX4_bringForth_7 6 rfl rfl)
theorem dX4_bringForth_173 : decode cX4_bringForth 173 = .ok (.bipush 40, 2) := dk_16 40 (dk_at dksX4_bringForth_7 9 rfl rfl)
theorem dX4_bringForth_175 : decode cX4_bringForth 175 = .ok (.iload 5, 2) := dk_21 5 (dk_at dksX4_bringForth_7 11 rfl rfl)
theorem dX4_bringForth_177 : decode cX4_bringForth 177 = .ok (.iadd, 1) := dk_96 (dk_at dksX4_bringForth_7 13 rfl rfl)
theorem dX4_bringForth_178 : decode cX4_bringForth 178 = .ok (.iload_n 3, 1) := dk_29 (dk_at dksX4_bringForth_7 14 rfl rfl)
theorem dX4_bringForth_179 : decode cX4_bringForth 179 = .ok (.iastore, 1) := dk_79 (dk_at dksX4_bringForth_7 15 rfl rfl)
theorem dX4_bringForth_180 : decode cX4_bringForth 180 = .ok (.aload_n 0, 1) := dk_42 (dk_at dksX4_bringForth_7 16 rfl rfl)
theorem dX4_bringForth_181 : decode cX4_bringForth 181 = .ok (.getfield 85, 3) := dk_180 0 85 (dk_at dksX4_bringForth_7 17 rfl rfl)
theorem dX4_bringForth_184 : decode cX4_bringForth 184 = .ok (.bipush 48, 2) := dk_16 48 (dk_at dksX4_bringForth_7 20 rfl rfl)
theorem dX4_bringForth_186 : decode cX4_bringForth 186 = .ok (.iload 5, 2) := dk_21 5 (dk_at dksX4_bringForth_7 22 rfl rfl)
theorem dX4_bringForth_188 : decode cX4_bringForth 188 = .ok (.iadd, 1) := dk_96 (dk_at dksX4_bringForth_8 0 rfl rfl)
theorem dX4_bringForth_189 : decode cX4_bringForth 189 = .ok (.iload 4, 2) := dk_21 4 (dk_at dksX4_bringForth_8 1 rfl rfl)
theorem dX4_bringForth_191 : decode cX4_bringForth 191 = .ok (.iastore, 1) := dk_79 (dk_at dksX4_bringForth_8 3 rfl rfl)
theorem dX4_bringForth_192 : decode cX4_bringForth 192 = .ok (.return_, 1) := dk_177 (dk_at dksX4_bringForth_8 4 rfl rfl)
abbrev cX4_carry : ByteArray := prog_22_method_82_code
def yX4_carry : MethodName := ⟨RX4, "carry", "(II)I"⟩
def dkwX4_carry_1 : List UInt8 := [62, 42, 180, 0, 85, 16, 8, 27, 96, 28, 79, 29, 172]
abbrev dktX4_carry_1 : List UInt8 := dkwX4_carry_1 ++ []
def dkwX4_carry_0 : List UInt8 := [42, 27, 28, 182, 1, 168, 154, 0, 5, 2, 172, 42, 182, 1, 165, 42, 180, 0, 85, 16, 8, 27, 96, 46]
abbrev dktX4_carry_0 : List UInt8 := dkwX4_carry_0 ++ dktX4_carry_1
theorem dksX4_carry_0 : cX4_carry.data.toList.drop 0 = dktX4_carry_0 := by decide +kernel
theorem dksX4_carry_1 : cX4_carry.data.toList.drop 24 = dktX4_carry_1 := dk_seg dksX4_carry_0 24 rfl rfl
theorem dX4_carry_0 : decode cX4_carry 0 = .ok (.aload_n 0, 1) := dk_42 (dk_at dksX4_carry_0 0 rfl rfl)
theorem dX4_carry_1 : decode cX4_carry 1 = .ok (.iload_n 1, 1) := dk_27 (dk_at dksX4_carry_0 1 rfl rfl)
theorem dX4_carry_2 : decode cX4_carry 2 = .ok (.iload_n 2, 1) := dk_28 (dk_at dksX4_carry_0 2 rfl rfl)
theorem dX4_carry_3 : decode cX4_carry 3 = .ok (.invokevirtual 424, 3) := dk_182 1 168 (dk_at dksX4_carry_0 3 rfl rfl)
theorem dX4_carry_6 : decode cX4_carry 6 = .ok (.ifCond .ne 5, 3) := dk_154 0 5 (dk_at dksX4_carry_0 6 rfl rfl)
theorem dX4_carry_9 : decode cX4_carry 9 = .ok (.iconst (-1), 1) := dk_2 (dk_at dksX4_carry_0 9 rfl rfl)
theorem dX4_carry_10 : decode cX4_carry 10 = .ok (.ireturn, 1) := dk_172 (dk_at dksX4_carry_0 10 rfl rfl)
theorem dX4_carry_11 : decode cX4_carry 11 = .ok (.aload_n 0, 1) := dk_42 (dk_at dksX4_carry_0 11 rfl rfl)
theorem dX4_carry_12 : decode cX4_carry 12 = .ok (.invokevirtual 421, 3) := dk_182 1 165 (dk_at dksX4_carry_0 12 rfl rfl)
theorem dX4_carry_15 : decode cX4_carry 15 = .ok (.aload_n 0, 1) := dk_42 (dk_at dksX4_carry_0 15 rfl rfl)
theorem dX4_carry_16 : decode cX4_carry 16 = .ok (.getfield 85, 3) := dk_180 0 85 (dk_at dksX4_carry_0 16 rfl rfl)
theorem dX4_carry_19 : decode cX4_carry 19 = .ok (.bipush 8, 2) := dk_16 8 (dk_at dksX4_carry_0 19 rfl rfl)
theorem dX4_carry_21 : decode cX4_carry 21 = .ok (.iload_n 1, 1) := dk_27 (dk_at dksX4_carry_0 21 rfl rfl)
theorem dX4_carry_22 : decode cX4_carry 22 = .ok (.iadd, 1) := dk_96 (dk_at dksX4_carry_0 22 rfl rfl)
theorem dX4_carry_23 : decode cX4_carry 23 = .ok (.iaload, 1) := dk_46 (dk_at dksX4_carry_0 23 rfl rfl)
theorem dX4_carry_24 : decode cX4_carry 24 = .ok (.istore_n 3, 1) := dk_62 (dk_at dksX4_carry_1 0 rfl rfl)
theorem dX4_carry_25 : decode cX4_carry 25 = .ok (.aload_n 0, 1) := dk_42 (dk_at dksX4_carry_1 1 rfl rfl)
theorem dX4_carry_26 : decode cX4_carry 26 = .ok (.getfield 85, 3) := dk_180 0 85 (dk_at dksX4_carry_1 2 rfl rfl)
theorem dX4_carry_29 : decode cX4_carry 29 = .ok (.bipush 8, 2) := dk_16 8 (dk_at dksX4_carry_1 5 rfl rfl)
theorem dX4_carry_31 : decode cX4_carry 31 = .ok (.iload_n 1, 1) := dk_27 (dk_at dksX4_carry_1 7 rfl rfl)
theorem dX4_carry_32 : decode cX4_carry 32 = .ok (.iadd, 1) := dk_96 (dk_at dksX4_carry_1 8 rfl rfl)
theorem dX4_carry_33 : decode cX4_carry 33 = .ok (.iload_n 2, 1) := dk_28 (dk_at dksX4_carry_1 9 rfl rfl)
theorem dX4_carry_34 : decode cX4_carry 34 = .ok (.iastore, 1) := dk_79 (dk_at dksX4_carry_1 10 rfl rfl)
theorem dX4_carry_35 : decode cX4_carry 35 = .ok (.iload_n 3, 1) := dk_29 (dk_at dksX4_carry_1 11 rfl rfl)
theorem dX4_carry_36 : decode cX4_carry 36 = .ok (.ireturn, 1) := dk_172 (dk_at dksX4_carry_1 12 rfl rfl)
abbrev cX4_canCarry : ByteArray := prog_22_method_81_code
def yX4_canCarry : MethodName := ⟨RX4, "canCarry", "(II)Z"⟩
def dkwX4_canCarry_2 : List UInt8 := [167, 0, 4, 3, 172]
abbrev dktX4_canCarry_2 : List UInt8 := dkwX4_canCarry_2 ++ []
def dkwX4_canCarry_1 : List UInt8 := [46, 28, 159, 0, 23, 42, 28, 182, 1, 72, 42, 180, 0, 85, 3, 27, 96, 46, 161, 0, 7, 4]
abbrev dktX4_canCarry_1 : List UInt8 := dkwX4_canCarry_1 ++ dktX4_canCarry_2
def dkwX4_canCarry_0 : List UInt8 := [42, 27, 182, 1, 155, 153, 0, 44, 42, 28, 182, 1, 152, 153, 0, 36, 42, 180, 0, 85, 16, 8, 27, 96]
abbrev dktX4_canCarry_0 : List UInt8 := dkwX4_canCarry_0 ++ dktX4_canCarry_1
theorem dksX4_canCarry_0 : cX4_canCarry.data.toList.drop 0 = dktX4_canCarry_0 := by decide +kernel
theorem dksX4_canCarry_1 : cX4_canCarry.data.toList.drop 24 = dktX4_canCarry_1 := dk_seg dksX4_canCarry_0 24 rfl rfl
theorem dksX4_canCarry_2 : cX4_canCarry.data.toList.drop 46 = dktX4_canCarry_2 := dk_seg dksX4_canCarry_1 22 rfl rfl
theorem dX4_canCarry_0 : decode cX4_canCarry 0 = .ok (.aload_n 0, 1) := dk_42 (dk_at dksX4_canCarry_0 0 rfl rfl)
theorem dX4_canCarry_1 : decode cX4_canCarry 1 = .ok (.iload_n 1, 1) := dk_27 (dk_at dksX4_canCarry_0 1 rfl rfl)
theorem dX4_canCarry_2 : decode cX4_canCarry 2 = .ok (.invokevirtual 411, 3) := dk_182 1 155 (dk_at dksX4_canCarry_0 2 rfl rfl)
theorem dX4_canCarry_5 : decode cX4_canCarry 5 = .ok (.ifCond .eq 44, 3) := dk_153 0 44 (dk_at dksX4_canCarry_0 5 rfl rfl)
theorem dX4_canCarry_8 : decode cX4_canCarry 8 = .ok (.aload_n 0, 1) := dk_42 (dk_at dksX4_canCarry_0 8 rfl rfl)
theorem dX4_canCarry_9 : decode cX4_canCarry 9 = .ok (.iload_n 2, 1) := dk_28 (dk_at dksX4_canCarry_0 9 rfl rfl)
theorem dX4_canCarry_10 : decode cX4_canCarry 10 = .ok (.invokevirtual 408, 3) := dk_182 1 152 (dk_at dksX4_canCarry_0 10 rfl rfl)
theorem dX4_canCarry_13 : decode cX4_canCarry 13 = .ok (.ifCond .eq 36, 3) := dk_153 0 36 (dk_at dksX4_canCarry_0 13 rfl rfl)
theorem dX4_canCarry_16 : decode cX4_canCarry 16 = .ok (.aload_n 0, 1) := dk_42 (dk_at dksX4_canCarry_0 16 rfl rfl)
theorem dX4_canCarry_17 : decode cX4_canCarry 17 = .ok (.getfield 85, 3) := dk_180 0 85 (dk_at dksX4_canCarry_0 17 rfl rfl)
theorem dX4_canCarry_20 : decode cX4_canCarry 20 = .ok (.bipush 8, 2) := dk_16 8 (dk_at dksX4_canCarry_0 20 rfl rfl)
theorem dX4_canCarry_22 : decode cX4_canCarry 22 = .ok (.iload_n 1, 1) := dk_27 (dk_at dksX4_canCarry_0 22 rfl rfl)
theorem dX4_canCarry_23 : decode cX4_canCarry 23 = .ok (.iadd, 1) := dk_96 (dk_at dksX4_canCarry_0 23 rfl rfl)
theorem dX4_canCarry_24 : decode cX4_canCarry 24 = .ok (.iaload, 1) := dk_46 (dk_at dksX4_canCarry_1 0 rfl rfl)
theorem dX4_canCarry_25 : decode cX4_canCarry 25 = .ok (.iload_n 2, 1) := dk_28 (dk_at dksX4_canCarry_1 1 rfl rfl)
theorem dX4_canCarry_26 : decode cX4_canCarry 26 = .ok (.if_icmp .eq 23, 3) := dk_159 0 23 (dk_at dksX4_canCarry_1 2 rfl rfl)
theorem dX4_canCarry_29 : decode cX4_canCarry 29 = .ok (.aload_n 0, 1) := dk_42 (dk_at dksX4_canCarry_1 5 rfl rfl)
theorem dX4_canCarry_30 : decode cX4_canCarry 30 = .ok (.iload_n 2, 1) := dk_28 (dk_at dksX4_canCarry_1 6 rfl rfl)
theorem dX4_canCarry_31 : decode cX4_canCarry 31 = .ok (.invokevirtual 328, 3) := dk_182 1 72 (dk_at dksX4_canCarry_1 7 rfl rfl)
theorem dX4_canCarry_34 : decode cX4_canCarry 34 = .ok (.aload_n 0, 1) := dk_42 (dk_at dksX4_canCarry_1 10 rfl rfl)
theorem dX4_canCarry_35 : decode cX4_canCarry 35 = .ok (.getfield 85, 3) := dk_180 0 85 (dk_at dksX4_canCarry_1 11 rfl rfl)
theorem dX4_canCarry_38 : decode cX4_canCarry 38 = .ok (.iconst 0, 1) := dk_3 (dk_at dksX4_canCarry_1 14 rfl rfl)
theorem dX4_canCarry_39 : decode cX4_canCarry 39 = .ok (.iload_n 1, 1) := dk_27 (dk_at dksX4_canCarry_1 15 rfl rfl)
theorem dX4_canCarry_40 : decode cX4_canCarry 40 = .ok (.iadd, 1) := dk_96 (dk_at dksX4_canCarry_1 16 rfl rfl)
theorem dX4_canCarry_41 : decode cX4_canCarry 41 = .ok (.iaload, 1) := dk_46 (dk_at dksX4_canCarry_1 17 rfl rfl)
theorem dX4_canCarry_42 : decode cX4_canCarry 42 = .ok (.if_icmp .lt 7, 3) := dk_161 0 7 (dk_at dksX4_canCarry_1 18 rfl rfl)
theorem dX4_canCarry_45 : decode cX4_canCarry 45 = .ok (.iconst 1, 1) := dk_4 (dk_at dksX4_canCarry_1 21 rfl rfl)
theorem dX4_canCarry_46 : decode cX4_canCarry 46 = .ok (.goto 4, 3) := dk_167 0 4 (dk_at dksX4_canCarry_2 0 rfl rfl)
theorem dX4_canCarry_49 : decode cX4_canCarry 49 = .ok (.iconst 0, 1) := dk_3 (dk_at dksX4_canCarry_2 3 rfl rfl)
theorem dX4_canCarry_50 : decode cX4_canCarry 50 = .ok (.ireturn, 1) := dk_172 (dk_at dksX4_canCarry_2 4 rfl rfl)
abbrev cX4_tell : ByteArray := prog_22_method_83_code
def yX4_tell : MethodName := ⟨RX4, "tell", "(I)I"⟩
def dkwX4_tell_2 : List UInt8 := [79, 42, 180, 0, 85, 16, 24, 27, 96, 92, 46, 4, 96, 79, 42, 180, 0, 85, 16, 24, 27, 96, 46, 172]
abbrev dktX4_tell_2 : List UInt8 := dkwX4_tell_2 ++ []
def dkwX4_tell_1 : List UInt8 := [27, 96, 46, 16, 9, 160, 0, 5, 2, 172, 42, 182, 1, 165, 42, 180, 0, 85, 16, 56, 92, 46, 4, 100]
abbrev dktX4_tell_1 : List UInt8 := dkwX4_tell_1 ++ dktX4_tell_2
def dkwX4_tell_0 : List UInt8 := [42, 27, 182, 1, 155, 153, 0, 27, 42, 180, 0, 85, 16, 56, 46, 153, 0, 17, 42, 180, 0, 85, 16, 24]
abbrev dktX4_tell_0 : List UInt8 := dkwX4_tell_0 ++ dktX4_tell_1
theorem dksX4_tell_0 : cX4_tell.data.toList.drop 0 = dktX4_tell_0 := by decide +kernel
theorem dksX4_tell_1 : cX4_tell.data.toList.drop 24 = dktX4_tell_1 := dk_seg dksX4_tell_0 24 rfl rfl
theorem dksX4_tell_2 : cX4_tell.data.toList.drop 48 = dktX4_tell_2 := dk_seg dksX4_tell_1 24 rfl rfl
theorem dX4_tell_0 : decode cX4_tell 0 = .ok (.aload_n 0, 1) := dk_42 (dk_at dksX4_tell_0 0 rfl rfl)
theorem dX4_tell_1 : decode cX4_tell 1 = .ok (.iload_n 1, 1) := dk_27 (dk_at dksX4_tell_0 1 rfl rfl)
theorem dX4_tell_2 : decode cX4_tell 2 = .ok (.invokevirtual 411, 3) := dk_182 1 155 (dk_at dksX4_tell_0 2 rfl rfl)
theorem dX4_tell_5 : decode cX4_tell 5 = .ok (.ifCond .eq 27, 3) := dk_153 0 27 (dk_at dksX4_tell_0 5 rfl rfl)
theorem dX4_tell_8 : decode cX4_tell 8 = .ok (.aload_n 0, 1) := dk_42 (dk_at dksX4_tell_0 8 rfl rfl)
theorem dX4_tell_9 : decode cX4_tell 9 = .ok (.getfield 85, 3) := dk_180 0 85 (dk_at dksX4_tell_0 9 rfl rfl)
theorem dX4_tell_12 : decode cX4_tell 12 = .ok (.bipush 56, 2) := dk_16 56 (dk_at dksX4_tell_0 12 rfl rfl)
theorem dX4_tell_14 : decode cX4_tell 14 = .ok (.iaload, 1) := dk_46 (dk_at dksX4_tell_0 14 rfl rfl)
theorem dX4_tell_15 : decode cX4_tell 15 = .ok (.ifCond .eq 17, 3) := dk_153 0 17 (dk_at dksX4_tell_0 15 rfl rfl)
theorem dX4_tell_18 : decode cX4_tell 18 = .ok (.aload_n 0, 1) := dk_42 (dk_at dksX4_tell_0 18 rfl rfl)
theorem dX4_tell_19 : decode cX4_tell 19 = .ok (.getfield 85, 3) := dk_180 0 85 (dk_at dksX4_tell_0 19 rfl rfl)
theorem dX4_tell_22 : decode cX4_tell 22 = .ok (.bipush 24, 2) := dk_16 24 (dk_at dksX4_tell_0 22 rfl rfl)
theorem dX4_tell_24 : decode cX4_tell 24 = .ok (.iload_n 1, 1) := dk_27 (dk_at dksX4_tell_1 0 rfl rfl)
theorem dX4_tell_25 : decode cX4_tell 25 = .ok (.iadd, 1) := dk_96 (dk_at dksX4_tell_1 1 rfl rfl)
theorem dX4_tell_26 : decode cX4_tell 26 = .ok (.iaload, 1) := dk_46 (dk_at dksX4_tell_1 2 rfl rfl)
theorem dX4_tell_27 : decode cX4_tell 27 = .ok (.bipush 9, 2) := dk_16 9 (dk_at dksX4_tell_1 3 rfl rfl)
theorem dX4_tell_29 : decode cX4_tell 29 = .ok (.if_icmp .ne 5, 3) := dk_160 0 5 (dk_at dksX4_tell_1 5 rfl rfl)
theorem dX4_tell_32 : decode cX4_tell 32 = .ok (.iconst (-1), 1) := dk_2 (dk_at dksX4_tell_1 8 rfl rfl)
theorem dX4_tell_33 : decode cX4_tell 33 = .ok (.ireturn, 1) := dk_172 (dk_at dksX4_tell_1 9 rfl rfl)
theorem dX4_tell_34 : decode cX4_tell 34 = .ok (.aload_n 0, 1) := dk_42 (dk_at dksX4_tell_1 10 rfl rfl)
theorem dX4_tell_35 : decode cX4_tell 35 = .ok (.invokevirtual 421, 3) := dk_182 1 165 (dk_at dksX4_tell_1 11 rfl rfl)
theorem dX4_tell_38 : decode cX4_tell 38 = .ok (.aload_n 0, 1) := dk_42 (dk_at dksX4_tell_1 14 rfl rfl)
theorem dX4_tell_39 : decode cX4_tell 39 = .ok (.getfield 85, 3) := dk_180 0 85 (dk_at dksX4_tell_1 15 rfl rfl)
theorem dX4_tell_42 : decode cX4_tell 42 = .ok (.bipush 56, 2) := dk_16 56 (dk_at dksX4_tell_1 18 rfl rfl)
theorem dX4_tell_44 : decode cX4_tell 44 = .ok (.dup2, 1) := dk_92 (dk_at dksX4_tell_1 20 rfl rfl)
theorem dX4_tell_45 : decode cX4_tell 45 = .ok (.iaload, 1) := dk_46 (dk_at dksX4_tell_1 21 rfl rfl)
theorem dX4_tell_46 : decode cX4_tell 46 = .ok (.iconst 1, 1) := dk_4 (dk_at dksX4_tell_1 22 rfl rfl)
theorem dX4_tell_47 : decode cX4_tell 47 = .ok (.isub, 1) := dk_100 (dk_at dksX4_tell_1 23 rfl rfl)
theorem dX4_tell_48 : decode cX4_tell 48 = .ok (.iastore, 1) := dk_79 (dk_at dksX4_tell_2 0 rfl rfl)
theorem dX4_tell_49 : decode cX4_tell 49 = .ok (.aload_n 0, 1) := dk_42 (dk_at dksX4_tell_2 1 rfl rfl)
theorem dX4_tell_50 : decode cX4_tell 50 = .ok (.getfield 85, 3) := dk_180 0 85 (dk_at dksX4_tell_2 2 rfl rfl)
theorem dX4_tell_53 : decode cX4_tell 53 = .ok (.bipush 24, 2) := dk_16 24 (dk_at dksX4_tell_2 5 rfl rfl)
theorem dX4_tell_55 : decode cX4_tell 55 = .ok (.iload_n 1, 1) := dk_27 (dk_at dksX4_tell_2 7 rfl rfl)
theorem dX4_tell_56 : decode cX4_tell 56 = .ok (.iadd, 1) := dk_96 (dk_at dksX4_tell_2 8 rfl rfl)
theorem dX4_tell_57 : decode cX4_tell 57 = .ok (.dup2, 1) := dk_92 (dk_at dksX4_tell_2 9 rfl rfl)
theorem dX4_tell_58 : decode cX4_tell 58 = .ok (.iaload, 1) := dk_46 (dk_at dksX4_tell_2 10 rfl rfl)
theorem dX4_tell_59 : decode cX4_tell 59 = .ok (.iconst 1, 1) := dk_4 (dk_at dksX4_tell_2 11 rfl rfl)
theorem dX4_tell_60 : decode cX4_tell 60 = .ok (.iadd, 1) := dk_96 (dk_at dksX4_tell_2 12 rfl rfl)
theorem dX4_tell_61 : decode cX4_tell 61 = .ok (.iastore, 1) := dk_79 (dk_at dksX4_tell_2 13 rfl rfl)
theorem dX4_tell_62 : decode cX4_tell 62 = .ok (.aload_n 0, 1) := dk_42 (dk_at dksX4_tell_2 14 rfl rfl)
theorem dX4_tell_63 : decode cX4_tell 63 = .ok (.getfield 85, 3) := dk_180 0 85 (dk_at dksX4_tell_2 15 rfl rfl)
theorem dX4_tell_66 : decode cX4_tell 66 = .ok (.bipush 24, 2) := dk_16 24 (dk_at dksX4_tell_2 18 rfl rfl)
theorem dX4_tell_68 : decode cX4_tell 68 = .ok (.iload_n 1, 1) := dk_27 (dk_at dksX4_tell_2 20 rfl rfl)
theorem dX4_tell_69 : decode cX4_tell 69 = .ok (.iadd, 1) := dk_96 (dk_at dksX4_tell_2 21 rfl rfl)
theorem dX4_tell_70 : decode cX4_tell 70 = .ok (.iaload, 1) := dk_46 (dk_at dksX4_tell_2 22 rfl rfl)
theorem dX4_tell_71 : decode cX4_tell 71 = .ok (.ireturn, 1) := dk_172 (dk_at dksX4_tell_2 23 rfl rfl)
abbrev cX4_lose : ByteArray := prog_22_method_84_code
def yX4_lose : MethodName := ⟨RX4, "lose", "(I)I"⟩
def dkwX4_lose_1 : List UInt8 := [27, 182, 1, 137, 28, 172]
abbrev dktX4_lose_1 : List UInt8 := dkwX4_lose_1 ++ []
def dkwX4_lose_0 : List UInt8 := [42, 27, 182, 1, 155, 154, 0, 5, 2, 172, 42, 182, 1, 165, 42, 180, 0, 85, 3, 27, 96, 46, 61, 42]
abbrev dktX4_lose_0 : List UInt8 := dkwX4_lose_0 ++ dktX4_lose_1
theorem dksX4_lose_0 : cX4_lose.data.toList.drop 0 = dktX4_lose_0 := by decide +kernel
theorem dksX4_lose_1 : cX4_lose.data.toList.drop 24 = dktX4_lose_1 := dk_seg dksX4_lose_0 24 rfl rfl
theorem dX4_lose_0 : decode cX4_lose 0 = .ok (.aload_n 0, 1) := dk_42 (dk_at dksX4_lose_0 0 rfl rfl)
theorem dX4_lose_1 : decode cX4_lose 1 = .ok (.iload_n 1, 1) := dk_27 (dk_at dksX4_lose_0 1 rfl rfl)
theorem dX4_lose_2 : decode cX4_lose 2 = .ok (.invokevirtual 411, 3) := dk_182 1 155 (dk_at dksX4_lose_0 2 rfl rfl)
theorem dX4_lose_5 : decode cX4_lose 5 = .ok (.ifCond .ne 5, 3) := dk_154 0 5 (dk_at dksX4_lose_0 5 rfl rfl)
theorem dX4_lose_8 : decode cX4_lose 8 = .ok (.iconst (-1), 1) := dk_2 (dk_at dksX4_lose_0 8 rfl rfl)
theorem dX4_lose_9 : decode cX4_lose 9 = .ok (.ireturn, 1) := dk_172 (dk_at dksX4_lose_0 9 rfl rfl)
theorem dX4_lose_10 : decode cX4_lose 10 = .ok (.aload_n 0, 1) := dk_42 (dk_at dksX4_lose_0 10 rfl rfl)
theorem dX4_lose_11 : decode cX4_lose 11 = .ok (.invokevirtual 421, 3) := dk_182 1 165 (dk_at dksX4_lose_0 11 rfl rfl)
theorem dX4_lose_14 : decode cX4_lose 14 = .ok (.aload_n 0, 1) := dk_42 (dk_at dksX4_lose_0 14 rfl rfl)
theorem dX4_lose_15 : decode cX4_lose 15 = .ok (.getfield 85, 3) := dk_180 0 85 (dk_at dksX4_lose_0 15 rfl rfl)
theorem dX4_lose_18 : decode cX4_lose 18 = .ok (.iconst 0, 1) := dk_3 (dk_at dksX4_lose_0 18 rfl rfl)
theorem dX4_lose_19 : decode cX4_lose 19 = .ok (.iload_n 1, 1) := dk_27 (dk_at dksX4_lose_0 19 rfl rfl)
theorem dX4_lose_20 : decode cX4_lose 20 = .ok (.iadd, 1) := dk_96 (dk_at dksX4_lose_0 20 rfl rfl)
theorem dX4_lose_21 : decode cX4_lose 21 = .ok (.iaload, 1) := dk_46 (dk_at dksX4_lose_0 21 rfl rfl)
theorem dX4_lose_22 : decode cX4_lose 22 = .ok (.istore_n 2, 1) := dk_61 (dk_at dksX4_lose_0 22 rfl rfl)
theorem dX4_lose_23 : decode cX4_lose 23 = .ok (.aload_n 0, 1) := dk_42 (dk_at dksX4_lose_0 23 rfl rfl)
theorem dX4_lose_24 : decode cX4_lose 24 = .ok (.iload_n 1, 1) := dk_27 (dk_at dksX4_lose_1 0 rfl rfl)
theorem dX4_lose_25 : decode cX4_lose 25 = .ok (.invokevirtual 393, 3) := dk_182 1 137 (dk_at dksX4_lose_1 1 rfl rfl)
theorem dX4_lose_28 : decode cX4_lose 28 = .ok (.iload_n 2, 1) := dk_28 (dk_at dksX4_lose_1 4 rfl rfl)
theorem dX4_lose_29 : decode cX4_lose 29 = .ok (.ireturn, 1) := dk_172 (dk_at dksX4_lose_1 5 rfl rfl)
abbrev cX4_undo : ByteArray := prog_22_method_85_code
def yX4_undo : MethodName := ⟨RX4, "undo", "()Z"⟩
def dkwX4_undo_1 : List UInt8 := [4, 96, 181, 1, 110, 42, 182, 1, 171, 4, 172]
abbrev dktX4_undo_1 : List UInt8 := dkwX4_undo_1 ++ []
def dkwX4_undo_0 : List UInt8 := [42, 180, 1, 107, 154, 0, 5, 3, 172, 42, 89, 180, 1, 107, 4, 100, 181, 1, 107, 42, 89, 180, 1, 110]
abbrev dktX4_undo_0 : List UInt8 := dkwX4_undo_0 ++ dktX4_undo_1
theorem dksX4_undo_0 : cX4_undo.data.toList.drop 0 = dktX4_undo_0 := by decide +kernel
theorem dksX4_undo_1 : cX4_undo.data.toList.drop 24 = dktX4_undo_1 := dk_seg dksX4_undo_0 24 rfl rfl
theorem dX4_undo_0 : decode cX4_undo 0 = .ok (.aload_n 0, 1) := dk_42 (dk_at dksX4_undo_0 0 rfl rfl)
theorem dX4_undo_1 : decode cX4_undo 1 = .ok (.getfield 363, 3) := dk_180 1 107 (dk_at dksX4_undo_0 1 rfl rfl)
theorem dX4_undo_4 : decode cX4_undo 4 = .ok (.ifCond .ne 5, 3) := dk_154 0 5 (dk_at dksX4_undo_0 4 rfl rfl)
theorem dX4_undo_7 : decode cX4_undo 7 = .ok (.iconst 0, 1) := dk_3 (dk_at dksX4_undo_0 7 rfl rfl)
theorem dX4_undo_8 : decode cX4_undo 8 = .ok (.ireturn, 1) := dk_172 (dk_at dksX4_undo_0 8 rfl rfl)
theorem dX4_undo_9 : decode cX4_undo 9 = .ok (.aload_n 0, 1) := dk_42 (dk_at dksX4_undo_0 9 rfl rfl)
theorem dX4_undo_10 : decode cX4_undo 10 = .ok (.dup, 1) := dk_89 (dk_at dksX4_undo_0 10 rfl rfl)
theorem dX4_undo_11 : decode cX4_undo 11 = .ok (.getfield 363, 3) := dk_180 1 107 (dk_at dksX4_undo_0 11 rfl rfl)
theorem dX4_undo_14 : decode cX4_undo 14 = .ok (.iconst 1, 1) := dk_4 (dk_at dksX4_undo_0 14 rfl rfl)
theorem dX4_undo_15 : decode cX4_undo 15 = .ok (.isub, 1) := dk_100 (dk_at dksX4_undo_0 15 rfl rfl)
theorem dX4_undo_16 : decode cX4_undo 16 = .ok (.putfield 363, 3) := dk_181 1 107 (dk_at dksX4_undo_0 16 rfl rfl)
theorem dX4_undo_19 : decode cX4_undo 19 = .ok (.aload_n 0, 1) := dk_42 (dk_at dksX4_undo_0 19 rfl rfl)
theorem dX4_undo_20 : decode cX4_undo 20 = .ok (.dup, 1) := dk_89 (dk_at dksX4_undo_0 20 rfl rfl)
theorem dX4_undo_21 : decode cX4_undo 21 = .ok (.getfield 366, 3) := dk_180 1 110 (dk_at dksX4_undo_0 21 rfl rfl)
theorem dX4_undo_24 : decode cX4_undo 24 = .ok (.iconst 1, 1) := dk_4 (dk_at dksX4_undo_1 0 rfl rfl)
theorem dX4_undo_25 : decode cX4_undo 25 = .ok (.iadd, 1) := dk_96 (dk_at dksX4_undo_1 1 rfl rfl)
theorem dX4_undo_26 : decode cX4_undo 26 = .ok (.putfield 366, 3) := dk_181 1 110 (dk_at dksX4_undo_1 2 rfl rfl)
theorem dX4_undo_29 : decode cX4_undo 29 = .ok (.aload_n 0, 1) := dk_42 (dk_at dksX4_undo_1 5 rfl rfl)
theorem dX4_undo_30 : decode cX4_undo 30 = .ok (.invokevirtual 427, 3) := dk_182 1 171 (dk_at dksX4_undo_1 6 rfl rfl)
theorem dX4_undo_33 : decode cX4_undo 33 = .ok (.iconst 1, 1) := dk_4 (dk_at dksX4_undo_1 9 rfl rfl)
theorem dX4_undo_34 : decode cX4_undo 34 = .ok (.ireturn, 1) := dk_172 (dk_at dksX4_undo_1 10 rfl rfl)
abbrev cX4_swapAll : ByteArray := prog_22_method_79_code
def yX4_swapAll : MethodName := ⟨RX4, "swapAll", "()V"⟩
def dkwX4_swapAll_2 : List UInt8 := [28, 79, 132, 1, 1, 167, 255, 205, 177]
abbrev dktX4_swapAll_2 : List UInt8 := dkwX4_swapAll_2 ++ []
def dkwX4_swapAll_1 : List UInt8 := [180, 0, 94, 16, 59, 42, 180, 1, 107, 104, 27, 96, 42, 180, 0, 85, 27, 46, 79, 42, 180, 0, 85, 27]
abbrev dktX4_swapAll_1 : List UInt8 := dkwX4_swapAll_1 ++ dktX4_swapAll_2
def dkwX4_swapAll_0 : List UInt8 := [3, 60, 27, 16, 59, 162, 0, 51, 42, 180, 0, 94, 16, 59, 42, 180, 1, 107, 104, 27, 96, 46, 61, 42]
abbrev dktX4_swapAll_0 : List UInt8 := dkwX4_swapAll_0 ++ dktX4_swapAll_1
theorem dksX4_swapAll_0 : cX4_swapAll.data.toList.drop 0 = dktX4_swapAll_0 := by decide +kernel
theorem dksX4_swapAll_1 : cX4_swapAll.data.toList.drop 24 = dktX4_swapAll_1 := dk_seg dksX4_swapAll_0 24 rfl rfl
theorem dksX4_swapAll_2 : cX4_swapAll.data.toList.drop 48 = dktX4_swapAll_2 := dk_seg dksX4_swapAll_1 24 rfl rfl
theorem dX4_swapAll_0 : decode cX4_swapAll 0 = .ok (.iconst 0, 1) := dk_3 (dk_at dksX4_swapAll_0 0 rfl rfl)
theorem dX4_swapAll_1 : decode cX4_swapAll 1 = .ok (.istore_n 1, 1) := dk_60 (dk_at dksX4_swapAll_0 1 rfl rfl)
theorem dX4_swapAll_2 : decode cX4_swapAll 2 = .ok (.iload_n 1, 1) := dk_27 (dk_at dksX4_swapAll_0 2 rfl rfl)
theorem dX4_swapAll_3 : decode cX4_swapAll 3 = .ok (.bipush 59, 2) := dk_16 59 (dk_at dksX4_swapAll_0 3 rfl rfl)
theorem dX4_swapAll_5 : decode cX4_swapAll 5 = .ok (.if_icmp .ge 51, 3) := dk_162 0 51 (dk_at dksX4_swapAll_0 5 rfl rfl)
theorem dX4_swapAll_8 : decode cX4_swapAll 8 = .ok (.aload_n 0, 1) := dk_42 (dk_at dksX4_swapAll_0 8 rfl rfl)
theorem dX4_swapAll_9 : decode cX4_swapAll 9 = .ok (.getfield 94, 3) := dk_180 0 94 (dk_at dksX4_swapAll_0 9 rfl rfl)
theorem dX4_swapAll_12 : decode cX4_swapAll 12 = .ok (.bipush 59, 2) := dk_16 59 (dk_at dksX4_swapAll_0 12 rfl rfl)
theorem dX4_swapAll_14 : decode cX4_swapAll 14 = .ok (.aload_n 0, 1) := dk_42 (dk_at dksX4_swapAll_0 14 rfl rfl)
theorem dX4_swapAll_15 : decode cX4_swapAll 15 = .ok (.getfield 363, 3) := dk_180 1 107 (dk_at dksX4_swapAll_0 15 rfl rfl)
theorem dX4_swapAll_18 : decode cX4_swapAll 18 = .ok (.imul, 1) := dk_104 (dk_at dksX4_swapAll_0 18 rfl rfl)
theorem dX4_swapAll_19 : decode cX4_swapAll 19 = .ok (.iload_n 1, 1) := dk_27 (dk_at dksX4_swapAll_0 19 rfl rfl)
theorem dX4_swapAll_20 : decode cX4_swapAll 20 = .ok (.iadd, 1) := dk_96 (dk_at dksX4_swapAll_0 20 rfl rfl)
theorem dX4_swapAll_21 : decode cX4_swapAll 21 = .ok (.iaload, 1) := dk_46 (dk_at dksX4_swapAll_0 21 rfl rfl)
theorem dX4_swapAll_22 : decode cX4_swapAll 22 = .ok (.istore_n 2, 1) := dk_61 (dk_at dksX4_swapAll_0 22 rfl rfl)
theorem dX4_swapAll_23 : decode cX4_swapAll 23 = .ok (.aload_n 0, 1) := dk_42 (dk_at dksX4_swapAll_0 23 rfl rfl)
theorem dX4_swapAll_24 : decode cX4_swapAll 24 = .ok (.getfield 94, 3) := dk_180 0 94 (dk_at dksX4_swapAll_1 0 rfl rfl)
theorem dX4_swapAll_27 : decode cX4_swapAll 27 = .ok (.bipush 59, 2) := dk_16 59 (dk_at dksX4_swapAll_1 3 rfl rfl)
theorem dX4_swapAll_29 : decode cX4_swapAll 29 = .ok (.aload_n 0, 1) := dk_42 (dk_at dksX4_swapAll_1 5 rfl rfl)
theorem dX4_swapAll_30 : decode cX4_swapAll 30 = .ok (.getfield 363, 3) := dk_180 1 107 (dk_at dksX4_swapAll_1 6 rfl rfl)
theorem dX4_swapAll_33 : decode cX4_swapAll 33 = .ok (.imul, 1) := dk_104 (dk_at dksX4_swapAll_1 9 rfl rfl)
theorem dX4_swapAll_34 : decode cX4_swapAll 34 = .ok (.iload_n 1, 1) := dk_27 (dk_at dksX4_swapAll_1 10 rfl rfl)
theorem dX4_swapAll_35 : decode cX4_swapAll 35 = .ok (.iadd, 1) := dk_96 (dk_at dksX4_swapAll_1 11 rfl rfl)
theorem dX4_swapAll_36 : decode cX4_swapAll 36 = .ok (.aload_n 0, 1) := dk_42 (dk_at dksX4_swapAll_1 12 rfl rfl)
theorem dX4_swapAll_37 : decode cX4_swapAll 37 = .ok (.getfield 85, 3) := dk_180 0 85 (dk_at dksX4_swapAll_1 13 rfl rfl)
theorem dX4_swapAll_40 : decode cX4_swapAll 40 = .ok (.iload_n 1, 1) := dk_27 (dk_at dksX4_swapAll_1 16 rfl rfl)
theorem dX4_swapAll_41 : decode cX4_swapAll 41 = .ok (.iaload, 1) := dk_46 (dk_at dksX4_swapAll_1 17 rfl rfl)
theorem dX4_swapAll_42 : decode cX4_swapAll 42 = .ok (.iastore, 1) := dk_79 (dk_at dksX4_swapAll_1 18 rfl rfl)
theorem dX4_swapAll_43 : decode cX4_swapAll 43 = .ok (.aload_n 0, 1) := dk_42 (dk_at dksX4_swapAll_1 19 rfl rfl)
theorem dX4_swapAll_44 : decode cX4_swapAll 44 = .ok (.getfield 85, 3) := dk_180 0 85 (dk_at dksX4_swapAll_1 20 rfl rfl)
theorem dX4_swapAll_47 : decode cX4_swapAll 47 = .ok (.iload_n 1, 1) := dk_27 (dk_at dksX4_swapAll_1 23 rfl rfl)
theorem dX4_swapAll_48 : decode cX4_swapAll 48 = .ok (.iload_n 2, 1) := dk_28 (dk_at dksX4_swapAll_2 0 rfl rfl)
theorem dX4_swapAll_49 : decode cX4_swapAll 49 = .ok (.iastore, 1) := dk_79 (dk_at dksX4_swapAll_2 1 rfl rfl)
theorem dX4_swapAll_50 : decode cX4_swapAll 50 = .ok (.iinc 1 1, 3) := dk_132 1 1 (dk_at dksX4_swapAll_2 2 rfl rfl)
theorem dX4_swapAll_53 : decode cX4_swapAll 53 = .ok (.goto (-51), 3) := dk_167 255 205 (dk_at dksX4_swapAll_2 5 rfl rfl)
theorem dX4_swapAll_56 : decode cX4_swapAll 56 = .ok (.return_, 1) := dk_177 (dk_at dksX4_swapAll_2 8 rfl rfl)
abbrev cX4_redo : ByteArray := prog_22_method_86_code
def yX4_redo : MethodName := ⟨RX4, "redo", "()Z"⟩
def dkwX4_redo_1 : List UInt8 := [89, 180, 1, 110, 4, 100, 181, 1, 110, 4, 172]
abbrev dktX4_redo_1 : List UInt8 := dkwX4_redo_1 ++ []
def dkwX4_redo_0 : List UInt8 := [42, 180, 1, 110, 154, 0, 5, 3, 172, 42, 182, 1, 171, 42, 89, 180, 1, 107, 4, 96, 181, 1, 107, 42]
abbrev dktX4_redo_0 : List UInt8 := dkwX4_redo_0 ++ dktX4_redo_1
theorem dksX4_redo_0 : cX4_redo.data.toList.drop 0 = dktX4_redo_0 := by decide +kernel
theorem dksX4_redo_1 : cX4_redo.data.toList.drop 24 = dktX4_redo_1 := dk_seg dksX4_redo_0 24 rfl rfl
theorem dX4_redo_0 : decode cX4_redo 0 = .ok (.aload_n 0, 1) := dk_42 (dk_at dksX4_redo_0 0 rfl rfl)
theorem dX4_redo_1 : decode cX4_redo 1 = .ok (.getfield 366, 3) := dk_180 1 110 (dk_at dksX4_redo_0 1 rfl rfl)
theorem dX4_redo_4 : decode cX4_redo 4 = .ok (.ifCond .ne 5, 3) := dk_154 0 5 (dk_at dksX4_redo_0 4 rfl rfl)
theorem dX4_redo_7 : decode cX4_redo 7 = .ok (.iconst 0, 1) := dk_3 (dk_at dksX4_redo_0 7 rfl rfl)
theorem dX4_redo_8 : decode cX4_redo 8 = .ok (.ireturn, 1) := dk_172 (dk_at dksX4_redo_0 8 rfl rfl)
theorem dX4_redo_9 : decode cX4_redo 9 = .ok (.aload_n 0, 1) := dk_42 (dk_at dksX4_redo_0 9 rfl rfl)
theorem dX4_redo_10 : decode cX4_redo 10 = .ok (.invokevirtual 427, 3) := dk_182 1 171 (dk_at dksX4_redo_0 10 rfl rfl)
theorem dX4_redo_13 : decode cX4_redo 13 = .ok (.aload_n 0, 1) := dk_42 (dk_at dksX4_redo_0 13 rfl rfl)
theorem dX4_redo_14 : decode cX4_redo 14 = .ok (.dup, 1) := dk_89 (dk_at dksX4_redo_0 14 rfl rfl)
theorem dX4_redo_15 : decode cX4_redo 15 = .ok (.getfield 363, 3) := dk_180 1 107 (dk_at dksX4_redo_0 15 rfl rfl)
theorem dX4_redo_18 : decode cX4_redo 18 = .ok (.iconst 1, 1) := dk_4 (dk_at dksX4_redo_0 18 rfl rfl)
theorem dX4_redo_19 : decode cX4_redo 19 = .ok (.iadd, 1) := dk_96 (dk_at dksX4_redo_0 19 rfl rfl)
theorem dX4_redo_20 : decode cX4_redo 20 = .ok (.putfield 363, 3) := dk_181 1 107 (dk_at dksX4_redo_0 20 rfl rfl)
theorem dX4_redo_23 : decode cX4_redo 23 = .ok (.aload_n 0, 1) := dk_42 (dk_at dksX4_redo_0 23 rfl rfl)
theorem dX4_redo_24 : decode cX4_redo 24 = .ok (.dup, 1) := dk_89 (dk_at dksX4_redo_1 0 rfl rfl)
theorem dX4_redo_25 : decode cX4_redo 25 = .ok (.getfield 366, 3) := dk_180 1 110 (dk_at dksX4_redo_1 1 rfl rfl)
theorem dX4_redo_28 : decode cX4_redo 28 = .ok (.iconst 1, 1) := dk_4 (dk_at dksX4_redo_1 4 rfl rfl)
theorem dX4_redo_29 : decode cX4_redo 29 = .ok (.isub, 1) := dk_100 (dk_at dksX4_redo_1 5 rfl rfl)
theorem dX4_redo_30 : decode cX4_redo 30 = .ok (.putfield 366, 3) := dk_181 1 110 (dk_at dksX4_redo_1 6 rfl rfl)
theorem dX4_redo_33 : decode cX4_redo 33 = .ok (.iconst 1, 1) := dk_4 (dk_at dksX4_redo_1 9 rfl rfl)
theorem dX4_redo_34 : decode cX4_redo 34 = .ok (.ireturn, 1) := dk_172 (dk_at dksX4_redo_1 10 rfl rfl)
abbrev cX4_will : ByteArray := prog_22_method_87_code
def yX4_will : MethodName := ⟨RX4, "will", "(III)I"⟩
def dkwX4_will_3 : List UInt8 := [167, 0, 12, 42, 180, 0, 85, 16, 16, 27, 96, 46, 54, 5, 42, 182, 1, 180, 21, 5, 172]
abbrev dktX4_will_3 : List UInt8 := dkwX4_will_3 ++ []
def dkwX4_will_2 : List UInt8 := [27, 96, 46, 154, 0, 7, 2, 167, 0, 27, 29, 154, 0, 14, 42, 180, 0, 85, 3, 27, 96, 46]
abbrev dktX4_will_2 : List UInt8 := dkwX4_will_2 ++ dktX4_will_3
def dkwX4_will_1 : List UInt8 := [184, 1, 90, 154, 0, 5, 2, 172, 42, 182, 1, 174, 42, 28, 182, 1, 177, 54, 4, 42, 180, 0, 85, 3]
abbrev dktX4_will_1 : List UInt8 := dkwX4_will_1 ++ dktX4_will_2
def dkwX4_will_0 : List UInt8 := [27, 3, 16, 7, 184, 1, 90, 153, 0, 22, 28, 3, 16, 30, 184, 1, 90, 153, 0, 12, 29, 3, 4]
abbrev dktX4_will_0 : List UInt8 := dkwX4_will_0 ++ dktX4_will_1
theorem dksX4_will_0 : cX4_will.data.toList.drop 0 = dktX4_will_0 := by decide +kernel
theorem dksX4_will_1 : cX4_will.data.toList.drop 23 = dktX4_will_1 := dk_seg dksX4_will_0 23 rfl rfl
theorem dksX4_will_2 : cX4_will.data.toList.drop 47 = dktX4_will_2 := dk_seg dksX4_will_1 24 rfl rfl
theorem dksX4_will_3 : cX4_will.data.toList.drop 69 = dktX4_will_3 := dk_seg dksX4_will_2 22 rfl rfl
theorem dX4_will_0 : decode cX4_will 0 = .ok (.iload_n 1, 1) := dk_27 (dk_at dksX4_will_0 0 rfl rfl)
theorem dX4_will_1 : decode cX4_will 1 = .ok (.iconst 0, 1) := dk_3 (dk_at dksX4_will_0 1 rfl rfl)
theorem dX4_will_2 : decode cX4_will 2 = .ok (.bipush 7, 2) := dk_16 7 (dk_at dksX4_will_0 2 rfl rfl)
theorem dX4_will_4 : decode cX4_will 4 = .ok (.invokestatic 346, 3) := dk_184 1 90 (dk_at dksX4_will_0 4 rfl rfl)
theorem dX4_will_7 : decode cX4_will 7 = .ok (.ifCond .eq 22, 3) := dk_153 0 22 (dk_at dksX4_will_0 7 rfl rfl)
theorem dX4_will_10 : decode cX4_will 10 = .ok (.iload_n 2, 1) := dk_28 (dk_at dksX4_will_0 10 rfl rfl)
theorem dX4_will_11 : decode cX4_will 11 = .ok (.iconst 0, 1) := dk_3 (dk_at dksX4_will_0 11 rfl rfl)
theorem dX4_will_12 : decode cX4_will 12 = .ok (.bipush 30, 2) := dk_16 30 (dk_at dksX4_will_0 12 rfl rfl)
theorem dX4_will_14 : decode cX4_will 14 = .ok (.invokestatic 346, 3) := dk_184 1 90 (dk_at dksX4_will_0 14 rfl rfl)
theorem dX4_will_17 : decode cX4_will 17 = .ok (.ifCond .eq 12, 3) := dk_153 0 12 (dk_at dksX4_will_0 17 rfl rfl)
theorem dX4_will_20 : decode cX4_will 20 = .ok (.iload_n 3, 1) := dk_29 (dk_at dksX4_will_0 20 rfl rfl)
theorem dX4_will_21 : decode cX4_will 21 = .ok (.iconst 0, 1) := dk_3 (dk_at dksX4_will_0 21 rfl rfl)
theorem dX4_will_22 : decode cX4_will 22 = .ok (.iconst 1, 1) := dk_4 (dk_at dksX4_will_0 22 rfl rfl)
theorem dX4_will_23 : decode cX4_will 23 = .ok (.invokestatic 346, 3) := dk_184 1 90 (dk_at dksX4_will_1 0 rfl rfl)
theorem dX4_will_26 : decode cX4_will 26 = .ok (.ifCond .ne 5, 3) := dk_154 0 5 (dk_at dksX4_will_1 3 rfl rfl)
theorem dX4_will_29 : decode cX4_will 29 = .ok (.iconst (-1), 1) := dk_2 (dk_at dksX4_will_1 6 rfl rfl)
theorem dX4_will_30 : decode cX4_will 30 = .ok (.ireturn, 1) := dk_172 (dk_at dksX4_will_1 7 rfl rfl)
theorem dX4_will_31 : decode cX4_will 31 = .ok (.aload_n 0, 1) := dk_42 (dk_at dksX4_will_1 8 rfl rfl)
theorem dX4_will_32 : decode cX4_will 32 = .ok (.invokevirtual 430, 3) := dk_182 1 174 (dk_at dksX4_will_1 9 rfl rfl)
theorem dX4_will_35 : decode cX4_will 35 = .ok (.aload_n 0, 1) := dk_42 (dk_at dksX4_will_1 12 rfl rfl)
theorem dX4_will_36 : decode cX4_will 36 = .ok (.iload_n 2, 1) := dk_28 (dk_at dksX4_will_1 13 rfl rfl)
theorem dX4_will_37 : decode cX4_will 37 = .ok (.invokevirtual 433, 3) := dk_182 1 177 (dk_at dksX4_will_1 14 rfl rfl)
theorem dX4_will_40 : decode cX4_will 40 = .ok (.istore 4, 2) := dk_54 4 (dk_at dksX4_will_1 17 rfl rfl)
theorem dX4_will_42 : decode cX4_will 42 = .ok (.aload_n 0, 1) := dk_42 (dk_at dksX4_will_1 19 rfl rfl)
theorem dX4_will_43 : decode cX4_will 43 = .ok (.getfield 85, 3) := dk_180 0 85 (dk_at dksX4_will_1 20 rfl rfl)
theorem dX4_will_46 : decode cX4_will 46 = .ok (.iconst 0, 1) := dk_3 (dk_at dksX4_will_1 23 rfl rfl)
theorem dX4_will_47 : decode cX4_will 47 = .ok (.iload_n 1, 1) := dk_27 (dk_at dksX4_will_2 0 rfl rfl)
theorem dX4_will_48 : decode cX4_will 48 = .ok (.iadd, 1) := dk_96 (dk_at dksX4_will_2 1 rfl rfl)
theorem dX4_will_49 : decode cX4_will 49 = .ok (.iaload, 1) := dk_46 (dk_at dksX4_will_2 2 rfl rfl)
theorem dX4_will_50 : decode cX4_will 50 = .ok (.ifCond .ne 7, 3) := dk_154 0 7 (dk_at dksX4_will_2 3 rfl rfl)
theorem dX4_will_53 : decode cX4_will 53 = .ok (.iconst (-1), 1) := dk_2 (dk_at dksX4_will_2 6 rfl rfl)
theorem dX4_will_54 : decode cX4_will 54 = .ok (.goto 27, 3) := dk_167 0 27 (dk_at dksX4_will_2 7 rfl rfl)
theorem dX4_will_57 : decode cX4_will 57 = .ok (.iload_n 3, 1) := dk_29 (dk_at dksX4_will_2 10 rfl rfl)
theorem dX4_will_58 : decode cX4_will 58 = .ok (.ifCond .ne 14, 3) := dk_154 0 14 (dk_at dksX4_will_2 11 rfl rfl)
theorem dX4_will_61 : decode cX4_will 61 = .ok (.aload_n 0, 1) := dk_42 (dk_at dksX4_will_2 14 rfl rfl)
theorem dX4_will_62 : decode cX4_will 62 = .ok (.getfield 85, 3) := dk_180 0 85 (dk_at dksX4_will_2 15 rfl rfl)
theorem dX4_will_65 : decode cX4_will 65 = .ok (.iconst 0, 1) := dk_3 (dk_at dksX4_will_2 18 rfl rfl)
theorem dX4_will_66 : decode cX4_will 66 = .ok (.iload_n 1, 1) := dk_27 (dk_at dksX4_will_2 19 rfl rfl)
theorem dX4_will_67 : decode cX4_will 67 = .ok (.iadd, 1) := dk_96 (dk_at dksX4_will_2 20 rfl rfl)
theorem dX4_will_68 : decode cX4_will 68 = .ok (.iaload, 1) := dk_46 (dk_at dksX4_will_2 21 rfl rfl)
theorem dX4_will_69 : decode cX4_will 69 = .ok (.goto 12, 3) := dk_167 0 12 (dk_at dksX4_will_3 0 rfl rfl)
theorem dX4_will_72 : decode cX4_will 72 = .ok (.aload_n 0, 1) := dk_42 (dk_at dksX4_will_3 3 rfl rfl)
theorem dX4_will_73 : decode cX4_will 73 = .ok (.getfield 85, 3) := dk_180 0 85 (dk_at dksX4_will_3 4 rfl rfl)
theorem dX4_will_76 : decode cX4_will 76 = .ok (.bipush 16, 2) := dk_16 16 (dk_at dksX4_will_3 7 rfl rfl)
theorem dX4_will_78 : decode cX4_will 78 = .ok (.iload_n 1, 1) := dk_27 (dk_at dksX4_will_3 9 rfl rfl)
theorem dX4_will_79 : decode cX4_will 79 = .ok (.iadd, 1) := dk_96 (dk_at dksX4_will_3 10 rfl rfl)
theorem dX4_will_80 : decode cX4_will 80 = .ok (.iaload, 1) := dk_46 (dk_at dksX4_will_3 11 rfl rfl)
theorem dX4_will_81 : decode cX4_will 81 = .ok (.istore 5, 2) := dk_54 5 (dk_at dksX4_will_3 12 rfl rfl)
theorem dX4_will_83 : decode cX4_will 83 = .ok (.aload_n 0, 1) := dk_42 (dk_at dksX4_will_3 14 rfl rfl)
theorem dX4_will_84 : decode cX4_will 84 = .ok (.invokevirtual 436, 3) := dk_182 1 180 (dk_at dksX4_will_3 15 rfl rfl)
theorem dX4_will_87 : decode cX4_will 87 = .ok (.iload 5, 2) := dk_21 5 (dk_at dksX4_will_3 18 rfl rfl)
theorem dX4_will_89 : decode cX4_will 89 = .ok (.ireturn, 1) := dk_172 (dk_at dksX4_will_3 20 rfl rfl)
abbrev cX4_keepNow : ByteArray := prog_22_method_54_code
def yX4_keepNow : MethodName := ⟨RX4, "keepNow", "()V"⟩
def dkwX4_keepNow_1 : List UInt8 := [167, 255, 235, 177]
abbrev dktX4_keepNow_1 : List UInt8 := dkwX4_keepNow_1 ++ []
def dkwX4_keepNow_0 : List UInt8 := [3, 60, 27, 16, 59, 162, 0, 21, 42, 180, 0, 88, 27, 42, 180, 0, 85, 27, 46, 79, 132, 1, 1]
abbrev dktX4_keepNow_0 : List UInt8 := dkwX4_keepNow_0 ++ dktX4_keepNow_1
theorem dksX4_keepNow_0 : cX4_keepNow.data.toList.drop 0 = dktX4_keepNow_0 := by decide +kernel
theorem dksX4_keepNow_1 : cX4_keepNow.data.toList.drop 23 = dktX4_keepNow_1 := dk_seg dksX4_keepNow_0 23 rfl rfl
theorem dX4_keepNow_0 : decode cX4_keepNow 0 = .ok (.iconst 0, 1) := dk_3 (dk_at dksX4_keepNow_0 0 rfl rfl)
theorem dX4_keepNow_1 : decode cX4_keepNow 1 = .ok (.istore_n 1, 1) := dk_60 (dk_at dksX4_keepNow_0 1 rfl rfl)
theorem dX4_keepNow_2 : decode cX4_keepNow 2 = .ok (.iload_n 1, 1) := dk_27 (dk_at dksX4_keepNow_0 2 rfl rfl)
theorem dX4_keepNow_3 : decode cX4_keepNow 3 = .ok (.bipush 59, 2) := dk_16 59 (dk_at dksX4_keepNow_0 3 rfl rfl)
theorem dX4_keepNow_5 : decode cX4_keepNow 5 = .ok (.if_icmp .ge 21, 3) := dk_162 0 21 (dk_at dksX4_keepNow_0 5 rfl rfl)
theorem dX4_keepNow_8 : decode cX4_keepNow 8 = .ok (.aload_n 0, 1) := dk_42 (dk_at dksX4_keepNow_0 8 rfl rfl)
theorem dX4_keepNow_9 : decode cX4_keepNow 9 = .ok (.getfield 88, 3) := dk_180 0 88 (dk_at dksX4_keepNow_0 9 rfl rfl)
theorem dX4_keepNow_12 : decode cX4_keepNow 12 = .ok (.iload_n 1, 1) := dk_27 (dk_at dksX4_keepNow_0 12 rfl rfl)
theorem dX4_keepNow_13 : decode cX4_keepNow 13 = .ok (.aload_n 0, 1) := dk_42 (dk_at dksX4_keepNow_0 13 rfl rfl)
theorem dX4_keepNow_14 : decode cX4_keepNow 14 = .ok (.getfield 85, 3) := dk_180 0 85 (dk_at dksX4_keepNow_0 14 rfl rfl)
theorem dX4_keepNow_17 : decode cX4_keepNow 17 = .ok (.iload_n 1, 1) := dk_27 (dk_at dksX4_keepNow_0 17 rfl rfl)
theorem dX4_keepNow_18 : decode cX4_keepNow 18 = .ok (.iaload, 1) := dk_46 (dk_at dksX4_keepNow_0 18 rfl rfl)
theorem dX4_keepNow_19 : decode cX4_keepNow 19 = .ok (.iastore, 1) := dk_79 (dk_at dksX4_keepNow_0 19 rfl rfl)
theorem dX4_keepNow_20 : decode cX4_keepNow 20 = .ok (.iinc 1 1, 3) := dk_132 1 1 (dk_at dksX4_keepNow_0 20 rfl rfl)
theorem dX4_keepNow_23 : decode cX4_keepNow 23 = .ok (.goto (-21), 3) := dk_167 255 235 (dk_at dksX4_keepNow_1 0 rfl rfl)
theorem dX4_keepNow_26 : decode cX4_keepNow 26 = .ok (.return_, 1) := dk_177 (dk_at dksX4_keepNow_1 3 rfl rfl)
abbrev cX4_goYears : ByteArray := prog_22_method_65_code
def yX4_goYears : MethodName := ⟨RX4, "goYears", "(I)I"⟩
def dkwX4_goYears_0 : List UInt8 := [3, 61, 3, 62, 29, 27, 162, 0, 16, 28, 42, 182, 1, 149, 128, 61, 132, 3, 1, 167, 255, 241, 28, 172]
abbrev dktX4_goYears_0 : List UInt8 := dkwX4_goYears_0 ++ []
theorem dksX4_goYears_0 : cX4_goYears.data.toList.drop 0 = dktX4_goYears_0 := by decide +kernel
theorem dX4_goYears_0 : decode cX4_goYears 0 = .ok (.iconst 0, 1) := dk_3 (dk_at dksX4_goYears_0 0 rfl rfl)
theorem dX4_goYears_1 : decode cX4_goYears 1 = .ok (.istore_n 2, 1) := dk_61 (dk_at dksX4_goYears_0 1 rfl rfl)
theorem dX4_goYears_2 : decode cX4_goYears 2 = .ok (.iconst 0, 1) := dk_3 (dk_at dksX4_goYears_0 2 rfl rfl)
theorem dX4_goYears_3 : decode cX4_goYears 3 = .ok (.istore_n 3, 1) := dk_62 (dk_at dksX4_goYears_0 3 rfl rfl)
theorem dX4_goYears_4 : decode cX4_goYears 4 = .ok (.iload_n 3, 1) := dk_29 (dk_at dksX4_goYears_0 4 rfl rfl)
theorem dX4_goYears_5 : decode cX4_goYears 5 = .ok (.iload_n 1, 1) := dk_27 (dk_at dksX4_goYears_0 5 rfl rfl)
theorem dX4_goYears_6 : decode cX4_goYears 6 = .ok (.if_icmp .ge 16, 3) := dk_162 0 16 (dk_at dksX4_goYears_0 6 rfl rfl)
theorem dX4_goYears_9 : decode cX4_goYears 9 = .ok (.iload_n 2, 1) := dk_28 (dk_at dksX4_goYears_0 9 rfl rfl)
theorem dX4_goYears_10 : decode cX4_goYears 10 = .ok (.aload_n 0, 1) := dk_42 (dk_at dksX4_goYears_0 10 rfl rfl)
theorem dX4_goYears_11 : decode cX4_goYears 11 = .ok (.invokevirtual 405, 3) := dk_182 1 149 (dk_at dksX4_goYears_0 11 rfl rfl)
theorem dX4_goYears_14 : decode cX4_goYears 14 = .ok (.ior, 1) := dk_128 (dk_at dksX4_goYears_0 14 rfl rfl)
theorem dX4_goYears_15 : decode cX4_goYears 15 = .ok (.istore_n 2, 1) := dk_61 (dk_at dksX4_goYears_0 15 rfl rfl)
theorem dX4_goYears_16 : decode cX4_goYears 16 = .ok (.iinc 3 1, 3) := dk_132 3 1 (dk_at dksX4_goYears_0 16 rfl rfl)
theorem dX4_goYears_19 : decode cX4_goYears 19 = .ok (.goto (-15), 3) := dk_167 255 241 (dk_at dksX4_goYears_0 19 rfl rfl)
theorem dX4_goYears_22 : decode cX4_goYears 22 = .ok (.iload_n 2, 1) := dk_28 (dk_at dksX4_goYears_0 22 rfl rfl)
theorem dX4_goYears_23 : decode cX4_goYears 23 = .ok (.ireturn, 1) := dk_172 (dk_at dksX4_goYears_0 23 rfl rfl)
abbrev cX4_bringBack : ByteArray := prog_22_method_55_code
def yX4_bringBack : MethodName := ⟨RX4, "bringBack", "()V"⟩
def dkwX4_bringBack_1 : List UInt8 := [167, 255, 235, 177]
abbrev dktX4_bringBack_1 : List UInt8 := dkwX4_bringBack_1 ++ []
def dkwX4_bringBack_0 : List UInt8 := [3, 60, 27, 16, 59, 162, 0, 21, 42, 180, 0, 85, 27, 42, 180, 0, 88, 27, 46, 79, 132, 1, 1]
abbrev dktX4_bringBack_0 : List UInt8 := dkwX4_bringBack_0 ++ dktX4_bringBack_1
theorem dksX4_bringBack_0 : cX4_bringBack.data.toList.drop 0 = dktX4_bringBack_0 := by decide +kernel
theorem dksX4_bringBack_1 : cX4_bringBack.data.toList.drop 23 = dktX4_bringBack_1 := dk_seg dksX4_bringBack_0 23 rfl rfl
theorem dX4_bringBack_0 : decode cX4_bringBack 0 = .ok (.iconst 0, 1) := dk_3 (dk_at dksX4_bringBack_0 0 rfl rfl)
theorem dX4_bringBack_1 : decode cX4_bringBack 1 = .ok (.istore_n 1, 1) := dk_60 (dk_at dksX4_bringBack_0 1 rfl rfl)
theorem dX4_bringBack_2 : decode cX4_bringBack 2 = .ok (.iload_n 1, 1) := dk_27 (dk_at dksX4_bringBack_0 2 rfl rfl)
theorem dX4_bringBack_3 : decode cX4_bringBack 3 = .ok (.bipush 59, 2) := dk_16 59 (dk_at dksX4_bringBack_0 3 rfl rfl)
theorem dX4_bringBack_5 : decode cX4_bringBack 5 = .ok (.if_icmp .ge 21, 3) := dk_162 0 21 (dk_at dksX4_bringBack_0 5 rfl rfl)
theorem dX4_bringBack_8 : decode cX4_bringBack 8 = .ok (.aload_n 0, 1) := dk_42 (dk_at dksX4_bringBack_0 8 rfl rfl)
theorem dX4_bringBack_9 : decode cX4_bringBack 9 = .ok (.getfield 85, 3) := dk_180 0 85 (dk_at dksX4_bringBack_0 9 rfl rfl)
theorem dX4_bringBack_12 : decode cX4_bringBack 12 = .ok (.iload_n 1, 1) := dk_27 (dk_at dksX4_bringBack_0 12 rfl rfl)
theorem dX4_bringBack_13 : decode cX4_bringBack 13 = .ok (.aload_n 0, 1) := dk_42 (dk_at dksX4_bringBack_0 13 rfl rfl)
theorem dX4_bringBack_14 : decode cX4_bringBack 14 = .ok (.getfield 88, 3) := dk_180 0 88 (dk_at dksX4_bringBack_0 14 rfl rfl)
theorem dX4_bringBack_17 : decode cX4_bringBack 17 = .ok (.iload_n 1, 1) := dk_27 (dk_at dksX4_bringBack_0 17 rfl rfl)
theorem dX4_bringBack_18 : decode cX4_bringBack 18 = .ok (.iaload, 1) := dk_46 (dk_at dksX4_bringBack_0 18 rfl rfl)
theorem dX4_bringBack_19 : decode cX4_bringBack 19 = .ok (.iastore, 1) := dk_79 (dk_at dksX4_bringBack_0 19 rfl rfl)
theorem dX4_bringBack_20 : decode cX4_bringBack 20 = .ok (.iinc 1 1, 3) := dk_132 1 1 (dk_at dksX4_bringBack_0 20 rfl rfl)
theorem dX4_bringBack_23 : decode cX4_bringBack 23 = .ok (.goto (-21), 3) := dk_167 255 235 (dk_at dksX4_bringBack_1 0 rfl rfl)
theorem dX4_bringBack_26 : decode cX4_bringBack 26 = .ok (.return_, 1) := dk_177 (dk_at dksX4_bringBack_1 3 rfl rfl)
abbrev cX4_alive : ByteArray := prog_22_method_88_code
def yX4_alive : MethodName := ⟨RX4, "alive", "(I)I"⟩
def dkwX4_alive_1 : List UInt8 := [182, 1, 75, 62, 42, 182, 1, 180, 29, 172]
abbrev dktX4_alive_1 : List UInt8 := dkwX4_alive_1 ++ []
def dkwX4_alive_0 : List UInt8 := [27, 3, 16, 30, 184, 1, 90, 154, 0, 5, 2, 172, 42, 182, 1, 174, 42, 27, 182, 1, 177, 61, 42]
abbrev dktX4_alive_0 : List UInt8 := dkwX4_alive_0 ++ dktX4_alive_1
theorem dksX4_alive_0 : cX4_alive.data.toList.drop 0 = dktX4_alive_0 := by decide +kernel
theorem dksX4_alive_1 : cX4_alive.data.toList.drop 23 = dktX4_alive_1 := dk_seg dksX4_alive_0 23 rfl rfl
theorem dX4_alive_0 : decode cX4_alive 0 = .ok (.iload_n 1, 1) := dk_27 (dk_at dksX4_alive_0 0 rfl rfl)
theorem dX4_alive_1 : decode cX4_alive 1 = .ok (.iconst 0, 1) := dk_3 (dk_at dksX4_alive_0 1 rfl rfl)
theorem dX4_alive_2 : decode cX4_alive 2 = .ok (.bipush 30, 2) := dk_16 30 (dk_at dksX4_alive_0 2 rfl rfl)
theorem dX4_alive_4 : decode cX4_alive 4 = .ok (.invokestatic 346, 3) := dk_184 1 90 (dk_at dksX4_alive_0 4 rfl rfl)
theorem dX4_alive_7 : decode cX4_alive 7 = .ok (.ifCond .ne 5, 3) := dk_154 0 5 (dk_at dksX4_alive_0 7 rfl rfl)
theorem dX4_alive_10 : decode cX4_alive 10 = .ok (.iconst (-1), 1) := dk_2 (dk_at dksX4_alive_0 10 rfl rfl)
theorem dX4_alive_11 : decode cX4_alive 11 = .ok (.ireturn, 1) := dk_172 (dk_at dksX4_alive_0 11 rfl rfl)
theorem dX4_alive_12 : decode cX4_alive 12 = .ok (.aload_n 0, 1) := dk_42 (dk_at dksX4_alive_0 12 rfl rfl)
theorem dX4_alive_13 : decode cX4_alive 13 = .ok (.invokevirtual 430, 3) := dk_182 1 174 (dk_at dksX4_alive_0 13 rfl rfl)
theorem dX4_alive_16 : decode cX4_alive 16 = .ok (.aload_n 0, 1) := dk_42 (dk_at dksX4_alive_0 16 rfl rfl)
theorem dX4_alive_17 : decode cX4_alive 17 = .ok (.iload_n 1, 1) := dk_27 (dk_at dksX4_alive_0 17 rfl rfl)
theorem dX4_alive_18 : decode cX4_alive 18 = .ok (.invokevirtual 433, 3) := dk_182 1 177 (dk_at dksX4_alive_0 18 rfl rfl)
theorem dX4_alive_21 : decode cX4_alive 21 = .ok (.istore_n 2, 1) := dk_61 (dk_at dksX4_alive_0 21 rfl rfl)
theorem dX4_alive_22 : decode cX4_alive 22 = .ok (.aload_n 0, 1) := dk_42 (dk_at dksX4_alive_0 22 rfl rfl)
theorem dX4_alive_23 : decode cX4_alive 23 = .ok (.invokevirtual 331, 3) := dk_182 1 75 (dk_at dksX4_alive_1 0 rfl rfl)
theorem dX4_alive_26 : decode cX4_alive 26 = .ok (.istore_n 3, 1) := dk_62 (dk_at dksX4_alive_1 3 rfl rfl)
theorem dX4_alive_27 : decode cX4_alive 27 = .ok (.aload_n 0, 1) := dk_42 (dk_at dksX4_alive_1 4 rfl rfl)
theorem dX4_alive_28 : decode cX4_alive 28 = .ok (.invokevirtual 436, 3) := dk_182 1 180 (dk_at dksX4_alive_1 5 rfl rfl)
theorem dX4_alive_31 : decode cX4_alive 31 = .ok (.iload_n 3, 1) := dk_29 (dk_at dksX4_alive_1 8 rfl rfl)
theorem dX4_alive_32 : decode cX4_alive 32 = .ok (.ireturn, 1) := dk_172 (dk_at dksX4_alive_1 9 rfl rfl)
abbrev cX4_fading : ByteArray := prog_22_method_89_code
def yX4_fading : MethodName := ⟨RX4, "fading", "(I)I"⟩
def dkwX4_fading_1 : List UInt8 := [182, 1, 177, 62, 28, 42, 182, 1, 183, 2, 130, 126, 54, 4, 42, 182, 1, 180, 21, 4, 172]
abbrev dktX4_fading_1 : List UInt8 := dkwX4_fading_1 ++ []
def dkwX4_fading_0 : List UInt8 := [27, 3, 16, 30, 184, 1, 90, 154, 0, 5, 2, 172, 42, 182, 1, 174, 42, 182, 1, 183, 61, 42, 27]
abbrev dktX4_fading_0 : List UInt8 := dkwX4_fading_0 ++ dktX4_fading_1
theorem dksX4_fading_0 : cX4_fading.data.toList.drop 0 = dktX4_fading_0 := by decide +kernel
theorem dksX4_fading_1 : cX4_fading.data.toList.drop 23 = dktX4_fading_1 := dk_seg dksX4_fading_0 23 rfl rfl
theorem dX4_fading_0 : decode cX4_fading 0 = .ok (.iload_n 1, 1) := dk_27 (dk_at dksX4_fading_0 0 rfl rfl)
theorem dX4_fading_1 : decode cX4_fading 1 = .ok (.iconst 0, 1) := dk_3 (dk_at dksX4_fading_0 1 rfl rfl)
theorem dX4_fading_2 : decode cX4_fading 2 = .ok (.bipush 30, 2) := dk_16 30 (dk_at dksX4_fading_0 2 rfl rfl)
theorem dX4_fading_4 : decode cX4_fading 4 = .ok (.invokestatic 346, 3) := dk_184 1 90 (dk_at dksX4_fading_0 4 rfl rfl)
theorem dX4_fading_7 : decode cX4_fading 7 = .ok (.ifCond .ne 5, 3) := dk_154 0 5 (dk_at dksX4_fading_0 7 rfl rfl)
theorem dX4_fading_10 : decode cX4_fading 10 = .ok (.iconst (-1), 1) := dk_2 (dk_at dksX4_fading_0 10 rfl rfl)
theorem dX4_fading_11 : decode cX4_fading 11 = .ok (.ireturn, 1) := dk_172 (dk_at dksX4_fading_0 11 rfl rfl)
theorem dX4_fading_12 : decode cX4_fading 12 = .ok (.aload_n 0, 1) := dk_42 (dk_at dksX4_fading_0 12 rfl rfl)
theorem dX4_fading_13 : decode cX4_fading 13 = .ok (.invokevirtual 430, 3) := dk_182 1 174 (dk_at dksX4_fading_0 13 rfl rfl)
theorem dX4_fading_16 : decode cX4_fading 16 = .ok (.aload_n 0, 1) := dk_42 (dk_at dksX4_fading_0 16 rfl rfl)
theorem dX4_fading_17 : decode cX4_fading 17 = .ok (.invokevirtual 439, 3) := dk_182 1 183 (dk_at dksX4_fading_0 17 rfl rfl)
theorem dX4_fading_20 : decode cX4_fading 20 = .ok (.istore_n 2, 1) := dk_61 (dk_at dksX4_fading_0 20 rfl rfl)
theorem dX4_fading_21 : decode cX4_fading 21 = .ok (.aload_n 0, 1) := dk_42 (dk_at dksX4_fading_0 21 rfl rfl)
theorem dX4_fading_22 : decode cX4_fading 22 = .ok (.iload_n 1, 1) := dk_27 (dk_at dksX4_fading_0 22 rfl rfl)
theorem dX4_fading_23 : decode cX4_fading 23 = .ok (.invokevirtual 433, 3) := dk_182 1 177 (dk_at dksX4_fading_1 0 rfl rfl)
theorem dX4_fading_26 : decode cX4_fading 26 = .ok (.istore_n 3, 1) := dk_62 (dk_at dksX4_fading_1 3 rfl rfl)
theorem dX4_fading_27 : decode cX4_fading 27 = .ok (.iload_n 2, 1) := dk_28 (dk_at dksX4_fading_1 4 rfl rfl)
theorem dX4_fading_28 : decode cX4_fading 28 = .ok (.aload_n 0, 1) := dk_42 (dk_at dksX4_fading_1 5 rfl rfl)
theorem dX4_fading_29 : decode cX4_fading 29 = .ok (.invokevirtual 439, 3) := dk_182 1 183 (dk_at dksX4_fading_1 6 rfl rfl)
theorem dX4_fading_32 : decode cX4_fading 32 = .ok (.iconst (-1), 1) := dk_2 (dk_at dksX4_fading_1 9 rfl rfl)
theorem dX4_fading_33 : decode cX4_fading 33 = .ok (.ixor, 1) := dk_130 (dk_at dksX4_fading_1 10 rfl rfl)
theorem dX4_fading_34 : decode cX4_fading 34 = .ok (.iand, 1) := dk_126 (dk_at dksX4_fading_1 11 rfl rfl)
theorem dX4_fading_35 : decode cX4_fading 35 = .ok (.istore 4, 2) := dk_54 4 (dk_at dksX4_fading_1 12 rfl rfl)
theorem dX4_fading_37 : decode cX4_fading 37 = .ok (.aload_n 0, 1) := dk_42 (dk_at dksX4_fading_1 14 rfl rfl)
theorem dX4_fading_38 : decode cX4_fading 38 = .ok (.invokevirtual 436, 3) := dk_182 1 180 (dk_at dksX4_fading_1 15 rfl rfl)
theorem dX4_fading_41 : decode cX4_fading 41 = .ok (.iload 4, 2) := dk_21 4 (dk_at dksX4_fading_1 18 rfl rfl)
theorem dX4_fading_43 : decode cX4_fading 43 = .ok (.ireturn, 1) := dk_172 (dk_at dksX4_fading_1 20 rfl rfl)
abbrev cX4_marksAll : ByteArray := prog_22_method_50_code
def yX4_marksAll : MethodName := ⟨RX4, "marksAll", "()I"⟩
def dkwX4_marksAll_1 : List UInt8 := [180, 0, 85, 16, 16, 28, 96, 46, 128, 60, 132, 2, 1, 167, 255, 224, 27, 172]
abbrev dktX4_marksAll_1 : List UInt8 := dkwX4_marksAll_1 ++ []
def dkwX4_marksAll_0 : List UInt8 := [3, 60, 3, 61, 28, 16, 8, 162, 0, 32, 42, 180, 0, 85, 3, 28, 96, 46, 158, 0, 15, 27, 42]
abbrev dktX4_marksAll_0 : List UInt8 := dkwX4_marksAll_0 ++ dktX4_marksAll_1
theorem dksX4_marksAll_0 : cX4_marksAll.data.toList.drop 0 = dktX4_marksAll_0 := by decide +kernel
theorem dksX4_marksAll_1 : cX4_marksAll.data.toList.drop 23 = dktX4_marksAll_1 := dk_seg dksX4_marksAll_0 23 rfl rfl
theorem dX4_marksAll_0 : decode cX4_marksAll 0 = .ok (.iconst 0, 1) := dk_3 (dk_at dksX4_marksAll_0 0 rfl rfl)
theorem dX4_marksAll_1 : decode cX4_marksAll 1 = .ok (.istore_n 1, 1) := dk_60 (dk_at dksX4_marksAll_0 1 rfl rfl)
theorem dX4_marksAll_2 : decode cX4_marksAll 2 = .ok (.iconst 0, 1) := dk_3 (dk_at dksX4_marksAll_0 2 rfl rfl)
theorem dX4_marksAll_3 : decode cX4_marksAll 3 = .ok (.istore_n 2, 1) := dk_61 (dk_at dksX4_marksAll_0 3 rfl rfl)
theorem dX4_marksAll_4 : decode cX4_marksAll 4 = .ok (.iload_n 2, 1) := dk_28 (dk_at dksX4_marksAll_0 4 rfl rfl)
theorem dX4_marksAll_5 : decode cX4_marksAll 5 = .ok (.bipush 8, 2) := dk_16 8 (dk_at dksX4_marksAll_0 5 rfl rfl)
theorem dX4_marksAll_7 : decode cX4_marksAll 7 = .ok (.if_icmp .ge 32, 3) := dk_162 0 32 (dk_at dksX4_marksAll_0 7 rfl rfl)
theorem dX4_marksAll_10 : decode cX4_marksAll 10 = .ok (.aload_n 0, 1) := dk_42 (dk_at dksX4_marksAll_0 10 rfl rfl)
theorem dX4_marksAll_11 : decode cX4_marksAll 11 = .ok (.getfield 85, 3) := dk_180 0 85 (dk_at dksX4_marksAll_0 11 rfl rfl)
theorem dX4_marksAll_14 : decode cX4_marksAll 14 = .ok (.iconst 0, 1) := dk_3 (dk_at dksX4_marksAll_0 14 rfl rfl)
theorem dX4_marksAll_15 : decode cX4_marksAll 15 = .ok (.iload_n 2, 1) := dk_28 (dk_at dksX4_marksAll_0 15 rfl rfl)
theorem dX4_marksAll_16 : decode cX4_marksAll 16 = .ok (.iadd, 1) := dk_96 (dk_at dksX4_marksAll_0 16 rfl rfl)
theorem dX4_marksAll_17 : decode cX4_marksAll 17 = .ok (.iaload, 1) := dk_46 (dk_at dksX4_marksAll_0 17 rfl rfl)
theorem dX4_marksAll_18 : decode cX4_marksAll 18 = .ok (.ifCond .le 15, 3) := dk_158 0 15 (dk_at dksX4_marksAll_0 18 rfl rfl)
theorem dX4_marksAll_21 : decode cX4_marksAll 21 = .ok (.iload_n 1, 1) := dk_27 (dk_at dksX4_marksAll_0 21 rfl rfl)
theorem dX4_marksAll_22 : decode cX4_marksAll 22 = .ok (.aload_n 0, 1) := dk_42 (dk_at dksX4_marksAll_0 22 rfl rfl)
theorem dX4_marksAll_23 : decode cX4_marksAll 23 = .ok (.getfield 85, 3) := dk_180 0 85 (dk_at dksX4_marksAll_1 0 rfl rfl)
theorem dX4_marksAll_26 : decode cX4_marksAll 26 = .ok (.bipush 16, 2) := dk_16 16 (dk_at dksX4_marksAll_1 3 rfl rfl)
theorem dX4_marksAll_28 : decode cX4_marksAll 28 = .ok (.iload_n 2, 1) := dk_28 (dk_at dksX4_marksAll_1 5 rfl rfl)
theorem dX4_marksAll_29 : decode cX4_marksAll 29 = .ok (.iadd, 1) := dk_96 (dk_at dksX4_marksAll_1 6 rfl rfl)
theorem dX4_marksAll_30 : decode cX4_marksAll 30 = .ok (.iaload, 1) := dk_46 (dk_at dksX4_marksAll_1 7 rfl rfl)
theorem dX4_marksAll_31 : decode cX4_marksAll 31 = .ok (.ior, 1) := dk_128 (dk_at dksX4_marksAll_1 8 rfl rfl)
theorem dX4_marksAll_32 : decode cX4_marksAll 32 = .ok (.istore_n 1, 1) := dk_60 (dk_at dksX4_marksAll_1 9 rfl rfl)
theorem dX4_marksAll_33 : decode cX4_marksAll 33 = .ok (.iinc 2 1, 3) := dk_132 2 1 (dk_at dksX4_marksAll_1 10 rfl rfl)
theorem dX4_marksAll_36 : decode cX4_marksAll 36 = .ok (.goto (-32), 3) := dk_167 255 224 (dk_at dksX4_marksAll_1 13 rfl rfl)
theorem dX4_marksAll_39 : decode cX4_marksAll 39 = .ok (.iload_n 1, 1) := dk_27 (dk_at dksX4_marksAll_1 16 rfl rfl)
theorem dX4_marksAll_40 : decode cX4_marksAll 40 = .ok (.ireturn, 1) := dk_172 (dk_at dksX4_marksAll_1 17 rfl rfl)
abbrev cX4_law : ByteArray := prog_22_method_90_code
def yX4_law : MethodName := ⟨RX4, "law", "(II)I"⟩
def dkwX4_law_2 : List UInt8 := [184, 1, 78, 54, 4, 42, 182, 1, 180, 21, 4, 172]
abbrev dktX4_law_2 : List UInt8 := dkwX4_law_2 ++ []
def dkwX4_law_1 : List UInt8 := [182, 1, 174, 42, 27, 181, 0, 91, 42, 28, 182, 1, 177, 62, 42, 2, 181, 0, 91, 42, 182, 1, 75]
abbrev dktX4_law_1 : List UInt8 := dkwX4_law_1 ++ dktX4_law_2
def dkwX4_law_0 : List UInt8 := [27, 4, 16, 9, 184, 1, 90, 153, 0, 13, 28, 3, 16, 30, 184, 1, 90, 154, 0, 5, 2, 172, 42]
abbrev dktX4_law_0 : List UInt8 := dkwX4_law_0 ++ dktX4_law_1
theorem dksX4_law_0 : cX4_law.data.toList.drop 0 = dktX4_law_0 := by decide +kernel
theorem dksX4_law_1 : cX4_law.data.toList.drop 23 = dktX4_law_1 := dk_seg dksX4_law_0 23 rfl rfl
theorem dksX4_law_2 : cX4_law.data.toList.drop 46 = dktX4_law_2 := dk_seg dksX4_law_1 23 rfl rfl
theorem dX4_law_0 : decode cX4_law 0 = .ok (.iload_n 1, 1) := dk_27 (dk_at dksX4_law_0 0 rfl rfl)
theorem dX4_law_1 : decode cX4_law 1 = .ok (.iconst 1, 1) := dk_4 (dk_at dksX4_law_0 1 rfl rfl)
theorem dX4_law_2 : decode cX4_law 2 = .ok (.bipush 9, 2) := dk_16 9 (dk_at dksX4_law_0 2 rfl rfl)
theorem dX4_law_4 : decode cX4_law 4 = .ok (.invokestatic 346, 3) := dk_184 1 90 (dk_at dksX4_law_0 4 rfl rfl)
theorem dX4_law_7 : decode cX4_law 7 = .ok (.ifCond .eq 13, 3) := dk_153 0 13 (dk_at dksX4_law_0 7 rfl rfl)
theorem dX4_law_10 : decode cX4_law 10 = .ok (.iload_n 2, 1) := dk_28 (dk_at dksX4_law_0 10 rfl rfl)
theorem dX4_law_11 : decode cX4_law 11 = .ok (.iconst 0, 1) := dk_3 (dk_at dksX4_law_0 11 rfl rfl)
theorem dX4_law_12 : decode cX4_law 12 = .ok (.bipush 30, 2) := dk_16 30 (dk_at dksX4_law_0 12 rfl rfl)
theorem dX4_law_14 : decode cX4_law 14 = .ok (.invokestatic 346, 3) := dk_184 1 90 (dk_at dksX4_law_0 14 rfl rfl)
theorem dX4_law_17 : decode cX4_law 17 = .ok (.ifCond .ne 5, 3) := dk_154 0 5 (dk_at dksX4_law_0 17 rfl rfl)
theorem dX4_law_20 : decode cX4_law 20 = .ok (.iconst (-1), 1) := dk_2 (dk_at dksX4_law_0 20 rfl rfl)
theorem dX4_law_21 : decode cX4_law 21 = .ok (.ireturn, 1) := dk_172 (dk_at dksX4_law_0 21 rfl rfl)
theorem dX4_law_22 : decode cX4_law 22 = .ok (.aload_n 0, 1) := dk_42 (dk_at dksX4_law_0 22 rfl rfl)
theorem dX4_law_23 : decode cX4_law 23 = .ok (.invokevirtual 430, 3) := dk_182 1 174 (dk_at dksX4_law_1 0 rfl rfl)
theorem dX4_law_26 : decode cX4_law 26 = .ok (.aload_n 0, 1) := dk_42 (dk_at dksX4_law_1 3 rfl rfl)
theorem dX4_law_27 : decode cX4_law 27 = .ok (.iload_n 1, 1) := dk_27 (dk_at dksX4_law_1 4 rfl rfl)
theorem dX4_law_28 : decode cX4_law 28 = .ok (.putfield 91, 3) := dk_181 0 91 (dk_at dksX4_law_1 5 rfl rfl)
theorem dX4_law_31 : decode cX4_law 31 = .ok (.aload_n 0, 1) := dk_42 (dk_at dksX4_law_1 8 rfl rfl)
theorem dX4_law_32 : decode cX4_law 32 = .ok (.iload_n 2, 1) := dk_28 (dk_at dksX4_law_1 9 rfl rfl)
theorem dX4_law_33 : decode cX4_law 33 = .ok (.invokevirtual 433, 3) := dk_182 1 177 (dk_at dksX4_law_1 10 rfl rfl)
theorem dX4_law_36 : decode cX4_law 36 = .ok (.istore_n 3, 1) := dk_62 (dk_at dksX4_law_1 13 rfl rfl)
theorem dX4_law_37 : decode cX4_law 37 = .ok (.aload_n 0, 1) := dk_42 (dk_at dksX4_law_1 14 rfl rfl)
theorem dX4_law_38 : decode cX4_law 38 = .ok (.iconst (-1), 1) := dk_2 (dk_at dksX4_law_1 15 rfl rfl)
theorem dX4_law_39 : decode cX4_law 39 = .ok (.putfield 91, 3) := dk_181 0 91 (dk_at dksX4_law_1 16 rfl rfl)
theorem dX4_law_42 : decode cX4_law 42 = .ok (.aload_n 0, 1) := dk_42 (dk_at dksX4_law_1 19 rfl rfl)
theorem dX4_law_43 : decode cX4_law 43 = .ok (.invokevirtual 331, 3) := dk_182 1 75 (dk_at dksX4_law_1 20 rfl rfl)
theorem dX4_law_46 : decode cX4_law 46 = .ok (.invokestatic 334, 3) := dk_184 1 78 (dk_at dksX4_law_2 0 rfl rfl)
theorem dX4_law_49 : decode cX4_law 49 = .ok (.istore 4, 2) := dk_54 4 (dk_at dksX4_law_2 3 rfl rfl)
theorem dX4_law_51 : decode cX4_law 51 = .ok (.aload_n 0, 1) := dk_42 (dk_at dksX4_law_2 5 rfl rfl)
theorem dX4_law_52 : decode cX4_law 52 = .ok (.invokevirtual 436, 3) := dk_182 1 180 (dk_at dksX4_law_2 6 rfl rfl)
theorem dX4_law_55 : decode cX4_law 55 = .ok (.iload 4, 2) := dk_21 4 (dk_at dksX4_law_2 9 rfl rfl)
theorem dX4_law_57 : decode cX4_law 57 = .ok (.ireturn, 1) := dk_172 (dk_at dksX4_law_2 11 rfl rfl)
abbrev cX4_gone : ByteArray := prog_22_method_91_code
def yX4_gone : MethodName := ⟨RX4, "gone", "(I)I"⟩
def dkwX4_gone_2 : List UInt8 := [153, 0, 5, 29, 61, 132, 3, 1, 167, 255, 218, 42, 182, 1, 180, 28, 172]
abbrev dktX4_gone_2 : List UInt8 := dkwX4_gone_2 ++ []
def dkwX4_gone_1 : List UInt8 := [28, 156, 0, 34, 42, 182, 1, 149, 54, 4, 42, 27, 182, 1, 155, 153, 0, 12, 21, 4, 27, 184, 0, 250]
abbrev dktX4_gone_1 : List UInt8 := dkwX4_gone_1 ++ dktX4_gone_2
def dkwX4_gone_0 : List UInt8 := [42, 27, 182, 1, 155, 154, 0, 5, 2, 172, 42, 182, 1, 174, 2, 61, 4, 62, 29, 16, 30, 163, 0, 38]
abbrev dktX4_gone_0 : List UInt8 := dkwX4_gone_0 ++ dktX4_gone_1
theorem dksX4_gone_0 : cX4_gone.data.toList.drop 0 = dktX4_gone_0 := by decide +kernel
theorem dksX4_gone_1 : cX4_gone.data.toList.drop 24 = dktX4_gone_1 := dk_seg dksX4_gone_0 24 rfl rfl
theorem dksX4_gone_2 : cX4_gone.data.toList.drop 48 = dktX4_gone_2 := dk_seg dksX4_gone_1 24 rfl rfl
theorem dX4_gone_0 : decode cX4_gone 0 = .ok (.aload_n 0, 1) := dk_42 (dk_at dksX4_gone_0 0 rfl rfl)
theorem dX4_gone_1 : decode cX4_gone 1 = .ok (.iload_n 1, 1) := dk_27 (dk_at dksX4_gone_0 1 rfl rfl)
theorem dX4_gone_2 : decode cX4_gone 2 = .ok (.invokevirtual 411, 3) := dk_182 1 155 (dk_at dksX4_gone_0 2 rfl rfl)
theorem dX4_gone_5 : decode cX4_gone 5 = .ok (.ifCond .ne 5, 3) := dk_154 0 5 (dk_at dksX4_gone_0 5 rfl rfl)
theorem dX4_gone_8 : decode cX4_gone 8 = .ok (.iconst (-1), 1) := dk_2 (dk_at dksX4_gone_0 8 rfl rfl)
theorem dX4_gone_9 : decode cX4_gone 9 = .ok (.ireturn, 1) := dk_172 (dk_at dksX4_gone_0 9 rfl rfl)
theorem dX4_gone_10 : decode cX4_gone 10 = .ok (.aload_n 0, 1) := dk_42 (dk_at dksX4_gone_0 10 rfl rfl)
theorem dX4_gone_11 : decode cX4_gone 11 = .ok (.invokevirtual 430, 3) := dk_182 1 174 (dk_at dksX4_gone_0 11 rfl rfl)
theorem dX4_gone_14 : decode cX4_gone 14 = .ok (.iconst (-1), 1) := dk_2 (dk_at dksX4_gone_0 14 rfl rfl)
theorem dX4_gone_15 : decode cX4_gone 15 = .ok (.istore_n 2, 1) := dk_61 (dk_at dksX4_gone_0 15 rfl rfl)
theorem dX4_gone_16 : decode cX4_gone 16 = .ok (.iconst 1, 1) := dk_4 (dk_at dksX4_gone_0 16 rfl rfl)
theorem dX4_gone_17 : decode cX4_gone 17 = .ok (.istore_n 3, 1) := dk_62 (dk_at dksX4_gone_0 17 rfl rfl)
theorem dX4_gone_18 : decode cX4_gone 18 = .ok (.iload_n 3, 1) := dk_29 (dk_at dksX4_gone_0 18 rfl rfl)
theorem dX4_gone_19 : decode cX4_gone 19 = .ok (.bipush 30, 2) := dk_16 30 (dk_at dksX4_gone_0 19 rfl rfl)
theorem dX4_gone_21 : decode cX4_gone 21 = .ok (.if_icmp .gt 38, 3) := dk_163 0 38 (dk_at dksX4_gone_0 21 rfl rfl)
theorem dX4_gone_24 : decode cX4_gone 24 = .ok (.iload_n 2, 1) := dk_28 (dk_at dksX4_gone_1 0 rfl rfl)
theorem dX4_gone_25 : decode cX4_gone 25 = .ok (.ifCond .ge 34, 3) := dk_156 0 34 (dk_at dksX4_gone_1 1 rfl rfl)
theorem dX4_gone_28 : decode cX4_gone 28 = .ok (.aload_n 0, 1) := dk_42 (dk_at dksX4_gone_1 4 rfl rfl)
theorem dX4_gone_29 : decode cX4_gone 29 = .ok (.invokevirtual 405, 3) := dk_182 1 149 (dk_at dksX4_gone_1 5 rfl rfl)
theorem dX4_gone_32 : decode cX4_gone 32 = .ok (.istore 4, 2) := dk_54 4 (dk_at dksX4_gone_1 8 rfl rfl)
theorem dX4_gone_34 : decode cX4_gone 34 = .ok (.aload_n 0, 1) := dk_42 (dk_at dksX4_gone_1 10 rfl rfl)
theorem dX4_gone_35 : decode cX4_gone 35 = .ok (.iload_n 1, 1) := dk_27 (dk_at dksX4_gone_1 11 rfl rfl)
theorem dX4_gone_36 : decode cX4_gone 36 = .ok (.invokevirtual 411, 3) := dk_182 1 155 (dk_at dksX4_gone_1 12 rfl rfl)
theorem dX4_gone_39 : decode cX4_gone 39 = .ok (.ifCond .eq 12, 3) := dk_153 0 12 (dk_at dksX4_gone_1 15 rfl rfl)
theorem dX4_gone_42 : decode cX4_gone 42 = .ok (.iload 4, 2) := dk_21 4 (dk_at dksX4_gone_1 18 rfl rfl)
theorem dX4_gone_44 : decode cX4_gone 44 = .ok (.iload_n 1, 1) := dk_27 (dk_at dksX4_gone_1 20 rfl rfl)
theorem dX4_gone_45 : decode cX4_gone 45 = .ok (.invokestatic 250, 3) := dk_184 0 250 (dk_at dksX4_gone_1 21 rfl rfl)
theorem dX4_gone_48 : decode cX4_gone 48 = .ok (.ifCond .eq 5, 3) := dk_153 0 5 (dk_at dksX4_gone_2 0 rfl rfl)
theorem dX4_gone_51 : decode cX4_gone 51 = .ok (.iload_n 3, 1) := dk_29 (dk_at dksX4_gone_2 3 rfl rfl)
theorem dX4_gone_52 : decode cX4_gone 52 = .ok (.istore_n 2, 1) := dk_61 (dk_at dksX4_gone_2 4 rfl rfl)
theorem dX4_gone_53 : decode cX4_gone 53 = .ok (.iinc 3 1, 3) := dk_132 3 1 (dk_at dksX4_gone_2 5 rfl rfl)
theorem dX4_gone_56 : decode cX4_gone 56 = .ok (.goto (-38), 3) := dk_167 255 218 (dk_at dksX4_gone_2 8 rfl rfl)
theorem dX4_gone_59 : decode cX4_gone 59 = .ok (.aload_n 0, 1) := dk_42 (dk_at dksX4_gone_2 11 rfl rfl)
theorem dX4_gone_60 : decode cX4_gone 60 = .ok (.invokevirtual 436, 3) := dk_182 1 180 (dk_at dksX4_gone_2 12 rfl rfl)
theorem dX4_gone_63 : decode cX4_gone 63 = .ok (.iload_n 2, 1) := dk_28 (dk_at dksX4_gone_2 15 rfl rfl)
theorem dX4_gone_64 : decode cX4_gone 64 = .ok (.ireturn, 1) := dk_172 (dk_at dksX4_gone_2 16 rfl rfl)
abbrev cX4_need : ByteArray := prog_22_method_92_code
def yX4_need : MethodName := ⟨RX4, "need", "(I)I"⟩
def dkwX4_need_2 : List UInt8 := [180, 0, 85, 16, 24, 29, 96, 46, 100, 167, 0, 4, 3, 96, 61, 132, 3, 1, 167, 255, 208, 28, 172]
abbrev dktX4_need_2 : List UInt8 := dkwX4_need_2 ++ []
def dkwX4_need_1 : List UInt8 := [29, 182, 1, 155, 153, 0, 30, 27, 42, 180, 0, 85, 16, 24, 29, 96, 46, 164, 0, 17, 27, 42]
abbrev dktX4_need_1 : List UInt8 := dkwX4_need_1 ++ dktX4_need_2
def dkwX4_need_0 : List UInt8 := [27, 3, 16, 30, 184, 1, 90, 154, 0, 5, 2, 172, 3, 61, 3, 62, 29, 16, 8, 162, 0, 48, 28, 42]
abbrev dktX4_need_0 : List UInt8 := dkwX4_need_0 ++ dktX4_need_1
theorem dksX4_need_0 : cX4_need.data.toList.drop 0 = dktX4_need_0 := by decide +kernel
theorem dksX4_need_1 : cX4_need.data.toList.drop 24 = dktX4_need_1 := dk_seg dksX4_need_0 24 rfl rfl
theorem dksX4_need_2 : cX4_need.data.toList.drop 46 = dktX4_need_2 := dk_seg dksX4_need_1 22 rfl rfl
theorem dX4_need_0 : decode cX4_need 0 = .ok (.iload_n 1, 1) := dk_27 (dk_at dksX4_need_0 0 rfl rfl)
theorem dX4_need_1 : decode cX4_need 1 = .ok (.iconst 0, 1) := dk_3 (dk_at dksX4_need_0 1 rfl rfl)
theorem dX4_need_2 : decode cX4_need 2 = .ok (.bipush 30, 2) := dk_16 30 (dk_at dksX4_need_0 2 rfl rfl)
theorem dX4_need_4 : decode cX4_need 4 = .ok (.invokestatic 346, 3) := dk_184 1 90 (dk_at dksX4_need_0 4 rfl rfl)
theorem dX4_need_7 : decode cX4_need 7 = .ok (.ifCond .ne 5, 3) := dk_154 0 5 (dk_at dksX4_need_0 7 rfl rfl)
theorem dX4_need_10 : decode cX4_need 10 = .ok (.iconst (-1), 1) := dk_2 (dk_at dksX4_need_0 10 rfl rfl)
theorem dX4_need_11 : decode cX4_need 11 = .ok (.ireturn, 1) := dk_172 (dk_at dksX4_need_0 11 rfl rfl)
theorem dX4_need_12 : decode cX4_need 12 = .ok (.iconst 0, 1) := dk_3 (dk_at dksX4_need_0 12 rfl rfl)
theorem dX4_need_13 : decode cX4_need 13 = .ok (.istore_n 2, 1) := dk_61 (dk_at dksX4_need_0 13 rfl rfl)
theorem dX4_need_14 : decode cX4_need 14 = .ok (.iconst 0, 1) := dk_3 (dk_at dksX4_need_0 14 rfl rfl)
theorem dX4_need_15 : decode cX4_need 15 = .ok (.istore_n 3, 1) := dk_62 (dk_at dksX4_need_0 15 rfl rfl)
theorem dX4_need_16 : decode cX4_need 16 = .ok (.iload_n 3, 1) := dk_29 (dk_at dksX4_need_0 16 rfl rfl)
theorem dX4_need_17 : decode cX4_need 17 = .ok (.bipush 8, 2) := dk_16 8 (dk_at dksX4_need_0 17 rfl rfl)
theorem dX4_need_19 : decode cX4_need 19 = .ok (.if_icmp .ge 48, 3) := dk_162 0 48 (dk_at dksX4_need_0 19 rfl rfl)
theorem dX4_need_22 : decode cX4_need 22 = .ok (.iload_n 2, 1) := dk_28 (dk_at dksX4_need_0 22 rfl rfl)
theorem dX4_need_23 : decode cX4_need 23 = .ok (.aload_n 0, 1) := dk_42 (dk_at dksX4_need_0 23 rfl rfl)
theorem dX4_need_24 : decode cX4_need 24 = .ok (.iload_n 3, 1) := dk_29 (dk_at dksX4_need_1 0 rfl rfl)
theorem dX4_need_25 : decode cX4_need 25 = .ok (.invokevirtual 411, 3) := dk_182 1 155 (dk_at dksX4_need_1 1 rfl rfl)
theorem dX4_need_28 : decode cX4_need 28 = .ok (.ifCond .eq 30, 3) := dk_153 0 30 (dk_at dksX4_need_1 4 rfl rfl)
theorem dX4_need_31 : decode cX4_need 31 = .ok (.iload_n 1, 1) := dk_27 (dk_at dksX4_need_1 7 rfl rfl)
theorem dX4_need_32 : decode cX4_need 32 = .ok (.aload_n 0, 1) := dk_42 (dk_at dksX4_need_1 8 rfl rfl)
theorem dX4_need_33 : decode cX4_need 33 = .ok (.getfield 85, 3) := dk_180 0 85 (dk_at dksX4_need_1 9 rfl rfl)
theorem dX4_need_36 : decode cX4_need 36 = .ok (.bipush 24, 2) := dk_16 24 (dk_at dksX4_need_1 12 rfl rfl)
theorem dX4_need_38 : decode cX4_need 38 = .ok (.iload_n 3, 1) := dk_29 (dk_at dksX4_need_1 14 rfl rfl)
theorem dX4_need_39 : decode cX4_need 39 = .ok (.iadd, 1) := dk_96 (dk_at dksX4_need_1 15 rfl rfl)
theorem dX4_need_40 : decode cX4_need 40 = .ok (.iaload, 1) := dk_46 (dk_at dksX4_need_1 16 rfl rfl)
theorem dX4_need_41 : decode cX4_need 41 = .ok (.if_icmp .le 17, 3) := dk_164 0 17 (dk_at dksX4_need_1 17 rfl rfl)
theorem dX4_need_44 : decode cX4_need 44 = .ok (.iload_n 1, 1) := dk_27 (dk_at dksX4_need_1 20 rfl rfl)
theorem dX4_need_45 : decode cX4_need 45 = .ok (.aload_n 0, 1) := dk_42 (dk_at dksX4_need_1 21 rfl rfl)
theorem dX4_need_46 : decode cX4_need 46 = .ok (.getfield 85, 3) := dk_180 0 85 (dk_at dksX4_need_2 0 rfl rfl)
theorem dX4_need_49 : decode cX4_need 49 = .ok (.bipush 24, 2) := dk_16 24 (dk_at dksX4_need_2 3 rfl rfl)
theorem dX4_need_51 : decode cX4_need 51 = .ok (.iload_n 3, 1) := dk_29 (dk_at dksX4_need_2 5 rfl rfl)
theorem dX4_need_52 : decode cX4_need 52 = .ok (.iadd, 1) := dk_96 (dk_at dksX4_need_2 6 rfl rfl)
theorem dX4_need_53 : decode cX4_need 53 = .ok (.iaload, 1) := dk_46 (dk_at dksX4_need_2 7 rfl rfl)
theorem dX4_need_54 : decode cX4_need 54 = .ok (.isub, 1) := dk_100 (dk_at dksX4_need_2 8 rfl rfl)
theorem dX4_need_55 : decode cX4_need 55 = .ok (.goto 4, 3) := dk_167 0 4 (dk_at dksX4_need_2 9 rfl rfl)
theorem dX4_need_58 : decode cX4_need 58 = .ok (.iconst 0, 1) := dk_3 (dk_at dksX4_need_2 12 rfl rfl)
theorem dX4_need_59 : decode cX4_need 59 = .ok (.iadd, 1) := dk_96 (dk_at dksX4_need_2 13 rfl rfl)
theorem dX4_need_60 : decode cX4_need 60 = .ok (.istore_n 2, 1) := dk_61 (dk_at dksX4_need_2 14 rfl rfl)
theorem dX4_need_61 : decode cX4_need 61 = .ok (.iinc 3 1, 3) := dk_132 3 1 (dk_at dksX4_need_2 15 rfl rfl)
theorem dX4_need_64 : decode cX4_need 64 = .ok (.goto (-48), 3) := dk_167 255 208 (dk_at dksX4_need_2 18 rfl rfl)
theorem dX4_need_67 : decode cX4_need 67 = .ok (.iload_n 2, 1) := dk_28 (dk_at dksX4_need_2 21 rfl rfl)
theorem dX4_need_68 : decode cX4_need 68 = .ok (.ireturn, 1) := dk_172 (dk_at dksX4_need_2 22 rfl rfl)
abbrev cX4_best : ByteArray := prog_22_method_93_code
def yX4_best : MethodName := ⟨RX4, "best", "(II)I"⟩
def dkwX4_best_5 : List UInt8 := [167, 255, 165, 28, 154, 0, 7, 29, 167, 0, 5, 21, 4, 172]
abbrev dktX4_best_5 : List UInt8 := dkwX4_best_5 ++ []
def dkwX4_best_4 : List UInt8 := [182, 1, 180, 21, 7, 21, 4, 163, 0, 6, 167, 0, 10, 21, 5, 62, 21, 7, 54, 4, 132, 5, 1]
abbrev dktX4_best_4 : List UInt8 := dkwX4_best_4 ++ dktX4_best_5
def dkwX4_best_3 : List UInt8 := [16, 8, 27, 96, 21, 5, 79, 42, 8, 182, 1, 177, 54, 6, 42, 182, 1, 75, 184, 1, 78, 54, 7, 42]
abbrev dktX4_best_3 : List UInt8 := dkwX4_best_3 ++ dktX4_best_4
def dkwX4_best_2 : List UInt8 := [159, 0, 16, 42, 27, 21, 5, 182, 1, 168, 154, 0, 6, 167, 0, 55, 42, 182, 1, 174, 42, 180, 0, 85]
abbrev dktX4_best_2 : List UInt8 := dkwX4_best_2 ++ dktX4_best_3
def dkwX4_best_1 : List UInt8 := [3, 54, 5, 21, 5, 42, 182, 1, 87, 162, 0, 88, 42, 180, 0, 85, 16, 8, 27, 96, 46, 21, 5]
abbrev dktX4_best_1 : List UInt8 := dkwX4_best_1 ++ dktX4_best_2
def dkwX4_best_0 : List UInt8 := [42, 27, 182, 1, 155, 153, 0, 12, 28, 3, 4, 184, 1, 90, 154, 0, 5, 2, 172, 2, 62, 2, 54, 4]
abbrev dktX4_best_0 : List UInt8 := dkwX4_best_0 ++ dktX4_best_1
theorem dksX4_best_0 : cX4_best.data.toList.drop 0 = dktX4_best_0 := by decide +kernel
theorem dksX4_best_1 : cX4_best.data.toList.drop 24 = dktX4_best_1 := dk_seg dksX4_best_0 24 rfl rfl
theorem dksX4_best_2 : cX4_best.data.toList.drop 47 = dktX4_best_2 := dk_seg dksX4_best_1 23 rfl rfl
theorem dksX4_best_3 : cX4_best.data.toList.drop 71 = dktX4_best_3 := dk_seg dksX4_best_2 24 rfl rfl
theorem dksX4_best_4 : cX4_best.data.toList.drop 95 = dktX4_best_4 := dk_seg dksX4_best_3 24 rfl rfl
theorem dksX4_best_5 : cX4_best.data.toList.drop 118 = dktX4_best_5 := dk_seg dksX4_best_4 23 rfl rfl
theorem dX4_best_0 : decode cX4_best 0 = .ok (.aload_n 0, 1) := dk_42 (dk_at dksX4_best_0 0 rfl rfl)
theorem dX4_best_1 : decode cX4_best 1 = .ok (.iload_n 1, 1) := dk_27 (dk_at dksX4_best_0 1 rfl rfl)
theorem dX4_best_2 : decode cX4_best 2 = .ok (.invokevirtual 411, 3) := dk_182 1 155 (dk_at dksX4_best_0 2 rfl rfl)
theorem dX4_best_5 : decode cX4_best 5 = .ok (.ifCond .eq 12, 3) := dk_153 0 12 (dk_at dksX4_best_0 5 rfl rfl)
theorem dX4_best_8 : decode cX4_best 8 = .ok (.iload_n 2, 1) := dk_28 (dk_at dksX4_best_0 8 rfl rfl)
theorem dX4_best_9 : decode cX4_best 9 = .ok (.iconst 0, 1) := dk_3 (dk_at dksX4_best_0 9 rfl rfl)
theorem dX4_best_10 : decode cX4_best 10 = .ok (.iconst 1, 1) := dk_4 (dk_at dksX4_best_0 10 rfl rfl)
theorem dX4_best_11 : decode cX4_best 11 = .ok (.invokestatic 346, 3) := dk_184 1 90 (dk_at dksX4_best_0 11 rfl rfl)
theorem dX4_best_14 : decode cX4_best 14 = .ok (.ifCond .ne 5, 3) := dk_154 0 5 (dk_at dksX4_best_0 14 rfl rfl)
theorem dX4_best_17 : decode cX4_best 17 = .ok (.iconst (-1), 1) := dk_2 (dk_at dksX4_best_0 17 rfl rfl)
theorem dX4_best_18 : decode cX4_best 18 = .ok (.ireturn, 1) := dk_172 (dk_at dksX4_best_0 18 rfl rfl)
theorem dX4_best_19 : decode cX4_best 19 = .ok (.iconst (-1), 1) := dk_2 (dk_at dksX4_best_0 19 rfl rfl)
theorem dX4_best_20 : decode cX4_best 20 = .ok (.istore_n 3, 1) := dk_62 (dk_at dksX4_best_0 20 rfl rfl)
theorem dX4_best_21 : decode cX4_best 21 = .ok (.iconst (-1), 1) := dk_2 (dk_at dksX4_best_0 21 rfl rfl)
theorem dX4_best_22 : decode cX4_best 22 = .ok (.istore 4, 2) := dk_54 4 (dk_at dksX4_best_0 22 rfl rfl)
theorem dX4_best_24 : decode cX4_best 24 = .ok (.iconst 0, 1) := dk_3 (dk_at dksX4_best_1 0 rfl rfl)
theorem dX4_best_25 : decode cX4_best 25 = .ok (.istore 5, 2) := dk_54 5 (dk_at dksX4_best_1 1 rfl rfl)
theorem dX4_best_27 : decode cX4_best 27 = .ok (.iload 5, 2) := dk_21 5 (dk_at dksX4_best_1 3 rfl rfl)
theorem dX4_best_29 : decode cX4_best 29 = .ok (.aload_n 0, 1) := dk_42 (dk_at dksX4_best_1 5 rfl rfl)
theorem dX4_best_30 : decode cX4_best 30 = .ok (.invokevirtual 343, 3) := dk_182 1 87 (dk_at dksX4_best_1 6 rfl rfl)
theorem dX4_best_33 : decode cX4_best 33 = .ok (.if_icmp .ge 88, 3) := dk_162 0 88 (dk_at dksX4_best_1 9 rfl rfl)
theorem dX4_best_36 : decode cX4_best 36 = .ok (.aload_n 0, 1) := dk_42 (dk_at dksX4_best_1 12 rfl rfl)
theorem dX4_best_37 : decode cX4_best 37 = .ok (.getfield 85, 3) := dk_180 0 85 (dk_at dksX4_best_1 13 rfl rfl)
theorem dX4_best_40 : decode cX4_best 40 = .ok (.bipush 8, 2) := dk_16 8 (dk_at dksX4_best_1 16 rfl rfl)
theorem dX4_best_42 : decode cX4_best 42 = .ok (.iload_n 1, 1) := dk_27 (dk_at dksX4_best_1 18 rfl rfl)
theorem dX4_best_43 : decode cX4_best 43 = .ok (.iadd, 1) := dk_96 (dk_at dksX4_best_1 19 rfl rfl)
theorem dX4_best_44 : decode cX4_best 44 = .ok (.iaload, 1) := dk_46 (dk_at dksX4_best_1 20 rfl rfl)
theorem dX4_best_45 : decode cX4_best 45 = .ok (.iload 5, 2) := dk_21 5 (dk_at dksX4_best_1 21 rfl rfl)
theorem dX4_best_47 : decode cX4_best 47 = .ok (.if_icmp .eq 16, 3) := dk_159 0 16 (dk_at dksX4_best_2 0 rfl rfl)
theorem dX4_best_50 : decode cX4_best 50 = .ok (.aload_n 0, 1) := dk_42 (dk_at dksX4_best_2 3 rfl rfl)
theorem dX4_best_51 : decode cX4_best 51 = .ok (.iload_n 1, 1) := dk_27 (dk_at dksX4_best_2 4 rfl rfl)
theorem dX4_best_52 : decode cX4_best 52 = .ok (.iload 5, 2) := dk_21 5 (dk_at dksX4_best_2 5 rfl rfl)
theorem dX4_best_54 : decode cX4_best 54 = .ok (.invokevirtual 424, 3) := dk_182 1 168 (dk_at dksX4_best_2 7 rfl rfl)
theorem dX4_best_57 : decode cX4_best 57 = .ok (.ifCond .ne 6, 3) := dk_154 0 6 (dk_at dksX4_best_2 10 rfl rfl)
theorem dX4_best_60 : decode cX4_best 60 = .ok (.goto 55, 3) := dk_167 0 55 (dk_at dksX4_best_2 13 rfl rfl)
theorem dX4_best_63 : decode cX4_best 63 = .ok (.aload_n 0, 1) := dk_42 (dk_at dksX4_best_2 16 rfl rfl)
theorem dX4_best_64 : decode cX4_best 64 = .ok (.invokevirtual 430, 3) := dk_182 1 174 (dk_at dksX4_best_2 17 rfl rfl)
theorem dX4_best_67 : decode cX4_best 67 = .ok (.aload_n 0, 1) := dk_42 (dk_at dksX4_best_2 20 rfl rfl)
theorem dX4_best_68 : decode cX4_best 68 = .ok (.getfield 85, 3) := dk_180 0 85 (dk_at dksX4_best_2 21 rfl rfl)
theorem dX4_best_71 : decode cX4_best 71 = .ok (.bipush 8, 2) := dk_16 8 (dk_at dksX4_best_3 0 rfl rfl)
theorem dX4_best_73 : decode cX4_best 73 = .ok (.iload_n 1, 1) := dk_27 (dk_at dksX4_best_3 2 rfl rfl)
theorem dX4_best_74 : decode cX4_best 74 = .ok (.iadd, 1) := dk_96 (dk_at dksX4_best_3 3 rfl rfl)
theorem dX4_best_75 : decode cX4_best 75 = .ok (.iload 5, 2) := dk_21 5 (dk_at dksX4_best_3 4 rfl rfl)
theorem dX4_best_77 : decode cX4_best 77 = .ok (.iastore, 1) := dk_79 (dk_at dksX4_best_3 6 rfl rfl)
theorem dX4_best_78 : decode cX4_best 78 = .ok (.aload_n 0, 1) := dk_42 (dk_at dksX4_best_3 7 rfl rfl)
theorem dX4_best_79 : decode cX4_best 79 = .ok (.iconst 5, 1) := dk_8 (dk_at dksX4_best_3 8 rfl rfl)
theorem dX4_best_80 : decode cX4_best 80 = .ok (.invokevirtual 433, 3) := dk_182 1 177 (dk_at dksX4_best_3 9 rfl rfl)
theorem dX4_best_83 : decode cX4_best 83 = .ok (.istore 6, 2) := dk_54 6 (dk_at dksX4_best_3 12 rfl rfl)
theorem dX4_best_85 : decode cX4_best 85 = .ok (.aload_n 0, 1) := dk_42 (dk_at dksX4_best_3 14 rfl rfl)
theorem dX4_best_86 : decode cX4_best 86 = .ok (.invokevirtual 331, 3) := dk_182 1 75 (dk_at dksX4_best_3 15 rfl rfl)
theorem dX4_best_89 : decode cX4_best 89 = .ok (.invokestatic 334, 3) := dk_184 1 78 (dk_at dksX4_best_3 18 rfl rfl)
theorem dX4_best_92 : decode cX4_best 92 = .ok (.istore 7, 2) := dk_54 7 (dk_at dksX4_best_3 21 rfl rfl)
theorem dX4_best_94 : decode cX4_best 94 = .ok (.aload_n 0, 1) := dk_42 (dk_at dksX4_best_3 23 rfl rfl)
theorem dX4_best_95 : decode cX4_best 95 = .ok (.invokevirtual 436, 3) := dk_182 1 180 (dk_at dksX4_best_4 0 rfl rfl)
theorem dX4_best_98 : decode cX4_best 98 = .ok (.iload 7, 2) := dk_21 7 (dk_at dksX4_best_4 3 rfl rfl)
theorem dX4_best_100 : decode cX4_best 100 = .ok (.iload 4, 2) := dk_21 4 (dk_at dksX4_best_4 5 rfl rfl)
theorem dX4_best_102 : decode cX4_best 102 = .ok (.if_icmp .gt 6, 3) := dk_163 0 6 (dk_at dksX4_best_4 7 rfl rfl)
theorem dX4_best_105 : decode cX4_best 105 = .ok (.goto 10, 3) := dk_167 0 10 (dk_at dksX4_best_4 10 rfl rfl)
theorem dX4_best_108 : decode cX4_best 108 = .ok (.iload 5, 2) := dk_21 5 (dk_at dksX4_best_4 13 rfl rfl)
theorem dX4_best_110 : decode cX4_best 110 = .ok (.istore_n 3, 1) := dk_62 (dk_at dksX4_best_4 15 rfl rfl)
theorem dX4_best_111 : decode cX4_best 111 = .ok (.iload 7, 2) := dk_21 7 (dk_at dksX4_best_4 16 rfl rfl)
theorem dX4_best_113 : decode cX4_best 113 = .ok (.istore 4, 2) := dk_54 4 (dk_at dksX4_best_4 18 rfl rfl)
theorem dX4_best_115 : decode cX4_best 115 = .ok (.iinc 5 1, 3) := dk_132 5 1 (dk_at dksX4_best_4 20 rfl rfl)
theorem dX4_best_118 : decode cX4_best 118 = .ok (.goto (-91), 3) := dk_167 255 165 (dk_at dksX4_best_5 0 rfl rfl)
theorem dX4_best_121 : decode cX4_best 121 = .ok (.iload_n 2, 1) := dk_28 (dk_at dksX4_best_5 3 rfl rfl)
theorem dX4_best_122 : decode cX4_best 122 = .ok (.ifCond .ne 7, 3) := dk_154 0 7 (dk_at dksX4_best_5 4 rfl rfl)
theorem dX4_best_125 : decode cX4_best 125 = .ok (.iload_n 3, 1) := dk_29 (dk_at dksX4_best_5 7 rfl rfl)
theorem dX4_best_126 : decode cX4_best 126 = .ok (.goto 5, 3) := dk_167 0 5 (dk_at dksX4_best_5 8 rfl rfl)
theorem dX4_best_129 : decode cX4_best 129 = .ok (.iload 4, 2) := dk_21 4 (dk_at dksX4_best_5 11 rfl rfl)
theorem dX4_best_131 : decode cX4_best 131 = .ok (.ireturn, 1) := dk_172 (dk_at dksX4_best_5 13 rfl rfl)
abbrev cX4_lies : ByteArray := prog_22_method_94_code
def yX4_lies : MethodName := ⟨RX4, "lies", "(I)I"⟩
def dkwX4_lies_1 : List UInt8 := [16, 254, 172]
abbrev dktX4_lies_1 : List UInt8 := dkwX4_lies_1 ++ []
def dkwX4_lies_0 : List UInt8 := [27, 3, 42, 180, 1, 116, 4, 100, 184, 1, 90, 153, 0, 12, 42, 180, 0, 97, 27, 46, 167, 0, 5]
abbrev dktX4_lies_0 : List UInt8 := dkwX4_lies_0 ++ dktX4_lies_1
theorem dksX4_lies_0 : cX4_lies.data.toList.drop 0 = dktX4_lies_0 := by decide +kernel
theorem dksX4_lies_1 : cX4_lies.data.toList.drop 23 = dktX4_lies_1 := dk_seg dksX4_lies_0 23 rfl rfl
theorem dX4_lies_0 : decode cX4_lies 0 = .ok (.iload_n 1, 1) := dk_27 (dk_at dksX4_lies_0 0 rfl rfl)
theorem dX4_lies_1 : decode cX4_lies 1 = .ok (.iconst 0, 1) := dk_3 (dk_at dksX4_lies_0 1 rfl rfl)
theorem dX4_lies_2 : decode cX4_lies 2 = .ok (.aload_n 0, 1) := dk_42 (dk_at dksX4_lies_0 2 rfl rfl)
theorem dX4_lies_3 : decode cX4_lies 3 = .ok (.getfield 372, 3) := dk_180 1 116 (dk_at dksX4_lies_0 3 rfl rfl)
theorem dX4_lies_6 : decode cX4_lies 6 = .ok (.iconst 1, 1) := dk_4 (dk_at dksX4_lies_0 6 rfl rfl)
theorem dX4_lies_7 : decode cX4_lies 7 = .ok (.isub, 1) := dk_100 (dk_at dksX4_lies_0 7 rfl rfl)
theorem dX4_lies_8 : decode cX4_lies 8 = .ok (.invokestatic 346, 3) := dk_184 1 90 (dk_at dksX4_lies_0 8 rfl rfl)
theorem dX4_lies_11 : decode cX4_lies 11 = .ok (.ifCond .eq 12, 3) := dk_153 0 12 (dk_at dksX4_lies_0 11 rfl rfl)
theorem dX4_lies_14 : decode cX4_lies 14 = .ok (.aload_n 0, 1) := dk_42 (dk_at dksX4_lies_0 14 rfl rfl)
theorem dX4_lies_15 : decode cX4_lies 15 = .ok (.getfield 97, 3) := dk_180 0 97 (dk_at dksX4_lies_0 15 rfl rfl)
theorem dX4_lies_18 : decode cX4_lies 18 = .ok (.iload_n 1, 1) := dk_27 (dk_at dksX4_lies_0 18 rfl rfl)
theorem dX4_lies_19 : decode cX4_lies 19 = .ok (.iaload, 1) := dk_46 (dk_at dksX4_lies_0 19 rfl rfl)
theorem dX4_lies_20 : decode cX4_lies 20 = .ok (.goto 5, 3) := dk_167 0 5 (dk_at dksX4_lies_0 20 rfl rfl)
theorem dX4_lies_23 : decode cX4_lies 23 = .ok (.bipush (-2), 2) := dk_16 254 (dk_at dksX4_lies_1 0 rfl rfl)
theorem dX4_lies_25 : decode cX4_lies 25 = .ok (.ireturn, 1) := dk_172 (dk_at dksX4_lies_1 2 rfl rfl)
abbrev cX4_pack : ByteArray := prog_22_method_97_code
def yX4_pack : MethodName := ⟨RX4, "pack", "()I"⟩
def dkwX4_pack_7 : List UInt8 := [132, 4, 1, 167, 255, 217, 42, 16, 8, 181, 1, 116, 28, 172]
abbrev dktX4_pack_7 : List UInt8 := dkwX4_pack_7 ++ []
def dkwX4_pack_6 : List UInt8 := [180, 0, 85, 3, 21, 4, 96, 46, 154, 0, 7, 2, 167, 0, 9, 27, 21, 4, 184, 1, 186, 79]
abbrev dktX4_pack_6 : List UInt8 := dkwX4_pack_6 ++ dktX4_pack_7
def dkwX4_pack_5 : List UInt8 := [156, 0, 5, 2, 172, 3, 54, 4, 21, 4, 16, 8, 162, 0, 38, 42, 180, 0, 97, 21, 4, 42]
abbrev dktX4_pack_5 : List UInt8 := dkwX4_pack_5 ++ dktX4_pack_6
def dkwX4_pack_4 : List UInt8 := [161, 0, 6, 167, 0, 12, 21, 4, 60, 21, 5, 184, 1, 78, 61, 132, 4, 1, 167, 255, 201, 27]
abbrev dktX4_pack_4 : List UInt8 := dkwX4_pack_4 ++ dktX4_pack_5
def dkwX4_pack_3 : List UInt8 := [167, 0, 37, 42, 21, 4, 182, 1, 190, 54, 5, 21, 5, 155, 0, 24, 21, 5, 184, 1, 78, 28]
abbrev dktX4_pack_3 : List UInt8 := dkwX4_pack_3 ++ dktX4_pack_4
def dkwX4_pack_2 : List UInt8 := [132, 4, 1, 167, 255, 222, 3, 54, 4, 21, 4, 19, 1, 189, 162, 0, 53, 21, 4, 29, 126, 153, 0, 6]
abbrev dktX4_pack_2 : List UInt8 := dkwX4_pack_2 ++ dktX4_pack_3
def dkwX4_pack_1 : List UInt8 := [180, 0, 85, 3, 21, 4, 96, 46, 154, 0, 15, 29, 6, 5, 16, 7, 21, 4, 100, 104, 120, 128, 62]
abbrev dktX4_pack_1 : List UInt8 := dkwX4_pack_1 ++ dktX4_pack_2
def dkwX4_pack_0 : List UInt8 := [42, 3, 181, 1, 116, 2, 60, 17, 3, 232, 61, 3, 62, 3, 54, 4, 21, 4, 16, 8, 162, 0, 33, 42]
abbrev dktX4_pack_0 : List UInt8 := dkwX4_pack_0 ++ dktX4_pack_1
theorem dksX4_pack_0 : cX4_pack.data.toList.drop 0 = dktX4_pack_0 := by decide +kernel
theorem dksX4_pack_1 : cX4_pack.data.toList.drop 24 = dktX4_pack_1 := dk_seg dksX4_pack_0 24 rfl rfl
theorem dksX4_pack_2 : cX4_pack.data.toList.drop 47 = dktX4_pack_2 := dk_seg dksX4_pack_1 23 rfl rfl
theorem dksX4_pack_3 : cX4_pack.data.toList.drop 71 = dktX4_pack_3 := dk_seg dksX4_pack_2 24 rfl rfl
theorem dksX4_pack_4 : cX4_pack.data.toList.drop 93 = dktX4_pack_4 := dk_seg dksX4_pack_3 22 rfl rfl
theorem dksX4_pack_5 : cX4_pack.data.toList.drop 115 = dktX4_pack_5 := dk_seg dksX4_pack_4 22 rfl rfl
theorem dksX4_pack_6 : cX4_pack.data.toList.drop 137 = dktX4_pack_6 := dk_seg dksX4_pack_5 22 rfl rfl
theorem dksX4_pack_7 : cX4_pack.data.toList.drop 159 = dktX4_pack_7 := dk_seg dksX4_pack_6 22 rfl rfl
theorem dX4_pack_0 : decode cX4_pack 0 = .ok (.aload_n 0, 1) := dk_42 (dk_at dksX4_pack_0 0 rfl rfl)
theorem dX4_pack_1 : decode cX4_pack 1 = .ok (.iconst 0, 1) := dk_3 (dk_at dksX4_pack_0 1 rfl rfl)
theorem dX4_pack_2 : decode cX4_pack 2 = .ok (.putfield 372, 3) := dk_181 1 116 (dk_at dksX4_pack_0 2 rfl rfl)
theorem dX4_pack_5 : decode cX4_pack 5 = .ok (.iconst (-1), 1) := dk_2 (dk_at dksX4_pack_0 5 rfl rfl)
theorem dX4_pack_6 : decode cX4_pack 6 = .ok (.istore_n 1, 1) := dk_60 (dk_at dksX4_pack_0 6 rfl rfl)
theorem dX4_pack_7 : decode cX4_pack 7 = .ok (.sipush 1000, 3) := dk_17 3 232 (dk_at dksX4_pack_0 7 rfl rfl)
theorem dX4_pack_10 : decode cX4_pack 10 = .ok (.istore_n 2, 1) := dk_61 (dk_at dksX4_pack_0 10 rfl rfl)
theorem dX4_pack_11 : decode cX4_pack 11 = .ok (.iconst 0, 1) := dk_3 (dk_at dksX4_pack_0 11 rfl rfl)
theorem dX4_pack_12 : decode cX4_pack 12 = .ok (.istore_n 3, 1) := dk_62 (dk_at dksX4_pack_0 12 rfl rfl)
theorem dX4_pack_13 : decode cX4_pack 13 = .ok (.iconst 0, 1) := dk_3 (dk_at dksX4_pack_0 13 rfl rfl)
theorem dX4_pack_14 : decode cX4_pack 14 = .ok (.istore 4, 2) := dk_54 4 (dk_at dksX4_pack_0 14 rfl rfl)
theorem dX4_pack_16 : decode cX4_pack 16 = .ok (.iload 4, 2) := dk_21 4 (dk_at dksX4_pack_0 16 rfl rfl)
theorem dX4_pack_18 : decode cX4_pack 18 = .ok (.bipush 8, 2) := dk_16 8 (dk_at dksX4_pack_0 18 rfl rfl)
theorem dX4_pack_20 : decode cX4_pack 20 = .ok (.if_icmp .ge 33, 3) := dk_162 0 33 (dk_at dksX4_pack_0 20 rfl rfl)
theorem dX4_pack_23 : decode cX4_pack 23 = .ok (.aload_n 0, 1) := dk_42 (dk_at dksX4_pack_0 23 rfl rfl)
theorem dX4_pack_24 : decode cX4_pack 24 = .ok (.getfield 85, 3) := dk_180 0 85 (dk_at dksX4_pack_1 0 rfl rfl)
theorem dX4_pack_27 : decode cX4_pack 27 = .ok (.iconst 0, 1) := dk_3 (dk_at dksX4_pack_1 3 rfl rfl)
theorem dX4_pack_28 : decode cX4_pack 28 = .ok (.iload 4, 2) := dk_21 4 (dk_at dksX4_pack_1 4 rfl rfl)
theorem dX4_pack_30 : decode cX4_pack 30 = .ok (.iadd, 1) := dk_96 (dk_at dksX4_pack_1 6 rfl rfl)
theorem dX4_pack_31 : decode cX4_pack 31 = .ok (.iaload, 1) := dk_46 (dk_at dksX4_pack_1 7 rfl rfl)
theorem dX4_pack_32 : decode cX4_pack 32 = .ok (.ifCond .ne 15, 3) := dk_154 0 15 (dk_at dksX4_pack_1 8 rfl rfl)
theorem dX4_pack_35 : decode cX4_pack 35 = .ok (.iload_n 3, 1) := dk_29 (dk_at dksX4_pack_1 11 rfl rfl)
theorem dX4_pack_36 : decode cX4_pack 36 = .ok (.iconst 3, 1) := dk_6 (dk_at dksX4_pack_1 12 rfl rfl)
theorem dX4_pack_37 : decode cX4_pack 37 = .ok (.iconst 2, 1) := dk_5 (dk_at dksX4_pack_1 13 rfl rfl)
theorem dX4_pack_38 : decode cX4_pack 38 = .ok (.bipush 7, 2) := dk_16 7 (dk_at dksX4_pack_1 14 rfl rfl)
theorem dX4_pack_40 : decode cX4_pack 40 = .ok (.iload 4, 2) := dk_21 4 (dk_at dksX4_pack_1 16 rfl rfl)
theorem dX4_pack_42 : decode cX4_pack 42 = .ok (.isub, 1) := dk_100 (dk_at dksX4_pack_1 18 rfl rfl)
theorem dX4_pack_43 : decode cX4_pack 43 = .ok (.imul, 1) := dk_104 (dk_at dksX4_pack_1 19 rfl rfl)
theorem dX4_pack_44 : decode cX4_pack 44 = .ok (.ishl, 1) := dk_120 (dk_at dksX4_pack_1 20 rfl rfl)
theorem dX4_pack_45 : decode cX4_pack 45 = .ok (.ior, 1) := dk_128 (dk_at dksX4_pack_1 21 rfl rfl)
theorem dX4_pack_46 : decode cX4_pack 46 = .ok (.istore_n 3, 1) := dk_62 (dk_at dksX4_pack_1 22 rfl rfl)
theorem dX4_pack_47 : decode cX4_pack 47 = .ok (.iinc 4 1, 3) := dk_132 4 1 (dk_at dksX4_pack_2 0 rfl rfl)
theorem dX4_pack_50 : decode cX4_pack 50 = .ok (.goto (-34), 3) := dk_167 255 222 (dk_at dksX4_pack_2 3 rfl rfl)
theorem dX4_pack_53 : decode cX4_pack 53 = .ok (.iconst 0, 1) := dk_3 (dk_at dksX4_pack_2 6 rfl rfl)
theorem dX4_pack_54 : decode cX4_pack 54 = .ok (.istore 4, 2) := dk_54 4 (dk_at dksX4_pack_2 7 rfl rfl)
theorem dX4_pack_56 : decode cX4_pack 56 = .ok (.iload 4, 2) := dk_21 4 (dk_at dksX4_pack_2 9 rfl rfl)
theorem dX4_pack_58 : decode cX4_pack 58 = .ok (.ldc_w 445, 3) := dk_19 1 189 (dk_at dksX4_pack_2 11 rfl rfl)
theorem dX4_pack_61 : decode cX4_pack 61 = .ok (.if_icmp .ge 53, 3) := dk_162 0 53 (dk_at dksX4_pack_2 14 rfl rfl)
theorem dX4_pack_64 : decode cX4_pack 64 = .ok (.iload 4, 2) := dk_21 4 (dk_at dksX4_pack_2 17 rfl rfl)
theorem dX4_pack_66 : decode cX4_pack 66 = .ok (.iload_n 3, 1) := dk_29 (dk_at dksX4_pack_2 19 rfl rfl)
theorem dX4_pack_67 : decode cX4_pack 67 = .ok (.iand, 1) := dk_126 (dk_at dksX4_pack_2 20 rfl rfl)
theorem dX4_pack_68 : decode cX4_pack 68 = .ok (.ifCond .eq 6, 3) := dk_153 0 6 (dk_at dksX4_pack_2 21 rfl rfl)
theorem dX4_pack_71 : decode cX4_pack 71 = .ok (.goto 37, 3) := dk_167 0 37 (dk_at dksX4_pack_3 0 rfl rfl)
theorem dX4_pack_74 : decode cX4_pack 74 = .ok (.aload_n 0, 1) := dk_42 (dk_at dksX4_pack_3 3 rfl rfl)
theorem dX4_pack_75 : decode cX4_pack 75 = .ok (.iload 4, 2) := dk_21 4 (dk_at dksX4_pack_3 4 rfl rfl)
theorem dX4_pack_77 : decode cX4_pack 77 = .ok (.invokevirtual 446, 3) := dk_182 1 190 (dk_at dksX4_pack_3 6 rfl rfl)
theorem dX4_pack_80 : decode cX4_pack 80 = .ok (.istore 5, 2) := dk_54 5 (dk_at dksX4_pack_3 9 rfl rfl)
theorem dX4_pack_82 : decode cX4_pack 82 = .ok (.iload 5, 2) := dk_21 5 (dk_at dksX4_pack_3 11 rfl rfl)
theorem dX4_pack_84 : decode cX4_pack 84 = .ok (.ifCond .lt 24, 3) := dk_155 0 24 (dk_at dksX4_pack_3 13 rfl rfl)
theorem dX4_pack_87 : decode cX4_pack 87 = .ok (.iload 5, 2) := dk_21 5 (dk_at dksX4_pack_3 16 rfl rfl)
theorem dX4_pack_89 : decode cX4_pack 89 = .ok (.invokestatic 334, 3) := dk_184 1 78 (dk_at dksX4_pack_3 18 rfl rfl)
theorem dX4_pack_92 : decode cX4_pack 92 = .ok (.iload_n 2, 1) := dk_28 (dk_at dksX4_pack_3 21 rfl rfl)
theorem dX4_pack_93 : decode cX4_pack 93 = .ok (.if_icmp .lt 6, 3) := dk_161 0 6 (dk_at dksX4_pack_4 0 rfl rfl)
theorem dX4_pack_96 : decode cX4_pack 96 = .ok (.goto 12, 3) := dk_167 0 12 (dk_at dksX4_pack_4 3 rfl rfl)
theorem dX4_pack_99 : decode cX4_pack 99 = .ok (.iload 4, 2) := dk_21 4 (dk_at dksX4_pack_4 6 rfl rfl)
theorem dX4_pack_101 : decode cX4_pack 101 = .ok (.istore_n 1, 1) := dk_60 (dk_at dksX4_pack_4 8 rfl rfl)
theorem dX4_pack_102 : decode cX4_pack 102 = .ok (.iload 5, 2) := dk_21 5 (dk_at dksX4_pack_4 9 rfl rfl)
theorem dX4_pack_104 : decode cX4_pack 104 = .ok (.invokestatic 334, 3) := dk_184 1 78 (dk_at dksX4_pack_4 11 rfl rfl)
theorem dX4_pack_107 : decode cX4_pack 107 = .ok (.istore_n 2, 1) := dk_61 (dk_at dksX4_pack_4 14 rfl rfl)
theorem dX4_pack_108 : decode cX4_pack 108 = .ok (.iinc 4 1, 3) := dk_132 4 1 (dk_at dksX4_pack_4 15 rfl rfl)
theorem dX4_pack_111 : decode cX4_pack 111 = .ok (.goto (-55), 3) := dk_167 255 201 (dk_at dksX4_pack_4 18 rfl rfl)
theorem dX4_pack_114 : decode cX4_pack 114 = .ok (.iload_n 1, 1) := dk_27 (dk_at dksX4_pack_4 21 rfl rfl)
theorem dX4_pack_115 : decode cX4_pack 115 = .ok (.ifCond .ge 5, 3) := dk_156 0 5 (dk_at dksX4_pack_5 0 rfl rfl)
theorem dX4_pack_118 : decode cX4_pack 118 = .ok (.iconst (-1), 1) := dk_2 (dk_at dksX4_pack_5 3 rfl rfl)
theorem dX4_pack_119 : decode cX4_pack 119 = .ok (.ireturn, 1) := dk_172 (dk_at dksX4_pack_5 4 rfl rfl)
theorem dX4_pack_120 : decode cX4_pack 120 = .ok (.iconst 0, 1) := dk_3 (dk_at dksX4_pack_5 5 rfl rfl)
theorem dX4_pack_121 : decode cX4_pack 121 = .ok (.istore 4, 2) := dk_54 4 (dk_at dksX4_pack_5 6 rfl rfl)
theorem dX4_pack_123 : decode cX4_pack 123 = .ok (.iload 4, 2) := dk_21 4 (dk_at dksX4_pack_5 8 rfl rfl)
theorem dX4_pack_125 : decode cX4_pack 125 = .ok (.bipush 8, 2) := dk_16 8 (dk_at dksX4_pack_5 10 rfl rfl)
theorem dX4_pack_127 : decode cX4_pack 127 = .ok (.if_icmp .ge 38, 3) := dk_162 0 38 (dk_at dksX4_pack_5 12 rfl rfl)
theorem dX4_pack_130 : decode cX4_pack 130 = .ok (.aload_n 0, 1) := dk_42 (dk_at dksX4_pack_5 15 rfl rfl)
theorem dX4_pack_131 : decode cX4_pack 131 = .ok (.getfield 97, 3) := dk_180 0 97 (dk_at dksX4_pack_5 16 rfl rfl)
theorem dX4_pack_134 : decode cX4_pack 134 = .ok (.iload 4, 2) := dk_21 4 (dk_at dksX4_pack_5 19 rfl rfl)
theorem dX4_pack_136 : decode cX4_pack 136 = .ok (.aload_n 0, 1) := dk_42 (dk_at dksX4_pack_5 21 rfl rfl)
theorem dX4_pack_137 : decode cX4_pack 137 = .ok (.getfield 85, 3) := dk_180 0 85 (dk_at dksX4_pack_6 0 rfl rfl)
theorem dX4_pack_140 : decode cX4_pack 140 = .ok (.iconst 0, 1) := dk_3 (dk_at dksX4_pack_6 3 rfl rfl)
theorem dX4_pack_141 : decode cX4_pack 141 = .ok (.iload 4, 2) := dk_21 4 (dk_at dksX4_pack_6 4 rfl rfl)
theorem dX4_pack_143 : decode cX4_pack 143 = .ok (.iadd, 1) := dk_96 (dk_at dksX4_pack_6 6 rfl rfl)
theorem dX4_pack_144 : decode cX4_pack 144 = .ok (.iaload, 1) := dk_46 (dk_at dksX4_pack_6 7 rfl rfl)
theorem dX4_pack_145 : decode cX4_pack 145 = .ok (.ifCond .ne 7, 3) := dk_154 0 7 (dk_at dksX4_pack_6 8 rfl rfl)
theorem dX4_pack_148 : decode cX4_pack 148 = .ok (.iconst (-1), 1) := dk_2 (dk_at dksX4_pack_6 11 rfl rfl)
theorem dX4_pack_149 : decode cX4_pack 149 = .ok (.goto 9, 3) := dk_167 0 9 (dk_at dksX4_pack_6 12 rfl rfl)
theorem dX4_pack_152 : decode cX4_pack 152 = .ok (.iload_n 1, 1) := dk_27 (dk_at dksX4_pack_6 15 rfl rfl)
theorem dX4_pack_153 : decode cX4_pack 153 = .ok (.iload 4, 2) := dk_21 4 (dk_at dksX4_pack_6 16 rfl rfl)
theorem dX4_pack_155 : decode cX4_pack 155 = .ok (.invokestatic 442, 3) := dk_184 1 186 (dk_at dksX4_pack_6 18 rfl rfl)
theorem dX4_pack_158 : decode cX4_pack 158 = .ok (.iastore, 1) := dk_79 (dk_at dksX4_pack_6 21 rfl rfl)
theorem dX4_pack_159 : decode cX4_pack 159 = .ok (.iinc 4 1, 3) := dk_132 4 1 (dk_at dksX4_pack_7 0 rfl rfl)
theorem dX4_pack_162 : decode cX4_pack 162 = .ok (.goto (-39), 3) := dk_167 255 217 (dk_at dksX4_pack_7 3 rfl rfl)
theorem dX4_pack_165 : decode cX4_pack 165 = .ok (.aload_n 0, 1) := dk_42 (dk_at dksX4_pack_7 6 rfl rfl)
theorem dX4_pack_166 : decode cX4_pack 166 = .ok (.bipush 8, 2) := dk_16 8 (dk_at dksX4_pack_7 7 rfl rfl)
theorem dX4_pack_168 : decode cX4_pack 168 = .ok (.putfield 372, 3) := dk_181 1 116 (dk_at dksX4_pack_7 9 rfl rfl)
theorem dX4_pack_171 : decode cX4_pack 171 = .ok (.iload_n 2, 1) := dk_28 (dk_at dksX4_pack_7 12 rfl rfl)
theorem dX4_pack_172 : decode cX4_pack 172 = .ok (.ireturn, 1) := dk_172 (dk_at dksX4_pack_7 13 rfl rfl)
abbrev cX4_roomsIn : ByteArray := prog_22_method_96_code
def yX4_roomsIn : MethodName := ⟨RX4, "roomsIn", "(I)I"⟩
def dkwX4_roomsIn_4 : List UInt8 := [42, 29, 182, 1, 94, 164, 0, 5, 2, 172, 28, 4, 29, 120, 128, 61, 132, 3, 1, 167, 255, 150, 28, 172]
abbrev dktX4_roomsIn_4 : List UInt8 := dkwX4_roomsIn_4 ++ []
def dkwX4_roomsIn_3 : List UInt8 := [132, 6, 1, 167, 255, 204, 21, 5, 154, 0, 6, 167, 0, 29, 29, 42, 182, 1, 87, 162, 0, 13, 21, 4]
abbrev dktX4_roomsIn_3 : List UInt8 := dkwX4_roomsIn_3 ++ dktX4_roomsIn_4
def dkwX4_roomsIn_2 : List UInt8 := [154, 0, 6, 167, 0, 20, 21, 4, 42, 180, 0, 85, 3, 21, 6, 96, 46, 96, 54, 4, 132, 5, 1]
abbrev dktX4_roomsIn_2 : List UInt8 := dkwX4_roomsIn_2 ++ dktX4_roomsIn_3
def dkwX4_roomsIn_1 : List UInt8 := [162, 0, 51, 27, 21, 6, 184, 1, 186, 29, 160, 0, 35, 42, 180, 0, 85, 3, 21, 6, 96, 46]
abbrev dktX4_roomsIn_1 : List UInt8 := dkwX4_roomsIn_1 ++ dktX4_roomsIn_2
def dkwX4_roomsIn_0 : List UInt8 := [3, 61, 3, 62, 29, 7, 162, 0, 107, 3, 54, 4, 3, 54, 5, 3, 54, 6, 21, 6, 16, 8]
abbrev dktX4_roomsIn_0 : List UInt8 := dkwX4_roomsIn_0 ++ dktX4_roomsIn_1
theorem dksX4_roomsIn_0 : cX4_roomsIn.data.toList.drop 0 = dktX4_roomsIn_0 := by decide +kernel
theorem dksX4_roomsIn_1 : cX4_roomsIn.data.toList.drop 22 = dktX4_roomsIn_1 := dk_seg dksX4_roomsIn_0 22 rfl rfl
theorem dksX4_roomsIn_2 : cX4_roomsIn.data.toList.drop 44 = dktX4_roomsIn_2 := dk_seg dksX4_roomsIn_1 22 rfl rfl
theorem dksX4_roomsIn_3 : cX4_roomsIn.data.toList.drop 67 = dktX4_roomsIn_3 := dk_seg dksX4_roomsIn_2 23 rfl rfl
theorem dksX4_roomsIn_4 : cX4_roomsIn.data.toList.drop 91 = dktX4_roomsIn_4 := dk_seg dksX4_roomsIn_3 24 rfl rfl
theorem dX4_roomsIn_0 : decode cX4_roomsIn 0 = .ok (.iconst 0, 1) := dk_3 (dk_at dksX4_roomsIn_0 0 rfl rfl)
theorem dX4_roomsIn_1 : decode cX4_roomsIn 1 = .ok (.istore_n 2, 1) := dk_61 (dk_at dksX4_roomsIn_0 1 rfl rfl)
theorem dX4_roomsIn_2 : decode cX4_roomsIn 2 = .ok (.iconst 0, 1) := dk_3 (dk_at dksX4_roomsIn_0 2 rfl rfl)
theorem dX4_roomsIn_3 : decode cX4_roomsIn 3 = .ok (.istore_n 3, 1) := dk_62 (dk_at dksX4_roomsIn_0 3 rfl rfl)
theorem dX4_roomsIn_4 : decode cX4_roomsIn 4 = .ok (.iload_n 3, 1) := dk_29 (dk_at dksX4_roomsIn_0 4 rfl rfl)
theorem dX4_roomsIn_5 : decode cX4_roomsIn 5 = .ok (.iconst 4, 1) := dk_7 (dk_at dksX4_roomsIn_0 5 rfl rfl)
theorem dX4_roomsIn_6 : decode cX4_roomsIn 6 = .ok (.if_icmp .ge 107, 3) := dk_162 0 107 (dk_at dksX4_roomsIn_0 6 rfl rfl)
theorem dX4_roomsIn_9 : decode cX4_roomsIn 9 = .ok (.iconst 0, 1) := dk_3 (dk_at dksX4_roomsIn_0 9 rfl rfl)
theorem dX4_roomsIn_10 : decode cX4_roomsIn 10 = .ok (.istore 4, 2) := dk_54 4 (dk_at dksX4_roomsIn_0 10 rfl rfl)
theorem dX4_roomsIn_12 : decode cX4_roomsIn 12 = .ok (.iconst 0, 1) := dk_3 (dk_at dksX4_roomsIn_0 12 rfl rfl)
theorem dX4_roomsIn_13 : decode cX4_roomsIn 13 = .ok (.istore 5, 2) := dk_54 5 (dk_at dksX4_roomsIn_0 13 rfl rfl)
theorem dX4_roomsIn_15 : decode cX4_roomsIn 15 = .ok (.iconst 0, 1) := dk_3 (dk_at dksX4_roomsIn_0 15 rfl rfl)
theorem dX4_roomsIn_16 : decode cX4_roomsIn 16 = .ok (.istore 6, 2) := dk_54 6 (dk_at dksX4_roomsIn_0 16 rfl rfl)
theorem dX4_roomsIn_18 : decode cX4_roomsIn 18 = .ok (.iload 6, 2) := dk_21 6 (dk_at dksX4_roomsIn_0 18 rfl rfl)
theorem dX4_roomsIn_20 : decode cX4_roomsIn 20 = .ok (.bipush 8, 2) := dk_16 8 (dk_at dksX4_roomsIn_0 20 rfl rfl)
theorem dX4_roomsIn_22 : decode cX4_roomsIn 22 = .ok (.if_icmp .ge 51, 3) := dk_162 0 51 (dk_at dksX4_roomsIn_1 0 rfl rfl)
theorem dX4_roomsIn_25 : decode cX4_roomsIn 25 = .ok (.iload_n 1, 1) := dk_27 (dk_at dksX4_roomsIn_1 3 rfl rfl)
theorem dX4_roomsIn_26 : decode cX4_roomsIn 26 = .ok (.iload 6, 2) := dk_21 6 (dk_at dksX4_roomsIn_1 4 rfl rfl)
theorem dX4_roomsIn_28 : decode cX4_roomsIn 28 = .ok (.invokestatic 442, 3) := dk_184 1 186 (dk_at dksX4_roomsIn_1 6 rfl rfl)
theorem dX4_roomsIn_31 : decode cX4_roomsIn 31 = .ok (.iload_n 3, 1) := dk_29 (dk_at dksX4_roomsIn_1 9 rfl rfl)
theorem dX4_roomsIn_32 : decode cX4_roomsIn 32 = .ok (.if_icmp .ne 35, 3) := dk_160 0 35 (dk_at dksX4_roomsIn_1 10 rfl rfl)
theorem dX4_roomsIn_35 : decode cX4_roomsIn 35 = .ok (.aload_n 0, 1) := dk_42 (dk_at dksX4_roomsIn_1 13 rfl rfl)
theorem dX4_roomsIn_36 : decode cX4_roomsIn 36 = .ok (.getfield 85, 3) := dk_180 0 85 (dk_at dksX4_roomsIn_1 14 rfl rfl)
theorem dX4_roomsIn_39 : decode cX4_roomsIn 39 = .ok (.iconst 0, 1) := dk_3 (dk_at dksX4_roomsIn_1 17 rfl rfl)
theorem dX4_roomsIn_40 : decode cX4_roomsIn 40 = .ok (.iload 6, 2) := dk_21 6 (dk_at dksX4_roomsIn_1 18 rfl rfl)
theorem dX4_roomsIn_42 : decode cX4_roomsIn 42 = .ok (.iadd, 1) := dk_96 (dk_at dksX4_roomsIn_1 20 rfl rfl)
theorem dX4_roomsIn_43 : decode cX4_roomsIn 43 = .ok (.iaload, 1) := dk_46 (dk_at dksX4_roomsIn_1 21 rfl rfl)
theorem dX4_roomsIn_44 : decode cX4_roomsIn 44 = .ok (.ifCond .ne 6, 3) := dk_154 0 6 (dk_at dksX4_roomsIn_2 0 rfl rfl)
theorem dX4_roomsIn_47 : decode cX4_roomsIn 47 = .ok (.goto 20, 3) := dk_167 0 20 (dk_at dksX4_roomsIn_2 3 rfl rfl)
theorem dX4_roomsIn_50 : decode cX4_roomsIn 50 = .ok (.iload 4, 2) := dk_21 4 (dk_at dksX4_roomsIn_2 6 rfl rfl)
theorem dX4_roomsIn_52 : decode cX4_roomsIn 52 = .ok (.aload_n 0, 1) := dk_42 (dk_at dksX4_roomsIn_2 8 rfl rfl)
theorem dX4_roomsIn_53 : decode cX4_roomsIn 53 = .ok (.getfield 85, 3) := dk_180 0 85 (dk_at dksX4_roomsIn_2 9 rfl rfl)
theorem dX4_roomsIn_56 : decode cX4_roomsIn 56 = .ok (.iconst 0, 1) := dk_3 (dk_at dksX4_roomsIn_2 12 rfl rfl)
theorem dX4_roomsIn_57 : decode cX4_roomsIn 57 = .ok (.iload 6, 2) := dk_21 6 (dk_at dksX4_roomsIn_2 13 rfl rfl)
theorem dX4_roomsIn_59 : decode cX4_roomsIn 59 = .ok (.iadd, 1) := dk_96 (dk_at dksX4_roomsIn_2 15 rfl rfl)
theorem dX4_roomsIn_60 : decode cX4_roomsIn 60 = .ok (.iaload, 1) := dk_46 (dk_at dksX4_roomsIn_2 16 rfl rfl)
theorem dX4_roomsIn_61 : decode cX4_roomsIn 61 = .ok (.iadd, 1) := dk_96 (dk_at dksX4_roomsIn_2 17 rfl rfl)
theorem dX4_roomsIn_62 : decode cX4_roomsIn 62 = .ok (.istore 4, 2) := dk_54 4 (dk_at dksX4_roomsIn_2 18 rfl rfl)
theorem dX4_roomsIn_64 : decode cX4_roomsIn 64 = .ok (.iinc 5 1, 3) := dk_132 5 1 (dk_at dksX4_roomsIn_2 20 rfl rfl)
theorem dX4_roomsIn_67 : decode cX4_roomsIn 67 = .ok (.iinc 6 1, 3) := dk_132 6 1 (dk_at dksX4_roomsIn_3 0 rfl rfl)
theorem dX4_roomsIn_70 : decode cX4_roomsIn 70 = .ok (.goto (-52), 3) := dk_167 255 204 (dk_at dksX4_roomsIn_3 3 rfl rfl)
theorem dX4_roomsIn_73 : decode cX4_roomsIn 73 = .ok (.iload 5, 2) := dk_21 5 (dk_at dksX4_roomsIn_3 6 rfl rfl)
theorem dX4_roomsIn_75 : decode cX4_roomsIn 75 = .ok (.ifCond .ne 6, 3) := dk_154 0 6 (dk_at dksX4_roomsIn_3 8 rfl rfl)
theorem dX4_roomsIn_78 : decode cX4_roomsIn 78 = .ok (.goto 29, 3) := dk_167 0 29 (dk_at dksX4_roomsIn_3 11 rfl rfl)
theorem dX4_roomsIn_81 : decode cX4_roomsIn 81 = .ok (.iload_n 3, 1) := dk_29 (dk_at dksX4_roomsIn_3 14 rfl rfl)
theorem dX4_roomsIn_82 : decode cX4_roomsIn 82 = .ok (.aload_n 0, 1) := dk_42 (dk_at dksX4_roomsIn_3 15 rfl rfl)
theorem dX4_roomsIn_83 : decode cX4_roomsIn 83 = .ok (.invokevirtual 343, 3) := dk_182 1 87 (dk_at dksX4_roomsIn_3 16 rfl rfl)
theorem dX4_roomsIn_86 : decode cX4_roomsIn 86 = .ok (.if_icmp .ge 13, 3) := dk_162 0 13 (dk_at dksX4_roomsIn_3 19 rfl rfl)
theorem dX4_roomsIn_89 : decode cX4_roomsIn 89 = .ok (.iload 4, 2) := dk_21 4 (dk_at dksX4_roomsIn_3 22 rfl rfl)
theorem dX4_roomsIn_91 : decode cX4_roomsIn 91 = .ok (.aload_n 0, 1) := dk_42 (dk_at dksX4_roomsIn_4 0 rfl rfl)
theorem dX4_roomsIn_92 : decode cX4_roomsIn 92 = .ok (.iload_n 3, 1) := dk_29 (dk_at dksX4_roomsIn_4 1 rfl rfl)
theorem dX4_roomsIn_93 : decode cX4_roomsIn 93 = .ok (.invokevirtual 350, 3) := dk_182 1 94 (dk_at dksX4_roomsIn_4 2 rfl rfl)
theorem dX4_roomsIn_96 : decode cX4_roomsIn 96 = .ok (.if_icmp .le 5, 3) := dk_164 0 5 (dk_at dksX4_roomsIn_4 5 rfl rfl)
theorem dX4_roomsIn_99 : decode cX4_roomsIn 99 = .ok (.iconst (-1), 1) := dk_2 (dk_at dksX4_roomsIn_4 8 rfl rfl)
theorem dX4_roomsIn_100 : decode cX4_roomsIn 100 = .ok (.ireturn, 1) := dk_172 (dk_at dksX4_roomsIn_4 9 rfl rfl)
theorem dX4_roomsIn_101 : decode cX4_roomsIn 101 = .ok (.iload_n 2, 1) := dk_28 (dk_at dksX4_roomsIn_4 10 rfl rfl)
theorem dX4_roomsIn_102 : decode cX4_roomsIn 102 = .ok (.iconst 1, 1) := dk_4 (dk_at dksX4_roomsIn_4 11 rfl rfl)
theorem dX4_roomsIn_103 : decode cX4_roomsIn 103 = .ok (.iload_n 3, 1) := dk_29 (dk_at dksX4_roomsIn_4 12 rfl rfl)
theorem dX4_roomsIn_104 : decode cX4_roomsIn 104 = .ok (.ishl, 1) := dk_120 (dk_at dksX4_roomsIn_4 13 rfl rfl)
theorem dX4_roomsIn_105 : decode cX4_roomsIn 105 = .ok (.ior, 1) := dk_128 (dk_at dksX4_roomsIn_4 14 rfl rfl)
theorem dX4_roomsIn_106 : decode cX4_roomsIn 106 = .ok (.istore_n 2, 1) := dk_61 (dk_at dksX4_roomsIn_4 15 rfl rfl)
theorem dX4_roomsIn_107 : decode cX4_roomsIn 107 = .ok (.iinc 3 1, 3) := dk_132 3 1 (dk_at dksX4_roomsIn_4 16 rfl rfl)
theorem dX4_roomsIn_110 : decode cX4_roomsIn 110 = .ok (.goto (-106), 3) := dk_167 255 150 (dk_at dksX4_roomsIn_4 19 rfl rfl)
theorem dX4_roomsIn_113 : decode cX4_roomsIn 113 = .ok (.iload_n 2, 1) := dk_28 (dk_at dksX4_roomsIn_4 22 rfl rfl)
theorem dX4_roomsIn_114 : decode cX4_roomsIn 114 = .ok (.ireturn, 1) := dk_172 (dk_at dksX4_roomsIn_4 23 rfl rfl)
abbrev cX4_twoBits : ByteArray := prog_22_method_95_code
def yX4_twoBits : MethodName := ⟨RX4, "twoBits", "(II)I"⟩
def dkwX4_twoBits_0 : List UInt8 := [26, 5, 16, 7, 27, 100, 104, 122, 6, 126, 172]
abbrev dktX4_twoBits_0 : List UInt8 := dkwX4_twoBits_0 ++ []
theorem dksX4_twoBits_0 : cX4_twoBits.data.toList.drop 0 = dktX4_twoBits_0 := by decide +kernel
theorem dX4_twoBits_0 : decode cX4_twoBits 0 = .ok (.iload_n 0, 1) := dk_26 (dk_at dksX4_twoBits_0 0 rfl rfl)
theorem dX4_twoBits_1 : decode cX4_twoBits 1 = .ok (.iconst 2, 1) := dk_5 (dk_at dksX4_twoBits_0 1 rfl rfl)
theorem dX4_twoBits_2 : decode cX4_twoBits 2 = .ok (.bipush 7, 2) := dk_16 7 (dk_at dksX4_twoBits_0 2 rfl rfl)
theorem dX4_twoBits_4 : decode cX4_twoBits 4 = .ok (.iload_n 1, 1) := dk_27 (dk_at dksX4_twoBits_0 4 rfl rfl)
theorem dX4_twoBits_5 : decode cX4_twoBits 5 = .ok (.isub, 1) := dk_100 (dk_at dksX4_twoBits_0 5 rfl rfl)
theorem dX4_twoBits_6 : decode cX4_twoBits 6 = .ok (.imul, 1) := dk_104 (dk_at dksX4_twoBits_0 6 rfl rfl)
theorem dX4_twoBits_7 : decode cX4_twoBits 7 = .ok (.ishr, 1) := dk_122 (dk_at dksX4_twoBits_0 7 rfl rfl)
theorem dX4_twoBits_8 : decode cX4_twoBits 8 = .ok (.iconst 3, 1) := dk_6 (dk_at dksX4_twoBits_0 8 rfl rfl)
theorem dX4_twoBits_9 : decode cX4_twoBits 9 = .ok (.iand, 1) := dk_126 (dk_at dksX4_twoBits_0 9 rfl rfl)
theorem dX4_twoBits_10 : decode cX4_twoBits 10 = .ok (.ireturn, 1) := dk_172 (dk_at dksX4_twoBits_0 10 rfl rfl)
abbrev cX4_fill : ByteArray := prog_22_method_98_code
def yX4_fill : MethodName := ⟨RX4, "fill", "(II)I"⟩
def dkwX4_fill_5 : List UInt8 := [167, 0, 4, 29, 172]
abbrev dktX4_fill_5 : List UInt8 := dkwX4_fill_5 ++ []
def dkwX4_fill_4 : List UInt8 := [184, 1, 78, 162, 0, 6, 21, 4, 62, 132, 4, 1, 167, 255, 177, 28, 154, 0, 11, 42, 29, 182, 1, 100]
abbrev dktX4_fill_4 : List UInt8 := dkwX4_fill_4 ++ dktX4_fill_5
def dkwX4_fill_3 : List UInt8 := [182, 1, 100, 100, 54, 5, 21, 5, 157, 0, 20, 21, 5, 154, 0, 18, 21, 4, 184, 1, 78, 29]
abbrev dktX4_fill_3 : List UInt8 := dkwX4_fill_3 ++ dktX4_fill_4
def dkwX4_fill_2 : List UInt8 := [182, 1, 100, 42, 27, 182, 1, 94, 164, 0, 6, 167, 0, 42, 42, 21, 4, 182, 1, 100, 42, 29]
abbrev dktX4_fill_2 : List UInt8 := dkwX4_fill_2 ++ dktX4_fill_3
def dkwX4_fill_1 : List UInt8 := [21, 4, 17, 1, 0, 162, 0, 77, 21, 4, 42, 182, 1, 75, 2, 130, 126, 154, 0, 59, 42, 21, 4]
abbrev dktX4_fill_1 : List UInt8 := dkwX4_fill_1 ++ dktX4_fill_2
def dkwX4_fill_0 : List UInt8 := [42, 27, 182, 1, 152, 153, 0, 12, 28, 3, 4, 184, 1, 90, 154, 0, 5, 2, 172, 3, 62, 4, 54, 4]
abbrev dktX4_fill_0 : List UInt8 := dkwX4_fill_0 ++ dktX4_fill_1
theorem dksX4_fill_0 : cX4_fill.data.toList.drop 0 = dktX4_fill_0 := by decide +kernel
theorem dksX4_fill_1 : cX4_fill.data.toList.drop 24 = dktX4_fill_1 := dk_seg dksX4_fill_0 24 rfl rfl
theorem dksX4_fill_2 : cX4_fill.data.toList.drop 47 = dktX4_fill_2 := dk_seg dksX4_fill_1 23 rfl rfl
theorem dksX4_fill_3 : cX4_fill.data.toList.drop 69 = dktX4_fill_3 := dk_seg dksX4_fill_2 22 rfl rfl
theorem dksX4_fill_4 : cX4_fill.data.toList.drop 91 = dktX4_fill_4 := dk_seg dksX4_fill_3 22 rfl rfl
theorem dksX4_fill_5 : cX4_fill.data.toList.drop 115 = dktX4_fill_5 := dk_seg dksX4_fill_4 24 rfl rfl
theorem dX4_fill_0 : decode cX4_fill 0 = .ok (.aload_n 0, 1) := dk_42 (dk_at dksX4_fill_0 0 rfl rfl)
theorem dX4_fill_1 : decode cX4_fill 1 = .ok (.iload_n 1, 1) := dk_27 (dk_at dksX4_fill_0 1 rfl rfl)
theorem dX4_fill_2 : decode cX4_fill 2 = .ok (.invokevirtual 408, 3) := dk_182 1 152 (dk_at dksX4_fill_0 2 rfl rfl)
theorem dX4_fill_5 : decode cX4_fill 5 = .ok (.ifCond .eq 12, 3) := dk_153 0 12 (dk_at dksX4_fill_0 5 rfl rfl)
theorem dX4_fill_8 : decode cX4_fill 8 = .ok (.iload_n 2, 1) := dk_28 (dk_at dksX4_fill_0 8 rfl rfl)
theorem dX4_fill_9 : decode cX4_fill 9 = .ok (.iconst 0, 1) := dk_3 (dk_at dksX4_fill_0 9 rfl rfl)
theorem dX4_fill_10 : decode cX4_fill 10 = .ok (.iconst 1, 1) := dk_4 (dk_at dksX4_fill_0 10 rfl rfl)
theorem dX4_fill_11 : decode cX4_fill 11 = .ok (.invokestatic 346, 3) := dk_184 1 90 (dk_at dksX4_fill_0 11 rfl rfl)
theorem dX4_fill_14 : decode cX4_fill 14 = .ok (.ifCond .ne 5, 3) := dk_154 0 5 (dk_at dksX4_fill_0 14 rfl rfl)
theorem dX4_fill_17 : decode cX4_fill 17 = .ok (.iconst (-1), 1) := dk_2 (dk_at dksX4_fill_0 17 rfl rfl)
theorem dX4_fill_18 : decode cX4_fill 18 = .ok (.ireturn, 1) := dk_172 (dk_at dksX4_fill_0 18 rfl rfl)
theorem dX4_fill_19 : decode cX4_fill 19 = .ok (.iconst 0, 1) := dk_3 (dk_at dksX4_fill_0 19 rfl rfl)
theorem dX4_fill_20 : decode cX4_fill 20 = .ok (.istore_n 3, 1) := dk_62 (dk_at dksX4_fill_0 20 rfl rfl)
theorem dX4_fill_21 : decode cX4_fill 21 = .ok (.iconst 1, 1) := dk_4 (dk_at dksX4_fill_0 21 rfl rfl)
theorem dX4_fill_22 : decode cX4_fill 22 = .ok (.istore 4, 2) := dk_54 4 (dk_at dksX4_fill_0 22 rfl rfl)
theorem dX4_fill_24 : decode cX4_fill 24 = .ok (.iload 4, 2) := dk_21 4 (dk_at dksX4_fill_1 0 rfl rfl)
theorem dX4_fill_26 : decode cX4_fill 26 = .ok (.sipush 256, 3) := dk_17 1 0 (dk_at dksX4_fill_1 2 rfl rfl)
theorem dX4_fill_29 : decode cX4_fill 29 = .ok (.if_icmp .ge 77, 3) := dk_162 0 77 (dk_at dksX4_fill_1 5 rfl rfl)
theorem dX4_fill_32 : decode cX4_fill 32 = .ok (.iload 4, 2) := dk_21 4 (dk_at dksX4_fill_1 8 rfl rfl)
theorem dX4_fill_34 : decode cX4_fill 34 = .ok (.aload_n 0, 1) := dk_42 (dk_at dksX4_fill_1 10 rfl rfl)
theorem dX4_fill_35 : decode cX4_fill 35 = .ok (.invokevirtual 331, 3) := dk_182 1 75 (dk_at dksX4_fill_1 11 rfl rfl)
theorem dX4_fill_38 : decode cX4_fill 38 = .ok (.iconst (-1), 1) := dk_2 (dk_at dksX4_fill_1 14 rfl rfl)
theorem dX4_fill_39 : decode cX4_fill 39 = .ok (.ixor, 1) := dk_130 (dk_at dksX4_fill_1 15 rfl rfl)
theorem dX4_fill_40 : decode cX4_fill 40 = .ok (.iand, 1) := dk_126 (dk_at dksX4_fill_1 16 rfl rfl)
theorem dX4_fill_41 : decode cX4_fill 41 = .ok (.ifCond .ne 59, 3) := dk_154 0 59 (dk_at dksX4_fill_1 17 rfl rfl)
theorem dX4_fill_44 : decode cX4_fill 44 = .ok (.aload_n 0, 1) := dk_42 (dk_at dksX4_fill_1 20 rfl rfl)
theorem dX4_fill_45 : decode cX4_fill 45 = .ok (.iload 4, 2) := dk_21 4 (dk_at dksX4_fill_1 21 rfl rfl)
theorem dX4_fill_47 : decode cX4_fill 47 = .ok (.invokevirtual 356, 3) := dk_182 1 100 (dk_at dksX4_fill_2 0 rfl rfl)
theorem dX4_fill_50 : decode cX4_fill 50 = .ok (.aload_n 0, 1) := dk_42 (dk_at dksX4_fill_2 3 rfl rfl)
theorem dX4_fill_51 : decode cX4_fill 51 = .ok (.iload_n 1, 1) := dk_27 (dk_at dksX4_fill_2 4 rfl rfl)
theorem dX4_fill_52 : decode cX4_fill 52 = .ok (.invokevirtual 350, 3) := dk_182 1 94 (dk_at dksX4_fill_2 5 rfl rfl)
theorem dX4_fill_55 : decode cX4_fill 55 = .ok (.if_icmp .le 6, 3) := dk_164 0 6 (dk_at dksX4_fill_2 8 rfl rfl)
theorem dX4_fill_58 : decode cX4_fill 58 = .ok (.goto 42, 3) := dk_167 0 42 (dk_at dksX4_fill_2 11 rfl rfl)
theorem dX4_fill_61 : decode cX4_fill 61 = .ok (.aload_n 0, 1) := dk_42 (dk_at dksX4_fill_2 14 rfl rfl)
theorem dX4_fill_62 : decode cX4_fill 62 = .ok (.iload 4, 2) := dk_21 4 (dk_at dksX4_fill_2 15 rfl rfl)
theorem dX4_fill_64 : decode cX4_fill 64 = .ok (.invokevirtual 356, 3) := dk_182 1 100 (dk_at dksX4_fill_2 17 rfl rfl)
theorem dX4_fill_67 : decode cX4_fill 67 = .ok (.aload_n 0, 1) := dk_42 (dk_at dksX4_fill_2 20 rfl rfl)
theorem dX4_fill_68 : decode cX4_fill 68 = .ok (.iload_n 3, 1) := dk_29 (dk_at dksX4_fill_2 21 rfl rfl)
theorem dX4_fill_69 : decode cX4_fill 69 = .ok (.invokevirtual 356, 3) := dk_182 1 100 (dk_at dksX4_fill_3 0 rfl rfl)
theorem dX4_fill_72 : decode cX4_fill 72 = .ok (.isub, 1) := dk_100 (dk_at dksX4_fill_3 3 rfl rfl)
theorem dX4_fill_73 : decode cX4_fill 73 = .ok (.istore 5, 2) := dk_54 5 (dk_at dksX4_fill_3 4 rfl rfl)
theorem dX4_fill_75 : decode cX4_fill 75 = .ok (.iload 5, 2) := dk_21 5 (dk_at dksX4_fill_3 6 rfl rfl)
theorem dX4_fill_77 : decode cX4_fill 77 = .ok (.ifCond .gt 20, 3) := dk_157 0 20 (dk_at dksX4_fill_3 8 rfl rfl)
theorem dX4_fill_80 : decode cX4_fill 80 = .ok (.iload 5, 2) := dk_21 5 (dk_at dksX4_fill_3 11 rfl rfl)
theorem dX4_fill_82 : decode cX4_fill 82 = .ok (.ifCond .ne 18, 3) := dk_154 0 18 (dk_at dksX4_fill_3 13 rfl rfl)
theorem dX4_fill_85 : decode cX4_fill 85 = .ok (.iload 4, 2) := dk_21 4 (dk_at dksX4_fill_3 16 rfl rfl)
theorem dX4_fill_87 : decode cX4_fill 87 = .ok (.invokestatic 334, 3) := dk_184 1 78 (dk_at dksX4_fill_3 18 rfl rfl)
theorem dX4_fill_90 : decode cX4_fill 90 = .ok (.iload_n 3, 1) := dk_29 (dk_at dksX4_fill_3 21 rfl rfl)
theorem dX4_fill_91 : decode cX4_fill 91 = .ok (.invokestatic 334, 3) := dk_184 1 78 (dk_at dksX4_fill_4 0 rfl rfl)
theorem dX4_fill_94 : decode cX4_fill 94 = .ok (.if_icmp .ge 6, 3) := dk_162 0 6 (dk_at dksX4_fill_4 3 rfl rfl)
theorem dX4_fill_97 : decode cX4_fill 97 = .ok (.iload 4, 2) := dk_21 4 (dk_at dksX4_fill_4 6 rfl rfl)
theorem dX4_fill_99 : decode cX4_fill 99 = .ok (.istore_n 3, 1) := dk_62 (dk_at dksX4_fill_4 8 rfl rfl)
theorem dX4_fill_100 : decode cX4_fill 100 = .ok (.iinc 4 1, 3) := dk_132 4 1 (dk_at dksX4_fill_4 9 rfl rfl)
theorem dX4_fill_103 : decode cX4_fill 103 = .ok (.goto (-79), 3) := dk_167 255 177 (dk_at dksX4_fill_4 12 rfl rfl)
theorem dX4_fill_106 : decode cX4_fill 106 = .ok (.iload_n 2, 1) := dk_28 (dk_at dksX4_fill_4 15 rfl rfl)
theorem dX4_fill_107 : decode cX4_fill 107 = .ok (.ifCond .ne 11, 3) := dk_154 0 11 (dk_at dksX4_fill_4 16 rfl rfl)
theorem dX4_fill_110 : decode cX4_fill 110 = .ok (.aload_n 0, 1) := dk_42 (dk_at dksX4_fill_4 19 rfl rfl)
theorem dX4_fill_111 : decode cX4_fill 111 = .ok (.iload_n 3, 1) := dk_29 (dk_at dksX4_fill_4 20 rfl rfl)
theorem dX4_fill_112 : decode cX4_fill 112 = .ok (.invokevirtual 356, 3) := dk_182 1 100 (dk_at dksX4_fill_4 21 rfl rfl)
theorem dX4_fill_115 : decode cX4_fill 115 = .ok (.goto 4, 3) := dk_167 0 4 (dk_at dksX4_fill_5 0 rfl rfl)
theorem dX4_fill_118 : decode cX4_fill 118 = .ok (.iload_n 3, 1) := dk_29 (dk_at dksX4_fill_5 3 rfl rfl)
theorem dX4_fill_119 : decode cX4_fill 119 = .ok (.ireturn, 1) := dk_172 (dk_at dksX4_fill_5 4 rfl rfl)
abbrev cX4_rivals : ByteArray := prog_22_method_103_code
def yX4_rivals : MethodName := ⟨RX4, "rivals", "(II)I"⟩
def dkwX4_rivals_5 : List UInt8 := [132, 3, 1, 132, 4, 1, 167, 255, 168, 29, 172]
abbrev dktX4_rivals_5 : List UInt8 := dkwX4_rivals_5 ++ []
def dkwX4_rivals_4 : List UInt8 := [154, 0, 24, 42, 180, 0, 97, 3, 21, 5, 79, 42, 180, 0, 97, 4, 21, 6, 79, 42, 5, 181, 1, 116]
abbrev dktX4_rivals_4 : List UInt8 := dkwX4_rivals_4 ++ dktX4_rivals_5
def dkwX4_rivals_3 : List UInt8 := [182, 1, 196, 153, 0, 47, 42, 27, 28, 21, 5, 21, 6, 182, 1, 203, 154, 0, 6, 167, 0, 31, 29]
abbrev dktX4_rivals_3 : List UInt8 := dkwX4_rivals_3 ++ dktX4_rivals_4
def dkwX4_rivals_2 : List UInt8 := [21, 4, 7, 112, 54, 6, 42, 27, 28, 21, 5, 182, 1, 196, 153, 0, 58, 42, 28, 27, 21, 6]
abbrev dktX4_rivals_2 : List UInt8 := dkwX4_rivals_2 ++ dktX4_rivals_3
def dkwX4_rivals_1 : List UInt8 := [160, 0, 5, 2, 172, 3, 62, 3, 54, 4, 21, 4, 16, 16, 162, 0, 87, 21, 4, 7, 108, 54, 5]
abbrev dktX4_rivals_1 : List UInt8 := dkwX4_rivals_1 ++ dktX4_rivals_2
def dkwX4_rivals_0 : List UInt8 := [42, 3, 181, 1, 116, 42, 27, 182, 1, 155, 153, 0, 16, 42, 28, 182, 1, 155, 153, 0, 8, 27, 28]
abbrev dktX4_rivals_0 : List UInt8 := dkwX4_rivals_0 ++ dktX4_rivals_1
theorem dksX4_rivals_0 : cX4_rivals.data.toList.drop 0 = dktX4_rivals_0 := by decide +kernel
theorem dksX4_rivals_1 : cX4_rivals.data.toList.drop 23 = dktX4_rivals_1 := dk_seg dksX4_rivals_0 23 rfl rfl
theorem dksX4_rivals_2 : cX4_rivals.data.toList.drop 46 = dktX4_rivals_2 := dk_seg dksX4_rivals_1 23 rfl rfl
theorem dksX4_rivals_3 : cX4_rivals.data.toList.drop 68 = dktX4_rivals_3 := dk_seg dksX4_rivals_2 22 rfl rfl
theorem dksX4_rivals_4 : cX4_rivals.data.toList.drop 91 = dktX4_rivals_4 := dk_seg dksX4_rivals_3 23 rfl rfl
theorem dksX4_rivals_5 : cX4_rivals.data.toList.drop 115 = dktX4_rivals_5 := dk_seg dksX4_rivals_4 24 rfl rfl
theorem dX4_rivals_0 : decode cX4_rivals 0 = .ok (.aload_n 0, 1) := dk_42 (dk_at dksX4_rivals_0 0 rfl rfl)
theorem dX4_rivals_1 : decode cX4_rivals 1 = .ok (.iconst 0, 1) := dk_3 (dk_at dksX4_rivals_0 1 rfl rfl)
theorem dX4_rivals_2 : decode cX4_rivals 2 = .ok (.putfield 372, 3) := dk_181 1 116 (dk_at dksX4_rivals_0 2 rfl rfl)
theorem dX4_rivals_5 : decode cX4_rivals 5 = .ok (.aload_n 0, 1) := dk_42 (dk_at dksX4_rivals_0 5 rfl rfl)
theorem dX4_rivals_6 : decode cX4_rivals 6 = .ok (.iload_n 1, 1) := dk_27 (dk_at dksX4_rivals_0 6 rfl rfl)
theorem dX4_rivals_7 : decode cX4_rivals 7 = .ok (.invokevirtual 411, 3) := dk_182 1 155 (dk_at dksX4_rivals_0 7 rfl rfl)
theorem dX4_rivals_10 : decode cX4_rivals 10 = .ok (.ifCond .eq 16, 3) := dk_153 0 16 (dk_at dksX4_rivals_0 10 rfl rfl)
theorem dX4_rivals_13 : decode cX4_rivals 13 = .ok (.aload_n 0, 1) := dk_42 (dk_at dksX4_rivals_0 13 rfl rfl)
theorem dX4_rivals_14 : decode cX4_rivals 14 = .ok (.iload_n 2, 1) := dk_28 (dk_at dksX4_rivals_0 14 rfl rfl)
theorem dX4_rivals_15 : decode cX4_rivals 15 = .ok (.invokevirtual 411, 3) := dk_182 1 155 (dk_at dksX4_rivals_0 15 rfl rfl)
theorem dX4_rivals_18 : decode cX4_rivals 18 = .ok (.ifCond .eq 8, 3) := dk_153 0 8 (dk_at dksX4_rivals_0 18 rfl rfl)
theorem dX4_rivals_21 : decode cX4_rivals 21 = .ok (.iload_n 1, 1) := dk_27 (dk_at dksX4_rivals_0 21 rfl rfl)
theorem dX4_rivals_22 : decode cX4_rivals 22 = .ok (.iload_n 2, 1) := dk_28 (dk_at dksX4_rivals_0 22 rfl rfl)
theorem dX4_rivals_23 : decode cX4_rivals 23 = .ok (.if_icmp .ne 5, 3) := dk_160 0 5 (dk_at dksX4_rivals_1 0 rfl rfl)
theorem dX4_rivals_26 : decode cX4_rivals 26 = .ok (.iconst (-1), 1) := dk_2 (dk_at dksX4_rivals_1 3 rfl rfl)
theorem dX4_rivals_27 : decode cX4_rivals 27 = .ok (.ireturn, 1) := dk_172 (dk_at dksX4_rivals_1 4 rfl rfl)
theorem dX4_rivals_28 : decode cX4_rivals 28 = .ok (.iconst 0, 1) := dk_3 (dk_at dksX4_rivals_1 5 rfl rfl)
theorem dX4_rivals_29 : decode cX4_rivals 29 = .ok (.istore_n 3, 1) := dk_62 (dk_at dksX4_rivals_1 6 rfl rfl)
theorem dX4_rivals_30 : decode cX4_rivals 30 = .ok (.iconst 0, 1) := dk_3 (dk_at dksX4_rivals_1 7 rfl rfl)
theorem dX4_rivals_31 : decode cX4_rivals 31 = .ok (.istore 4, 2) := dk_54 4 (dk_at dksX4_rivals_1 8 rfl rfl)
theorem dX4_rivals_33 : decode cX4_rivals 33 = .ok (.iload 4, 2) := dk_21 4 (dk_at dksX4_rivals_1 10 rfl rfl)
theorem dX4_rivals_35 : decode cX4_rivals 35 = .ok (.bipush 16, 2) := dk_16 16 (dk_at dksX4_rivals_1 12 rfl rfl)
theorem dX4_rivals_37 : decode cX4_rivals 37 = .ok (.if_icmp .ge 87, 3) := dk_162 0 87 (dk_at dksX4_rivals_1 14 rfl rfl)
theorem dX4_rivals_40 : decode cX4_rivals 40 = .ok (.iload 4, 2) := dk_21 4 (dk_at dksX4_rivals_1 17 rfl rfl)
theorem dX4_rivals_42 : decode cX4_rivals 42 = .ok (.iconst 4, 1) := dk_7 (dk_at dksX4_rivals_1 19 rfl rfl)
theorem dX4_rivals_43 : decode cX4_rivals 43 = .ok (.idiv, 1) := dk_108 (dk_at dksX4_rivals_1 20 rfl rfl)
theorem dX4_rivals_44 : decode cX4_rivals 44 = .ok (.istore 5, 2) := dk_54 5 (dk_at dksX4_rivals_1 21 rfl rfl)
theorem dX4_rivals_46 : decode cX4_rivals 46 = .ok (.iload 4, 2) := dk_21 4 (dk_at dksX4_rivals_2 0 rfl rfl)
theorem dX4_rivals_48 : decode cX4_rivals 48 = .ok (.iconst 4, 1) := dk_7 (dk_at dksX4_rivals_2 2 rfl rfl)
theorem dX4_rivals_49 : decode cX4_rivals 49 = .ok (.irem, 1) := dk_112 (dk_at dksX4_rivals_2 3 rfl rfl)
theorem dX4_rivals_50 : decode cX4_rivals 50 = .ok (.istore 6, 2) := dk_54 6 (dk_at dksX4_rivals_2 4 rfl rfl)
theorem dX4_rivals_52 : decode cX4_rivals 52 = .ok (.aload_n 0, 1) := dk_42 (dk_at dksX4_rivals_2 6 rfl rfl)
theorem dX4_rivals_53 : decode cX4_rivals 53 = .ok (.iload_n 1, 1) := dk_27 (dk_at dksX4_rivals_2 7 rfl rfl)
theorem dX4_rivals_54 : decode cX4_rivals 54 = .ok (.iload_n 2, 1) := dk_28 (dk_at dksX4_rivals_2 8 rfl rfl)
theorem dX4_rivals_55 : decode cX4_rivals 55 = .ok (.iload 5, 2) := dk_21 5 (dk_at dksX4_rivals_2 9 rfl rfl)
theorem dX4_rivals_57 : decode cX4_rivals 57 = .ok (.invokevirtual 452, 3) := dk_182 1 196 (dk_at dksX4_rivals_2 11 rfl rfl)
theorem dX4_rivals_60 : decode cX4_rivals 60 = .ok (.ifCond .eq 58, 3) := dk_153 0 58 (dk_at dksX4_rivals_2 14 rfl rfl)
theorem dX4_rivals_63 : decode cX4_rivals 63 = .ok (.aload_n 0, 1) := dk_42 (dk_at dksX4_rivals_2 17 rfl rfl)
theorem dX4_rivals_64 : decode cX4_rivals 64 = .ok (.iload_n 2, 1) := dk_28 (dk_at dksX4_rivals_2 18 rfl rfl)
theorem dX4_rivals_65 : decode cX4_rivals 65 = .ok (.iload_n 1, 1) := dk_27 (dk_at dksX4_rivals_2 19 rfl rfl)
theorem dX4_rivals_66 : decode cX4_rivals 66 = .ok (.iload 6, 2) := dk_21 6 (dk_at dksX4_rivals_2 20 rfl rfl)
theorem dX4_rivals_68 : decode cX4_rivals 68 = .ok (.invokevirtual 452, 3) := dk_182 1 196 (dk_at dksX4_rivals_3 0 rfl rfl)
theorem dX4_rivals_71 : decode cX4_rivals 71 = .ok (.ifCond .eq 47, 3) := dk_153 0 47 (dk_at dksX4_rivals_3 3 rfl rfl)
theorem dX4_rivals_74 : decode cX4_rivals 74 = .ok (.aload_n 0, 1) := dk_42 (dk_at dksX4_rivals_3 6 rfl rfl)
theorem dX4_rivals_75 : decode cX4_rivals 75 = .ok (.iload_n 1, 1) := dk_27 (dk_at dksX4_rivals_3 7 rfl rfl)
theorem dX4_rivals_76 : decode cX4_rivals 76 = .ok (.iload_n 2, 1) := dk_28 (dk_at dksX4_rivals_3 8 rfl rfl)
theorem dX4_rivals_77 : decode cX4_rivals 77 = .ok (.iload 5, 2) := dk_21 5 (dk_at dksX4_rivals_3 9 rfl rfl)
theorem dX4_rivals_79 : decode cX4_rivals 79 = .ok (.iload 6, 2) := dk_21 6 (dk_at dksX4_rivals_3 11 rfl rfl)
theorem dX4_rivals_81 : decode cX4_rivals 81 = .ok (.invokevirtual 459, 3) := dk_182 1 203 (dk_at dksX4_rivals_3 13 rfl rfl)
theorem dX4_rivals_84 : decode cX4_rivals 84 = .ok (.ifCond .ne 6, 3) := dk_154 0 6 (dk_at dksX4_rivals_3 16 rfl rfl)
theorem dX4_rivals_87 : decode cX4_rivals 87 = .ok (.goto 31, 3) := dk_167 0 31 (dk_at dksX4_rivals_3 19 rfl rfl)
theorem dX4_rivals_90 : decode cX4_rivals 90 = .ok (.iload_n 3, 1) := dk_29 (dk_at dksX4_rivals_3 22 rfl rfl)
theorem dX4_rivals_91 : decode cX4_rivals 91 = .ok (.ifCond .ne 24, 3) := dk_154 0 24 (dk_at dksX4_rivals_4 0 rfl rfl)
theorem dX4_rivals_94 : decode cX4_rivals 94 = .ok (.aload_n 0, 1) := dk_42 (dk_at dksX4_rivals_4 3 rfl rfl)
theorem dX4_rivals_95 : decode cX4_rivals 95 = .ok (.getfield 97, 3) := dk_180 0 97 (dk_at dksX4_rivals_4 4 rfl rfl)
theorem dX4_rivals_98 : decode cX4_rivals 98 = .ok (.iconst 0, 1) := dk_3 (dk_at dksX4_rivals_4 7 rfl rfl)
theorem dX4_rivals_99 : decode cX4_rivals 99 = .ok (.iload 5, 2) := dk_21 5 (dk_at dksX4_rivals_4 8 rfl rfl)
theorem dX4_rivals_101 : decode cX4_rivals 101 = .ok (.iastore, 1) := dk_79 (dk_at dksX4_rivals_4 10 rfl rfl)
theorem dX4_rivals_102 : decode cX4_rivals 102 = .ok (.aload_n 0, 1) := dk_42 (dk_at dksX4_rivals_4 11 rfl rfl)
theorem dX4_rivals_103 : decode cX4_rivals 103 = .ok (.getfield 97, 3) := dk_180 0 97 (dk_at dksX4_rivals_4 12 rfl rfl)
theorem dX4_rivals_106 : decode cX4_rivals 106 = .ok (.iconst 1, 1) := dk_4 (dk_at dksX4_rivals_4 15 rfl rfl)
theorem dX4_rivals_107 : decode cX4_rivals 107 = .ok (.iload 6, 2) := dk_21 6 (dk_at dksX4_rivals_4 16 rfl rfl)
theorem dX4_rivals_109 : decode cX4_rivals 109 = .ok (.iastore, 1) := dk_79 (dk_at dksX4_rivals_4 18 rfl rfl)
theorem dX4_rivals_110 : decode cX4_rivals 110 = .ok (.aload_n 0, 1) := dk_42 (dk_at dksX4_rivals_4 19 rfl rfl)
theorem dX4_rivals_111 : decode cX4_rivals 111 = .ok (.iconst 2, 1) := dk_5 (dk_at dksX4_rivals_4 20 rfl rfl)
theorem dX4_rivals_112 : decode cX4_rivals 112 = .ok (.putfield 372, 3) := dk_181 1 116 (dk_at dksX4_rivals_4 21 rfl rfl)
theorem dX4_rivals_115 : decode cX4_rivals 115 = .ok (.iinc 3 1, 3) := dk_132 3 1 (dk_at dksX4_rivals_5 0 rfl rfl)
theorem dX4_rivals_118 : decode cX4_rivals 118 = .ok (.iinc 4 1, 3) := dk_132 4 1 (dk_at dksX4_rivals_5 3 rfl rfl)
theorem dX4_rivals_121 : decode cX4_rivals 121 = .ok (.goto (-88), 3) := dk_167 255 168 (dk_at dksX4_rivals_5 6 rfl rfl)
theorem dX4_rivals_124 : decode cX4_rivals 124 = .ok (.iload_n 3, 1) := dk_29 (dk_at dksX4_rivals_5 9 rfl rfl)
theorem dX4_rivals_125 : decode cX4_rivals 125 = .ok (.ireturn, 1) := dk_172 (dk_at dksX4_rivals_5 10 rfl rfl)
abbrev cX4_canChoose : ByteArray := prog_22_method_101_code
def yX4_canChoose : MethodName := ⟨RX4, "canChoose", "(III)Z"⟩
def dkwX4_canChoose_1 : List UInt8 := [161, 0, 7, 4, 167, 0, 4, 3, 172]
abbrev dktX4_canChoose_1 : List UInt8 := dkwX4_canChoose_1 ++ []
def dkwX4_canChoose_0 : List UInt8 := [42, 29, 182, 1, 152, 153, 0, 25, 42, 29, 27, 28, 182, 1, 193, 42, 180, 0, 85, 3, 27, 96, 46]
abbrev dktX4_canChoose_0 : List UInt8 := dkwX4_canChoose_0 ++ dktX4_canChoose_1
theorem dksX4_canChoose_0 : cX4_canChoose.data.toList.drop 0 = dktX4_canChoose_0 := by decide +kernel
theorem dksX4_canChoose_1 : cX4_canChoose.data.toList.drop 23 = dktX4_canChoose_1 := dk_seg dksX4_canChoose_0 23 rfl rfl
theorem dX4_canChoose_0 : decode cX4_canChoose 0 = .ok (.aload_n 0, 1) := dk_42 (dk_at dksX4_canChoose_0 0 rfl rfl)
theorem dX4_canChoose_1 : decode cX4_canChoose 1 = .ok (.iload_n 3, 1) := dk_29 (dk_at dksX4_canChoose_0 1 rfl rfl)
theorem dX4_canChoose_2 : decode cX4_canChoose 2 = .ok (.invokevirtual 408, 3) := dk_182 1 152 (dk_at dksX4_canChoose_0 2 rfl rfl)
theorem dX4_canChoose_5 : decode cX4_canChoose 5 = .ok (.ifCond .eq 25, 3) := dk_153 0 25 (dk_at dksX4_canChoose_0 5 rfl rfl)
theorem dX4_canChoose_8 : decode cX4_canChoose 8 = .ok (.aload_n 0, 1) := dk_42 (dk_at dksX4_canChoose_0 8 rfl rfl)
theorem dX4_canChoose_9 : decode cX4_canChoose 9 = .ok (.iload_n 3, 1) := dk_29 (dk_at dksX4_canChoose_0 9 rfl rfl)
theorem dX4_canChoose_10 : decode cX4_canChoose 10 = .ok (.iload_n 1, 1) := dk_27 (dk_at dksX4_canChoose_0 10 rfl rfl)
theorem dX4_canChoose_11 : decode cX4_canChoose 11 = .ok (.iload_n 2, 1) := dk_28 (dk_at dksX4_canChoose_0 11 rfl rfl)
theorem dX4_canChoose_12 : decode cX4_canChoose 12 = .ok (.invokevirtual 449, 3) := dk_182 1 193 (dk_at dksX4_canChoose_0 12 rfl rfl)
theorem dX4_canChoose_15 : decode cX4_canChoose 15 = .ok (.aload_n 0, 1) := dk_42 (dk_at dksX4_canChoose_0 15 rfl rfl)
theorem dX4_canChoose_16 : decode cX4_canChoose 16 = .ok (.getfield 85, 3) := dk_180 0 85 (dk_at dksX4_canChoose_0 16 rfl rfl)
theorem dX4_canChoose_19 : decode cX4_canChoose 19 = .ok (.iconst 0, 1) := dk_3 (dk_at dksX4_canChoose_0 19 rfl rfl)
theorem dX4_canChoose_20 : decode cX4_canChoose 20 = .ok (.iload_n 1, 1) := dk_27 (dk_at dksX4_canChoose_0 20 rfl rfl)
theorem dX4_canChoose_21 : decode cX4_canChoose 21 = .ok (.iadd, 1) := dk_96 (dk_at dksX4_canChoose_0 21 rfl rfl)
theorem dX4_canChoose_22 : decode cX4_canChoose 22 = .ok (.iaload, 1) := dk_46 (dk_at dksX4_canChoose_0 22 rfl rfl)
theorem dX4_canChoose_23 : decode cX4_canChoose 23 = .ok (.if_icmp .lt 7, 3) := dk_161 0 7 (dk_at dksX4_canChoose_1 0 rfl rfl)
theorem dX4_canChoose_26 : decode cX4_canChoose 26 = .ok (.iconst 1, 1) := dk_4 (dk_at dksX4_canChoose_1 3 rfl rfl)
theorem dX4_canChoose_27 : decode cX4_canChoose 27 = .ok (.goto 4, 3) := dk_167 0 4 (dk_at dksX4_canChoose_1 4 rfl rfl)
theorem dX4_canChoose_30 : decode cX4_canChoose 30 = .ok (.iconst 0, 1) := dk_3 (dk_at dksX4_canChoose_1 7 rfl rfl)
theorem dX4_canChoose_31 : decode cX4_canChoose 31 = .ok (.ireturn, 1) := dk_172 (dk_at dksX4_canChoose_1 8 rfl rfl)
abbrev cX4_leftBut : ByteArray := prog_22_method_99_code
def yX4_leftBut : MethodName := ⟨RX4, "leftBut", "(III)I"⟩
def dkwX4_leftBut_1 : List UInt8 := [182, 1, 100, 100, 172]
abbrev dktX4_leftBut_1 : List UInt8 := dkwX4_leftBut_1 ++ []
def dkwX4_leftBut_0 : List UInt8 := [42, 27, 182, 1, 94, 42, 42, 27, 182, 1, 97, 4, 28, 120, 2, 130, 126, 4, 29, 120, 2, 130, 126]
abbrev dktX4_leftBut_0 : List UInt8 := dkwX4_leftBut_0 ++ dktX4_leftBut_1
theorem dksX4_leftBut_0 : cX4_leftBut.data.toList.drop 0 = dktX4_leftBut_0 := by decide +kernel
theorem dksX4_leftBut_1 : cX4_leftBut.data.toList.drop 23 = dktX4_leftBut_1 := dk_seg dksX4_leftBut_0 23 rfl rfl
theorem dX4_leftBut_0 : decode cX4_leftBut 0 = .ok (.aload_n 0, 1) := dk_42 (dk_at dksX4_leftBut_0 0 rfl rfl)
theorem dX4_leftBut_1 : decode cX4_leftBut 1 = .ok (.iload_n 1, 1) := dk_27 (dk_at dksX4_leftBut_0 1 rfl rfl)
theorem dX4_leftBut_2 : decode cX4_leftBut 2 = .ok (.invokevirtual 350, 3) := dk_182 1 94 (dk_at dksX4_leftBut_0 2 rfl rfl)
theorem dX4_leftBut_5 : decode cX4_leftBut 5 = .ok (.aload_n 0, 1) := dk_42 (dk_at dksX4_leftBut_0 5 rfl rfl)
theorem dX4_leftBut_6 : decode cX4_leftBut 6 = .ok (.aload_n 0, 1) := dk_42 (dk_at dksX4_leftBut_0 6 rfl rfl)
theorem dX4_leftBut_7 : decode cX4_leftBut 7 = .ok (.iload_n 1, 1) := dk_27 (dk_at dksX4_leftBut_0 7 rfl rfl)
theorem dX4_leftBut_8 : decode cX4_leftBut 8 = .ok (.invokevirtual 353, 3) := dk_182 1 97 (dk_at dksX4_leftBut_0 8 rfl rfl)
theorem dX4_leftBut_11 : decode cX4_leftBut 11 = .ok (.iconst 1, 1) := dk_4 (dk_at dksX4_leftBut_0 11 rfl rfl)
theorem dX4_leftBut_12 : decode cX4_leftBut 12 = .ok (.iload_n 2, 1) := dk_28 (dk_at dksX4_leftBut_0 12 rfl rfl)
theorem dX4_leftBut_13 : decode cX4_leftBut 13 = .ok (.ishl, 1) := dk_120 (dk_at dksX4_leftBut_0 13 rfl rfl)
theorem dX4_leftBut_14 : decode cX4_leftBut 14 = .ok (.iconst (-1), 1) := dk_2 (dk_at dksX4_leftBut_0 14 rfl rfl)
theorem dX4_leftBut_15 : decode cX4_leftBut 15 = .ok (.ixor, 1) := dk_130 (dk_at dksX4_leftBut_0 15 rfl rfl)
theorem dX4_leftBut_16 : decode cX4_leftBut 16 = .ok (.iand, 1) := dk_126 (dk_at dksX4_leftBut_0 16 rfl rfl)
theorem dX4_leftBut_17 : decode cX4_leftBut 17 = .ok (.iconst 1, 1) := dk_4 (dk_at dksX4_leftBut_0 17 rfl rfl)
theorem dX4_leftBut_18 : decode cX4_leftBut 18 = .ok (.iload_n 3, 1) := dk_29 (dk_at dksX4_leftBut_0 18 rfl rfl)
theorem dX4_leftBut_19 : decode cX4_leftBut 19 = .ok (.ishl, 1) := dk_120 (dk_at dksX4_leftBut_0 19 rfl rfl)
theorem dX4_leftBut_20 : decode cX4_leftBut 20 = .ok (.iconst (-1), 1) := dk_2 (dk_at dksX4_leftBut_0 20 rfl rfl)
theorem dX4_leftBut_21 : decode cX4_leftBut 21 = .ok (.ixor, 1) := dk_130 (dk_at dksX4_leftBut_0 21 rfl rfl)
theorem dX4_leftBut_22 : decode cX4_leftBut 22 = .ok (.iand, 1) := dk_126 (dk_at dksX4_leftBut_0 22 rfl rfl)
theorem dX4_leftBut_23 : decode cX4_leftBut 23 = .ok (.invokevirtual 356, 3) := dk_182 1 100 (dk_at dksX4_leftBut_1 0 rfl rfl)
theorem dX4_leftBut_26 : decode cX4_leftBut 26 = .ok (.isub, 1) := dk_100 (dk_at dksX4_leftBut_1 3 rfl rfl)
theorem dX4_leftBut_27 : decode cX4_leftBut 27 = .ok (.ireturn, 1) := dk_172 (dk_at dksX4_leftBut_1 4 rfl rfl)
abbrev cX4_isRest : ByteArray := prog_22_method_102_code
def yX4_isRest : MethodName := ⟨RX4, "isRest", "(IIII)Z"⟩
def dkwX4_isRest_3 : List UInt8 := [29, 182, 1, 199, 164, 0, 5, 3, 172, 132, 5, 1, 167, 255, 175, 4, 172]
abbrev dktX4_isRest_3 : List UInt8 := dkwX4_isRest_3 ++ []
def dkwX4_isRest_2 : List UInt8 := [28, 27, 21, 5, 182, 1, 196, 153, 0, 26, 42, 28, 27, 21, 5, 29, 182, 1, 199, 42, 28, 27, 21, 4]
abbrev dktX4_isRest_2 : List UInt8 := dkwX4_isRest_2 ++ dktX4_isRest_3
def dkwX4_isRest_1 : List UInt8 := [27, 28, 21, 5, 21, 4, 182, 1, 199, 42, 27, 28, 29, 21, 4, 182, 1, 199, 164, 0, 5, 3, 172, 42]
abbrev dktX4_isRest_1 : List UInt8 := dkwX4_isRest_1 ++ dktX4_isRest_2
def dkwX4_isRest_0 : List UInt8 := [3, 54, 5, 21, 5, 42, 182, 1, 87, 162, 0, 78, 42, 27, 28, 21, 5, 182, 1, 196, 153, 0, 27, 42]
abbrev dktX4_isRest_0 : List UInt8 := dkwX4_isRest_0 ++ dktX4_isRest_1
theorem dksX4_isRest_0 : cX4_isRest.data.toList.drop 0 = dktX4_isRest_0 := by decide +kernel
theorem dksX4_isRest_1 : cX4_isRest.data.toList.drop 24 = dktX4_isRest_1 := dk_seg dksX4_isRest_0 24 rfl rfl
theorem dksX4_isRest_2 : cX4_isRest.data.toList.drop 48 = dktX4_isRest_2 := dk_seg dksX4_isRest_1 24 rfl rfl
theorem dksX4_isRest_3 : cX4_isRest.data.toList.drop 72 = dktX4_isRest_3 := dk_seg dksX4_isRest_2 24 rfl rfl
theorem dX4_isRest_0 : decode cX4_isRest 0 = .ok (.iconst 0, 1) := dk_3 (dk_at dksX4_isRest_0 0 rfl rfl)
theorem dX4_isRest_1 : decode cX4_isRest 1 = .ok (.istore 5, 2) := dk_54 5 (dk_at dksX4_isRest_0 1 rfl rfl)
theorem dX4_isRest_3 : decode cX4_isRest 3 = .ok (.iload 5, 2) := dk_21 5 (dk_at dksX4_isRest_0 3 rfl rfl)
theorem dX4_isRest_5 : decode cX4_isRest 5 = .ok (.aload_n 0, 1) := dk_42 (dk_at dksX4_isRest_0 5 rfl rfl)
theorem dX4_isRest_6 : decode cX4_isRest 6 = .ok (.invokevirtual 343, 3) := dk_182 1 87 (dk_at dksX4_isRest_0 6 rfl rfl)
theorem dX4_isRest_9 : decode cX4_isRest 9 = .ok (.if_icmp .ge 78, 3) := dk_162 0 78 (dk_at dksX4_isRest_0 9 rfl rfl)
theorem dX4_isRest_12 : decode cX4_isRest 12 = .ok (.aload_n 0, 1) := dk_42 (dk_at dksX4_isRest_0 12 rfl rfl)
theorem dX4_isRest_13 : decode cX4_isRest 13 = .ok (.iload_n 1, 1) := dk_27 (dk_at dksX4_isRest_0 13 rfl rfl)
theorem dX4_isRest_14 : decode cX4_isRest 14 = .ok (.iload_n 2, 1) := dk_28 (dk_at dksX4_isRest_0 14 rfl rfl)
theorem dX4_isRest_15 : decode cX4_isRest 15 = .ok (.iload 5, 2) := dk_21 5 (dk_at dksX4_isRest_0 15 rfl rfl)
theorem dX4_isRest_17 : decode cX4_isRest 17 = .ok (.invokevirtual 452, 3) := dk_182 1 196 (dk_at dksX4_isRest_0 17 rfl rfl)
theorem dX4_isRest_20 : decode cX4_isRest 20 = .ok (.ifCond .eq 27, 3) := dk_153 0 27 (dk_at dksX4_isRest_0 20 rfl rfl)
theorem dX4_isRest_23 : decode cX4_isRest 23 = .ok (.aload_n 0, 1) := dk_42 (dk_at dksX4_isRest_0 23 rfl rfl)
theorem dX4_isRest_24 : decode cX4_isRest 24 = .ok (.iload_n 1, 1) := dk_27 (dk_at dksX4_isRest_1 0 rfl rfl)
theorem dX4_isRest_25 : decode cX4_isRest 25 = .ok (.iload_n 2, 1) := dk_28 (dk_at dksX4_isRest_1 1 rfl rfl)
theorem dX4_isRest_26 : decode cX4_isRest 26 = .ok (.iload 5, 2) := dk_21 5 (dk_at dksX4_isRest_1 2 rfl rfl)
theorem dX4_isRest_28 : decode cX4_isRest 28 = .ok (.iload 4, 2) := dk_21 4 (dk_at dksX4_isRest_1 4 rfl rfl)
theorem dX4_isRest_30 : decode cX4_isRest 30 = .ok (.invokevirtual 455, 3) := dk_182 1 199 (dk_at dksX4_isRest_1 6 rfl rfl)
theorem dX4_isRest_33 : decode cX4_isRest 33 = .ok (.aload_n 0, 1) := dk_42 (dk_at dksX4_isRest_1 9 rfl rfl)
theorem dX4_isRest_34 : decode cX4_isRest 34 = .ok (.iload_n 1, 1) := dk_27 (dk_at dksX4_isRest_1 10 rfl rfl)
theorem dX4_isRest_35 : decode cX4_isRest 35 = .ok (.iload_n 2, 1) := dk_28 (dk_at dksX4_isRest_1 11 rfl rfl)
theorem dX4_isRest_36 : decode cX4_isRest 36 = .ok (.iload_n 3, 1) := dk_29 (dk_at dksX4_isRest_1 12 rfl rfl)
theorem dX4_isRest_37 : decode cX4_isRest 37 = .ok (.iload 4, 2) := dk_21 4 (dk_at dksX4_isRest_1 13 rfl rfl)
theorem dX4_isRest_39 : decode cX4_isRest 39 = .ok (.invokevirtual 455, 3) := dk_182 1 199 (dk_at dksX4_isRest_1 15 rfl rfl)
theorem dX4_isRest_42 : decode cX4_isRest 42 = .ok (.if_icmp .le 5, 3) := dk_164 0 5 (dk_at dksX4_isRest_1 18 rfl rfl)
theorem dX4_isRest_45 : decode cX4_isRest 45 = .ok (.iconst 0, 1) := dk_3 (dk_at dksX4_isRest_1 21 rfl rfl)
theorem dX4_isRest_46 : decode cX4_isRest 46 = .ok (.ireturn, 1) := dk_172 (dk_at dksX4_isRest_1 22 rfl rfl)
theorem dX4_isRest_47 : decode cX4_isRest 47 = .ok (.aload_n 0, 1) := dk_42 (dk_at dksX4_isRest_1 23 rfl rfl)
theorem dX4_isRest_48 : decode cX4_isRest 48 = .ok (.iload_n 2, 1) := dk_28 (dk_at dksX4_isRest_2 0 rfl rfl)
theorem dX4_isRest_49 : decode cX4_isRest 49 = .ok (.iload_n 1, 1) := dk_27 (dk_at dksX4_isRest_2 1 rfl rfl)
theorem dX4_isRest_50 : decode cX4_isRest 50 = .ok (.iload 5, 2) := dk_21 5 (dk_at dksX4_isRest_2 2 rfl rfl)
theorem dX4_isRest_52 : decode cX4_isRest 52 = .ok (.invokevirtual 452, 3) := dk_182 1 196 (dk_at dksX4_isRest_2 4 rfl rfl)
theorem dX4_isRest_55 : decode cX4_isRest 55 = .ok (.ifCond .eq 26, 3) := dk_153 0 26 (dk_at dksX4_isRest_2 7 rfl rfl)
theorem dX4_isRest_58 : decode cX4_isRest 58 = .ok (.aload_n 0, 1) := dk_42 (dk_at dksX4_isRest_2 10 rfl rfl)
theorem dX4_isRest_59 : decode cX4_isRest 59 = .ok (.iload_n 2, 1) := dk_28 (dk_at dksX4_isRest_2 11 rfl rfl)
theorem dX4_isRest_60 : decode cX4_isRest 60 = .ok (.iload_n 1, 1) := dk_27 (dk_at dksX4_isRest_2 12 rfl rfl)
theorem dX4_isRest_61 : decode cX4_isRest 61 = .ok (.iload 5, 2) := dk_21 5 (dk_at dksX4_isRest_2 13 rfl rfl)
theorem dX4_isRest_63 : decode cX4_isRest 63 = .ok (.iload_n 3, 1) := dk_29 (dk_at dksX4_isRest_2 15 rfl rfl)
theorem dX4_isRest_64 : decode cX4_isRest 64 = .ok (.invokevirtual 455, 3) := dk_182 1 199 (dk_at dksX4_isRest_2 16 rfl rfl)
theorem dX4_isRest_67 : decode cX4_isRest 67 = .ok (.aload_n 0, 1) := dk_42 (dk_at dksX4_isRest_2 19 rfl rfl)
theorem dX4_isRest_68 : decode cX4_isRest 68 = .ok (.iload_n 2, 1) := dk_28 (dk_at dksX4_isRest_2 20 rfl rfl)
theorem dX4_isRest_69 : decode cX4_isRest 69 = .ok (.iload_n 1, 1) := dk_27 (dk_at dksX4_isRest_2 21 rfl rfl)
theorem dX4_isRest_70 : decode cX4_isRest 70 = .ok (.iload 4, 2) := dk_21 4 (dk_at dksX4_isRest_2 22 rfl rfl)
theorem dX4_isRest_72 : decode cX4_isRest 72 = .ok (.iload_n 3, 1) := dk_29 (dk_at dksX4_isRest_3 0 rfl rfl)
theorem dX4_isRest_73 : decode cX4_isRest 73 = .ok (.invokevirtual 455, 3) := dk_182 1 199 (dk_at dksX4_isRest_3 1 rfl rfl)
theorem dX4_isRest_76 : decode cX4_isRest 76 = .ok (.if_icmp .le 5, 3) := dk_164 0 5 (dk_at dksX4_isRest_3 4 rfl rfl)
theorem dX4_isRest_79 : decode cX4_isRest 79 = .ok (.iconst 0, 1) := dk_3 (dk_at dksX4_isRest_3 7 rfl rfl)
theorem dX4_isRest_80 : decode cX4_isRest 80 = .ok (.ireturn, 1) := dk_172 (dk_at dksX4_isRest_3 8 rfl rfl)
theorem dX4_isRest_81 : decode cX4_isRest 81 = .ok (.iinc 5 1, 3) := dk_132 5 1 (dk_at dksX4_isRest_3 9 rfl rfl)
theorem dX4_isRest_84 : decode cX4_isRest 84 = .ok (.goto (-81), 3) := dk_167 255 175 (dk_at dksX4_isRest_3 12 rfl rfl)
theorem dX4_isRest_87 : decode cX4_isRest 87 = .ok (.iconst 1, 1) := dk_4 (dk_at dksX4_isRest_3 15 rfl rfl)
theorem dX4_isRest_88 : decode cX4_isRest 88 = .ok (.ireturn, 1) := dk_172 (dk_at dksX4_isRest_3 16 rfl rfl)
abbrev cX4_gainOf : ByteArray := prog_22_method_100_code
def yX4_gainOf : MethodName := ⟨RX4, "gainOf", "(IIII)I"⟩
def dkwX4_gainOf_2 : List UInt8 := [21, 5, 172]
abbrev dktX4_gainOf_2 : List UInt8 := dkwX4_gainOf_2 ++ []
def dkwX4_gainOf_1 : List UInt8 := [180, 0, 85, 3, 28, 96, 46, 167, 0, 4, 3, 100, 54, 5, 21, 5, 156, 0, 7, 2, 167, 0, 5]
abbrev dktX4_gainOf_1 : List UInt8 := dkwX4_gainOf_1 ++ dktX4_gainOf_2
def dkwX4_gainOf_0 : List UInt8 := [42, 29, 27, 28, 182, 1, 193, 42, 180, 0, 85, 3, 27, 96, 46, 100, 29, 21, 4, 160, 0, 14, 42]
abbrev dktX4_gainOf_0 : List UInt8 := dkwX4_gainOf_0 ++ dktX4_gainOf_1
theorem dksX4_gainOf_0 : cX4_gainOf.data.toList.drop 0 = dktX4_gainOf_0 := by decide +kernel
theorem dksX4_gainOf_1 : cX4_gainOf.data.toList.drop 23 = dktX4_gainOf_1 := dk_seg dksX4_gainOf_0 23 rfl rfl
theorem dksX4_gainOf_2 : cX4_gainOf.data.toList.drop 46 = dktX4_gainOf_2 := dk_seg dksX4_gainOf_1 23 rfl rfl
theorem dX4_gainOf_0 : decode cX4_gainOf 0 = .ok (.aload_n 0, 1) := dk_42 (dk_at dksX4_gainOf_0 0 rfl rfl)
theorem dX4_gainOf_1 : decode cX4_gainOf 1 = .ok (.iload_n 3, 1) := dk_29 (dk_at dksX4_gainOf_0 1 rfl rfl)
theorem dX4_gainOf_2 : decode cX4_gainOf 2 = .ok (.iload_n 1, 1) := dk_27 (dk_at dksX4_gainOf_0 2 rfl rfl)
theorem dX4_gainOf_3 : decode cX4_gainOf 3 = .ok (.iload_n 2, 1) := dk_28 (dk_at dksX4_gainOf_0 3 rfl rfl)
theorem dX4_gainOf_4 : decode cX4_gainOf 4 = .ok (.invokevirtual 449, 3) := dk_182 1 193 (dk_at dksX4_gainOf_0 4 rfl rfl)
theorem dX4_gainOf_7 : decode cX4_gainOf 7 = .ok (.aload_n 0, 1) := dk_42 (dk_at dksX4_gainOf_0 7 rfl rfl)
theorem dX4_gainOf_8 : decode cX4_gainOf 8 = .ok (.getfield 85, 3) := dk_180 0 85 (dk_at dksX4_gainOf_0 8 rfl rfl)
theorem dX4_gainOf_11 : decode cX4_gainOf 11 = .ok (.iconst 0, 1) := dk_3 (dk_at dksX4_gainOf_0 11 rfl rfl)
theorem dX4_gainOf_12 : decode cX4_gainOf 12 = .ok (.iload_n 1, 1) := dk_27 (dk_at dksX4_gainOf_0 12 rfl rfl)
theorem dX4_gainOf_13 : decode cX4_gainOf 13 = .ok (.iadd, 1) := dk_96 (dk_at dksX4_gainOf_0 13 rfl rfl)
theorem dX4_gainOf_14 : decode cX4_gainOf 14 = .ok (.iaload, 1) := dk_46 (dk_at dksX4_gainOf_0 14 rfl rfl)
theorem dX4_gainOf_15 : decode cX4_gainOf 15 = .ok (.isub, 1) := dk_100 (dk_at dksX4_gainOf_0 15 rfl rfl)
theorem dX4_gainOf_16 : decode cX4_gainOf 16 = .ok (.iload_n 3, 1) := dk_29 (dk_at dksX4_gainOf_0 16 rfl rfl)
theorem dX4_gainOf_17 : decode cX4_gainOf 17 = .ok (.iload 4, 2) := dk_21 4 (dk_at dksX4_gainOf_0 17 rfl rfl)
theorem dX4_gainOf_19 : decode cX4_gainOf 19 = .ok (.if_icmp .ne 14, 3) := dk_160 0 14 (dk_at dksX4_gainOf_0 19 rfl rfl)
theorem dX4_gainOf_22 : decode cX4_gainOf 22 = .ok (.aload_n 0, 1) := dk_42 (dk_at dksX4_gainOf_0 22 rfl rfl)
theorem dX4_gainOf_23 : decode cX4_gainOf 23 = .ok (.getfield 85, 3) := dk_180 0 85 (dk_at dksX4_gainOf_1 0 rfl rfl)
theorem dX4_gainOf_26 : decode cX4_gainOf 26 = .ok (.iconst 0, 1) := dk_3 (dk_at dksX4_gainOf_1 3 rfl rfl)
theorem dX4_gainOf_27 : decode cX4_gainOf 27 = .ok (.iload_n 2, 1) := dk_28 (dk_at dksX4_gainOf_1 4 rfl rfl)
theorem dX4_gainOf_28 : decode cX4_gainOf 28 = .ok (.iadd, 1) := dk_96 (dk_at dksX4_gainOf_1 5 rfl rfl)
theorem dX4_gainOf_29 : decode cX4_gainOf 29 = .ok (.iaload, 1) := dk_46 (dk_at dksX4_gainOf_1 6 rfl rfl)
theorem dX4_gainOf_30 : decode cX4_gainOf 30 = .ok (.goto 4, 3) := dk_167 0 4 (dk_at dksX4_gainOf_1 7 rfl rfl)
theorem dX4_gainOf_33 : decode cX4_gainOf 33 = .ok (.iconst 0, 1) := dk_3 (dk_at dksX4_gainOf_1 10 rfl rfl)
theorem dX4_gainOf_34 : decode cX4_gainOf 34 = .ok (.isub, 1) := dk_100 (dk_at dksX4_gainOf_1 11 rfl rfl)
theorem dX4_gainOf_35 : decode cX4_gainOf 35 = .ok (.istore 5, 2) := dk_54 5 (dk_at dksX4_gainOf_1 12 rfl rfl)
theorem dX4_gainOf_37 : decode cX4_gainOf 37 = .ok (.iload 5, 2) := dk_21 5 (dk_at dksX4_gainOf_1 14 rfl rfl)
theorem dX4_gainOf_39 : decode cX4_gainOf 39 = .ok (.ifCond .ge 7, 3) := dk_156 0 7 (dk_at dksX4_gainOf_1 16 rfl rfl)
theorem dX4_gainOf_42 : decode cX4_gainOf 42 = .ok (.iconst (-1), 1) := dk_2 (dk_at dksX4_gainOf_1 19 rfl rfl)
theorem dX4_gainOf_43 : decode cX4_gainOf 43 = .ok (.goto 5, 3) := dk_167 0 5 (dk_at dksX4_gainOf_1 20 rfl rfl)
theorem dX4_gainOf_46 : decode cX4_gainOf 46 = .ok (.iload 5, 2) := dk_21 5 (dk_at dksX4_gainOf_2 0 rfl rfl)
theorem dX4_gainOf_48 : decode cX4_gainOf 48 = .ok (.ireturn, 1) := dk_172 (dk_at dksX4_gainOf_2 2 rfl rfl)
abbrev cX4_sires : ByteArray := prog_22_method_104_code
def yX4_sires : MethodName := ⟨RX4, "sires", "(II)I"⟩
def dkwX4_sires_8 : List UInt8 := [21, 4, 172]
abbrev dktX4_sires_8 : List UInt8 := dkwX4_sires_8 ++ []
def dkwX4_sires_7 : List UInt8 := [28, 154, 0, 10, 29, 16, 8, 108, 167, 0, 17, 28, 4, 160, 0, 10, 29, 16, 8, 112, 167, 0, 5]
abbrev dktX4_sires_7 : List UInt8 := dkwX4_sires_7 ++ dktX4_sires_8
def dkwX4_sires_6 : List UInt8 := [167, 0, 10, 21, 5, 62, 21, 8, 54, 4, 132, 5, 1, 167, 255, 129, 29, 156, 0, 7, 2, 167, 0, 28]
abbrev dktX4_sires_6 : List UInt8 := dkwX4_sires_6 ++ dktX4_sires_7
def dkwX4_sires_5 : List UInt8 := [180, 0, 85, 16, 16, 21, 7, 96, 46, 130, 126, 184, 1, 78, 54, 8, 21, 8, 21, 4, 161, 0, 6]
abbrev dktX4_sires_5 : List UInt8 := dkwX4_sires_5 ++ dktX4_sires_6
def dkwX4_sires_4 : List UInt8 := [27, 96, 46, 42, 180, 0, 85, 16, 16, 21, 6, 96, 46, 130, 42, 180, 0, 85, 16, 16, 27, 96, 46, 42]
abbrev dktX4_sires_4 : List UInt8 := dkwX4_sires_4 ++ dktX4_sires_5
def dkwX4_sires_3 : List UInt8 := [182, 1, 155, 153, 0, 78, 42, 21, 7, 182, 1, 155, 154, 0, 6, 167, 0, 66, 42, 180, 0, 85, 16, 16]
abbrev dktX4_sires_3 : List UInt8 := dkwX4_sires_3 ++ dktX4_sires_4
def dkwX4_sires_2 : List UInt8 := [54, 7, 21, 6, 21, 7, 162, 0, 99, 21, 6, 27, 159, 0, 93, 21, 7, 27, 159, 0, 87, 42, 21, 6]
abbrev dktX4_sires_2 : List UInt8 := dkwX4_sires_2 ++ dktX4_sires_3
def dkwX4_sires_1 : List UInt8 := [54, 4, 3, 54, 5, 21, 5, 16, 64, 162, 0, 126, 21, 5, 16, 8, 108, 54, 6, 21, 5, 16, 8, 112]
abbrev dktX4_sires_1 : List UInt8 := dkwX4_sires_1 ++ dktX4_sires_2
def dkwX4_sires_0 : List UInt8 := [42, 27, 182, 1, 155, 153, 0, 12, 28, 3, 5, 184, 1, 90, 154, 0, 5, 2, 172, 2, 62, 17, 3, 232]
abbrev dktX4_sires_0 : List UInt8 := dkwX4_sires_0 ++ dktX4_sires_1
theorem dksX4_sires_0 : cX4_sires.data.toList.drop 0 = dktX4_sires_0 := by decide +kernel
theorem dksX4_sires_1 : cX4_sires.data.toList.drop 24 = dktX4_sires_1 := dk_seg dksX4_sires_0 24 rfl rfl
theorem dksX4_sires_2 : cX4_sires.data.toList.drop 48 = dktX4_sires_2 := dk_seg dksX4_sires_1 24 rfl rfl
theorem dksX4_sires_3 : cX4_sires.data.toList.drop 72 = dktX4_sires_3 := dk_seg dksX4_sires_2 24 rfl rfl
theorem dksX4_sires_4 : cX4_sires.data.toList.drop 96 = dktX4_sires_4 := dk_seg dksX4_sires_3 24 rfl rfl
theorem dksX4_sires_5 : cX4_sires.data.toList.drop 120 = dktX4_sires_5 := dk_seg dksX4_sires_4 24 rfl rfl
theorem dksX4_sires_6 : cX4_sires.data.toList.drop 143 = dktX4_sires_6 := dk_seg dksX4_sires_5 23 rfl rfl
theorem dksX4_sires_7 : cX4_sires.data.toList.drop 167 = dktX4_sires_7 := dk_seg dksX4_sires_6 24 rfl rfl
theorem dksX4_sires_8 : cX4_sires.data.toList.drop 190 = dktX4_sires_8 := dk_seg dksX4_sires_7 23 rfl rfl
theorem dX4_sires_0 : decode cX4_sires 0 = .ok (.aload_n 0, 1) := dk_42 (dk_at dksX4_sires_0 0 rfl rfl)
theorem dX4_sires_1 : decode cX4_sires 1 = .ok (.iload_n 1, 1) := dk_27 (dk_at dksX4_sires_0 1 rfl rfl)
theorem dX4_sires_2 : decode cX4_sires 2 = .ok (.invokevirtual 411, 3) := dk_182 1 155 (dk_at dksX4_sires_0 2 rfl rfl)
theorem dX4_sires_5 : decode cX4_sires 5 = .ok (.ifCond .eq 12, 3) := dk_153 0 12 (dk_at dksX4_sires_0 5 rfl rfl)
theorem dX4_sires_8 : decode cX4_sires 8 = .ok (.iload_n 2, 1) := dk_28 (dk_at dksX4_sires_0 8 rfl rfl)
theorem dX4_sires_9 : decode cX4_sires 9 = .ok (.iconst 0, 1) := dk_3 (dk_at dksX4_sires_0 9 rfl rfl)
theorem dX4_sires_10 : decode cX4_sires 10 = .ok (.iconst 2, 1) := dk_5 (dk_at dksX4_sires_0 10 rfl rfl)
theorem dX4_sires_11 : decode cX4_sires 11 = .ok (.invokestatic 346, 3) := dk_184 1 90 (dk_at dksX4_sires_0 11 rfl rfl)
theorem dX4_sires_14 : decode cX4_sires 14 = .ok (.ifCond .ne 5, 3) := dk_154 0 5 (dk_at dksX4_sires_0 14 rfl rfl)
theorem dX4_sires_17 : decode cX4_sires 17 = .ok (.iconst (-1), 1) := dk_2 (dk_at dksX4_sires_0 17 rfl rfl)
theorem dX4_sires_18 : decode cX4_sires 18 = .ok (.ireturn, 1) := dk_172 (dk_at dksX4_sires_0 18 rfl rfl)
theorem dX4_sires_19 : decode cX4_sires 19 = .ok (.iconst (-1), 1) := dk_2 (dk_at dksX4_sires_0 19 rfl rfl)
theorem dX4_sires_20 : decode cX4_sires 20 = .ok (.istore_n 3, 1) := dk_62 (dk_at dksX4_sires_0 20 rfl rfl)
theorem dX4_sires_21 : decode cX4_sires 21 = .ok (.sipush 1000, 3) := dk_17 3 232 (dk_at dksX4_sires_0 21 rfl rfl)
theorem dX4_sires_24 : decode cX4_sires 24 = .ok (.istore 4, 2) := dk_54 4 (dk_at dksX4_sires_1 0 rfl rfl)
theorem dX4_sires_26 : decode cX4_sires 26 = .ok (.iconst 0, 1) := dk_3 (dk_at dksX4_sires_1 2 rfl rfl)
theorem dX4_sires_27 : decode cX4_sires 27 = .ok (.istore 5, 2) := dk_54 5 (dk_at dksX4_sires_1 3 rfl rfl)
theorem dX4_sires_29 : decode cX4_sires 29 = .ok (.iload 5, 2) := dk_21 5 (dk_at dksX4_sires_1 5 rfl rfl)
theorem dX4_sires_31 : decode cX4_sires 31 = .ok (.bipush 64, 2) := dk_16 64 (dk_at dksX4_sires_1 7 rfl rfl)
theorem dX4_sires_33 : decode cX4_sires 33 = .ok (.if_icmp .ge 126, 3) := dk_162 0 126 (dk_at dksX4_sires_1 9 rfl rfl)
theorem dX4_sires_36 : decode cX4_sires 36 = .ok (.iload 5, 2) := dk_21 5 (dk_at dksX4_sires_1 12 rfl rfl)
theorem dX4_sires_38 : decode cX4_sires 38 = .ok (.bipush 8, 2) := dk_16 8 (dk_at dksX4_sires_1 14 rfl rfl)
theorem dX4_sires_40 : decode cX4_sires 40 = .ok (.idiv, 1) := dk_108 (dk_at dksX4_sires_1 16 rfl rfl)
theorem dX4_sires_41 : decode cX4_sires 41 = .ok (.istore 6, 2) := dk_54 6 (dk_at dksX4_sires_1 17 rfl rfl)
theorem dX4_sires_43 : decode cX4_sires 43 = .ok (.iload 5, 2) := dk_21 5 (dk_at dksX4_sires_1 19 rfl rfl)
theorem dX4_sires_45 : decode cX4_sires 45 = .ok (.bipush 8, 2) := dk_16 8 (dk_at dksX4_sires_1 21 rfl rfl)
theorem dX4_sires_47 : decode cX4_sires 47 = .ok (.irem, 1) := dk_112 (dk_at dksX4_sires_1 23 rfl rfl)
theorem dX4_sires_48 : decode cX4_sires 48 = .ok (.istore 7, 2) := dk_54 7 (dk_at dksX4_sires_2 0 rfl rfl)
theorem dX4_sires_50 : decode cX4_sires 50 = .ok (.iload 6, 2) := dk_21 6 (dk_at dksX4_sires_2 2 rfl rfl)
theorem dX4_sires_52 : decode cX4_sires 52 = .ok (.iload 7, 2) := dk_21 7 (dk_at dksX4_sires_2 4 rfl rfl)
theorem dX4_sires_54 : decode cX4_sires 54 = .ok (.if_icmp .ge 99, 3) := dk_162 0 99 (dk_at dksX4_sires_2 6 rfl rfl)
theorem dX4_sires_57 : decode cX4_sires 57 = .ok (.iload 6, 2) := dk_21 6 (dk_at dksX4_sires_2 9 rfl rfl)
theorem dX4_sires_59 : decode cX4_sires 59 = .ok (.iload_n 1, 1) := dk_27 (dk_at dksX4_sires_2 11 rfl rfl)
theorem dX4_sires_60 : decode cX4_sires 60 = .ok (.if_icmp .eq 93, 3) := dk_159 0 93 (dk_at dksX4_sires_2 12 rfl rfl)
theorem dX4_sires_63 : decode cX4_sires 63 = .ok (.iload 7, 2) := dk_21 7 (dk_at dksX4_sires_2 15 rfl rfl)
theorem dX4_sires_65 : decode cX4_sires 65 = .ok (.iload_n 1, 1) := dk_27 (dk_at dksX4_sires_2 17 rfl rfl)
theorem dX4_sires_66 : decode cX4_sires 66 = .ok (.if_icmp .eq 87, 3) := dk_159 0 87 (dk_at dksX4_sires_2 18 rfl rfl)
theorem dX4_sires_69 : decode cX4_sires 69 = .ok (.aload_n 0, 1) := dk_42 (dk_at dksX4_sires_2 21 rfl rfl)
theorem dX4_sires_70 : decode cX4_sires 70 = .ok (.iload 6, 2) := dk_21 6 (dk_at dksX4_sires_2 22 rfl rfl)
theorem dX4_sires_72 : decode cX4_sires 72 = .ok (.invokevirtual 411, 3) := dk_182 1 155 (dk_at dksX4_sires_3 0 rfl rfl)
theorem dX4_sires_75 : decode cX4_sires 75 = .ok (.ifCond .eq 78, 3) := dk_153 0 78 (dk_at dksX4_sires_3 3 rfl rfl)
theorem dX4_sires_78 : decode cX4_sires 78 = .ok (.aload_n 0, 1) := dk_42 (dk_at dksX4_sires_3 6 rfl rfl)
theorem dX4_sires_79 : decode cX4_sires 79 = .ok (.iload 7, 2) := dk_21 7 (dk_at dksX4_sires_3 7 rfl rfl)
theorem dX4_sires_81 : decode cX4_sires 81 = .ok (.invokevirtual 411, 3) := dk_182 1 155 (dk_at dksX4_sires_3 9 rfl rfl)
theorem dX4_sires_84 : decode cX4_sires 84 = .ok (.ifCond .ne 6, 3) := dk_154 0 6 (dk_at dksX4_sires_3 12 rfl rfl)
theorem dX4_sires_87 : decode cX4_sires 87 = .ok (.goto 66, 3) := dk_167 0 66 (dk_at dksX4_sires_3 15 rfl rfl)
theorem dX4_sires_90 : decode cX4_sires 90 = .ok (.aload_n 0, 1) := dk_42 (dk_at dksX4_sires_3 18 rfl rfl)
theorem dX4_sires_91 : decode cX4_sires 91 = .ok (.getfield 85, 3) := dk_180 0 85 (dk_at dksX4_sires_3 19 rfl rfl)
theorem dX4_sires_94 : decode cX4_sires 94 = .ok (.bipush 16, 2) := dk_16 16 (dk_at dksX4_sires_3 22 rfl rfl)
theorem dX4_sires_96 : decode cX4_sires 96 = .ok (.iload_n 1, 1) := dk_27 (dk_at dksX4_sires_4 0 rfl rfl)
theorem dX4_sires_97 : decode cX4_sires 97 = .ok (.iadd, 1) := dk_96 (dk_at dksX4_sires_4 1 rfl rfl)
theorem dX4_sires_98 : decode cX4_sires 98 = .ok (.iaload, 1) := dk_46 (dk_at dksX4_sires_4 2 rfl rfl)
theorem dX4_sires_99 : decode cX4_sires 99 = .ok (.aload_n 0, 1) := dk_42 (dk_at dksX4_sires_4 3 rfl rfl)
theorem dX4_sires_100 : decode cX4_sires 100 = .ok (.getfield 85, 3) := dk_180 0 85 (dk_at dksX4_sires_4 4 rfl rfl)
theorem dX4_sires_103 : decode cX4_sires 103 = .ok (.bipush 16, 2) := dk_16 16 (dk_at dksX4_sires_4 7 rfl rfl)
theorem dX4_sires_105 : decode cX4_sires 105 = .ok (.iload 6, 2) := dk_21 6 (dk_at dksX4_sires_4 9 rfl rfl)
theorem dX4_sires_107 : decode cX4_sires 107 = .ok (.iadd, 1) := dk_96 (dk_at dksX4_sires_4 11 rfl rfl)
theorem dX4_sires_108 : decode cX4_sires 108 = .ok (.iaload, 1) := dk_46 (dk_at dksX4_sires_4 12 rfl rfl)
theorem dX4_sires_109 : decode cX4_sires 109 = .ok (.ixor, 1) := dk_130 (dk_at dksX4_sires_4 13 rfl rfl)
theorem dX4_sires_110 : decode cX4_sires 110 = .ok (.aload_n 0, 1) := dk_42 (dk_at dksX4_sires_4 14 rfl rfl)
theorem dX4_sires_111 : decode cX4_sires 111 = .ok (.getfield 85, 3) := dk_180 0 85 (dk_at dksX4_sires_4 15 rfl rfl)
theorem dX4_sires_114 : decode cX4_sires 114 = .ok (.bipush 16, 2) := dk_16 16 (dk_at dksX4_sires_4 18 rfl rfl)
theorem dX4_sires_116 : decode cX4_sires 116 = .ok (.iload_n 1, 1) := dk_27 (dk_at dksX4_sires_4 20 rfl rfl)
theorem dX4_sires_117 : decode cX4_sires 117 = .ok (.iadd, 1) := dk_96 (dk_at dksX4_sires_4 21 rfl rfl)
theorem dX4_sires_118 : decode cX4_sires 118 = .ok (.iaload, 1) := dk_46 (dk_at dksX4_sires_4 22 rfl rfl)
theorem dX4_sires_119 : decode cX4_sires 119 = .ok (.aload_n 0, 1) := dk_42 (dk_at dksX4_sires_4 23 rfl rfl)
theorem dX4_sires_120 : decode cX4_sires 120 = .ok (.getfield 85, 3) := dk_180 0 85 (dk_at dksX4_sires_5 0 rfl rfl)
theorem dX4_sires_123 : decode cX4_sires 123 = .ok (.bipush 16, 2) := dk_16 16 (dk_at dksX4_sires_5 3 rfl rfl)
theorem dX4_sires_125 : decode cX4_sires 125 = .ok (.iload 7, 2) := dk_21 7 (dk_at dksX4_sires_5 5 rfl rfl)
theorem dX4_sires_127 : decode cX4_sires 127 = .ok (.iadd, 1) := dk_96 (dk_at dksX4_sires_5 7 rfl rfl)
theorem dX4_sires_128 : decode cX4_sires 128 = .ok (.iaload, 1) := dk_46 (dk_at dksX4_sires_5 8 rfl rfl)
theorem dX4_sires_129 : decode cX4_sires 129 = .ok (.ixor, 1) := dk_130 (dk_at dksX4_sires_5 9 rfl rfl)
theorem dX4_sires_130 : decode cX4_sires 130 = .ok (.iand, 1) := dk_126 (dk_at dksX4_sires_5 10 rfl rfl)
theorem dX4_sires_131 : decode cX4_sires 131 = .ok (.invokestatic 334, 3) := dk_184 1 78 (dk_at dksX4_sires_5 11 rfl rfl)
theorem dX4_sires_134 : decode cX4_sires 134 = .ok (.istore 8, 2) := dk_54 8 (dk_at dksX4_sires_5 14 rfl rfl)
theorem dX4_sires_136 : decode cX4_sires 136 = .ok (.iload 8, 2) := dk_21 8 (dk_at dksX4_sires_5 16 rfl rfl)
theorem dX4_sires_138 : decode cX4_sires 138 = .ok (.iload 4, 2) := dk_21 4 (dk_at dksX4_sires_5 18 rfl rfl)
theorem dX4_sires_140 : decode cX4_sires 140 = .ok (.if_icmp .lt 6, 3) := dk_161 0 6 (dk_at dksX4_sires_5 20 rfl rfl)
theorem dX4_sires_143 : decode cX4_sires 143 = .ok (.goto 10, 3) := dk_167 0 10 (dk_at dksX4_sires_6 0 rfl rfl)
theorem dX4_sires_146 : decode cX4_sires 146 = .ok (.iload 5, 2) := dk_21 5 (dk_at dksX4_sires_6 3 rfl rfl)
theorem dX4_sires_148 : decode cX4_sires 148 = .ok (.istore_n 3, 1) := dk_62 (dk_at dksX4_sires_6 5 rfl rfl)
theorem dX4_sires_149 : decode cX4_sires 149 = .ok (.iload 8, 2) := dk_21 8 (dk_at dksX4_sires_6 6 rfl rfl)
theorem dX4_sires_151 : decode cX4_sires 151 = .ok (.istore 4, 2) := dk_54 4 (dk_at dksX4_sires_6 8 rfl rfl)
theorem dX4_sires_153 : decode cX4_sires 153 = .ok (.iinc 5 1, 3) := dk_132 5 1 (dk_at dksX4_sires_6 10 rfl rfl)
theorem dX4_sires_156 : decode cX4_sires 156 = .ok (.goto (-127), 3) := dk_167 255 129 (dk_at dksX4_sires_6 13 rfl rfl)
theorem dX4_sires_159 : decode cX4_sires 159 = .ok (.iload_n 3, 1) := dk_29 (dk_at dksX4_sires_6 16 rfl rfl)
theorem dX4_sires_160 : decode cX4_sires 160 = .ok (.ifCond .ge 7, 3) := dk_156 0 7 (dk_at dksX4_sires_6 17 rfl rfl)
theorem dX4_sires_163 : decode cX4_sires 163 = .ok (.iconst (-1), 1) := dk_2 (dk_at dksX4_sires_6 20 rfl rfl)
theorem dX4_sires_164 : decode cX4_sires 164 = .ok (.goto 28, 3) := dk_167 0 28 (dk_at dksX4_sires_6 21 rfl rfl)
theorem dX4_sires_167 : decode cX4_sires 167 = .ok (.iload_n 2, 1) := dk_28 (dk_at dksX4_sires_7 0 rfl rfl)
theorem dX4_sires_168 : decode cX4_sires 168 = .ok (.ifCond .ne 10, 3) := dk_154 0 10 (dk_at dksX4_sires_7 1 rfl rfl)
theorem dX4_sires_171 : decode cX4_sires 171 = .ok (.iload_n 3, 1) := dk_29 (dk_at dksX4_sires_7 4 rfl rfl)
theorem dX4_sires_172 : decode cX4_sires 172 = .ok (.bipush 8, 2) := dk_16 8 (dk_at dksX4_sires_7 5 rfl rfl)
theorem dX4_sires_174 : decode cX4_sires 174 = .ok (.idiv, 1) := dk_108 (dk_at dksX4_sires_7 7 rfl rfl)
theorem dX4_sires_175 : decode cX4_sires 175 = .ok (.goto 17, 3) := dk_167 0 17 (dk_at dksX4_sires_7 8 rfl rfl)
theorem dX4_sires_178 : decode cX4_sires 178 = .ok (.iload_n 2, 1) := dk_28 (dk_at dksX4_sires_7 11 rfl rfl)
theorem dX4_sires_179 : decode cX4_sires 179 = .ok (.iconst 1, 1) := dk_4 (dk_at dksX4_sires_7 12 rfl rfl)
theorem dX4_sires_180 : decode cX4_sires 180 = .ok (.if_icmp .ne 10, 3) := dk_160 0 10 (dk_at dksX4_sires_7 13 rfl rfl)
theorem dX4_sires_183 : decode cX4_sires 183 = .ok (.iload_n 3, 1) := dk_29 (dk_at dksX4_sires_7 16 rfl rfl)
theorem dX4_sires_184 : decode cX4_sires 184 = .ok (.bipush 8, 2) := dk_16 8 (dk_at dksX4_sires_7 17 rfl rfl)
theorem dX4_sires_186 : decode cX4_sires 186 = .ok (.irem, 1) := dk_112 (dk_at dksX4_sires_7 19 rfl rfl)
theorem dX4_sires_187 : decode cX4_sires 187 = .ok (.goto 5, 3) := dk_167 0 5 (dk_at dksX4_sires_7 20 rfl rfl)
theorem dX4_sires_190 : decode cX4_sires 190 = .ok (.iload 4, 2) := dk_21 4 (dk_at dksX4_sires_8 0 rfl rfl)
theorem dX4_sires_192 : decode cX4_sires 192 = .ok (.ireturn, 1) := dk_172 (dk_at dksX4_sires_8 2 rfl rfl)
abbrev cX4_quartet : ByteArray := prog_22_method_106_code
def yX4_quartet : MethodName := ⟨RX4, "quartet", "(IIIII)I"⟩
def dkwX4_quartet_6 : List UInt8 := [167, 0, 5, 21, 7, 172]
abbrev dktX4_quartet_6 : List UInt8 := dkwX4_quartet_6 ++ []
def dkwX4_quartet_5 : List UInt8 := [54, 7, 21, 9, 21, 7, 162, 0, 10, 5, 54, 6, 21, 9, 54, 7, 21, 5, 154, 0, 8, 21, 6]
abbrev dktX4_quartet_5 : List UInt8 := dkwX4_quartet_5 ++ dktX4_quartet_6
def dkwX4_quartet_4 : List UInt8 := [42, 27, 21, 4, 28, 29, 182, 1, 207, 54, 9, 21, 8, 21, 7, 162, 0, 10, 4, 54, 6, 21, 8]
abbrev dktX4_quartet_4 : List UInt8 := dkwX4_quartet_4 ++ dktX4_quartet_5
def dkwX4_quartet_3 : List UInt8 := [54, 6, 42, 27, 28, 29, 21, 4, 182, 1, 207, 54, 7, 42, 27, 29, 28, 21, 4, 182, 1, 207, 54, 8]
abbrev dktX4_quartet_3 : List UInt8 := dkwX4_quartet_3 ++ dktX4_quartet_4
def dkwX4_quartet_2 : List UInt8 := [4, 28, 120, 128, 4, 29, 120, 128, 4, 21, 4, 120, 128, 184, 1, 78, 7, 162, 0, 5, 2, 172, 3]
abbrev dktX4_quartet_2 : List UInt8 := dkwX4_quartet_2 ++ dktX4_quartet_3
def dkwX4_quartet_1 : List UInt8 := [42, 21, 4, 182, 1, 155, 153, 0, 13, 21, 5, 3, 4, 184, 1, 90, 154, 0, 5, 2, 172, 4, 27, 120]
abbrev dktX4_quartet_1 : List UInt8 := dkwX4_quartet_1 ++ dktX4_quartet_2
def dkwX4_quartet_0 : List UInt8 := [42, 27, 182, 1, 155, 153, 0, 38, 42, 28, 182, 1, 155, 153, 0, 30, 42, 29, 182, 1, 155, 153, 0, 22]
abbrev dktX4_quartet_0 : List UInt8 := dkwX4_quartet_0 ++ dktX4_quartet_1
theorem dksX4_quartet_0 : cX4_quartet.data.toList.drop 0 = dktX4_quartet_0 := by decide +kernel
theorem dksX4_quartet_1 : cX4_quartet.data.toList.drop 24 = dktX4_quartet_1 := dk_seg dksX4_quartet_0 24 rfl rfl
theorem dksX4_quartet_2 : cX4_quartet.data.toList.drop 48 = dktX4_quartet_2 := dk_seg dksX4_quartet_1 24 rfl rfl
theorem dksX4_quartet_3 : cX4_quartet.data.toList.drop 71 = dktX4_quartet_3 := dk_seg dksX4_quartet_2 23 rfl rfl
theorem dksX4_quartet_4 : cX4_quartet.data.toList.drop 95 = dktX4_quartet_4 := dk_seg dksX4_quartet_3 24 rfl rfl
theorem dksX4_quartet_5 : cX4_quartet.data.toList.drop 118 = dktX4_quartet_5 := dk_seg dksX4_quartet_4 23 rfl rfl
theorem dksX4_quartet_6 : cX4_quartet.data.toList.drop 141 = dktX4_quartet_6 := dk_seg dksX4_quartet_5 23 rfl rfl
theorem dX4_quartet_0 : decode cX4_quartet 0 = .ok (.aload_n 0, 1) := dk_42 (dk_at dksX4_quartet_0 0 rfl rfl)
theorem dX4_quartet_1 : decode cX4_quartet 1 = .ok (.iload_n 1, 1) := dk_27 (dk_at dksX4_quartet_0 1 rfl rfl)
theorem dX4_quartet_2 : decode cX4_quartet 2 = .ok (.invokevirtual 411, 3) := dk_182 1 155 (dk_at dksX4_quartet_0 2 rfl rfl)
theorem dX4_quartet_5 : decode cX4_quartet 5 = .ok (.ifCond .eq 38, 3) := dk_153 0 38 (dk_at dksX4_quartet_0 5 rfl rfl)
theorem dX4_quartet_8 : decode cX4_quartet 8 = .ok (.aload_n 0, 1) := dk_42 (dk_at dksX4_quartet_0 8 rfl rfl)
theorem dX4_quartet_9 : decode cX4_quartet 9 = .ok (.iload_n 2, 1) := dk_28 (dk_at dksX4_quartet_0 9 rfl rfl)
theorem dX4_quartet_10 : decode cX4_quartet 10 = .ok (.invokevirtual 411, 3) := dk_182 1 155 (dk_at dksX4_quartet_0 10 rfl rfl)
theorem dX4_quartet_13 : decode cX4_quartet 13 = .ok (.ifCond .eq 30, 3) := dk_153 0 30 (dk_at dksX4_quartet_0 13 rfl rfl)
theorem dX4_quartet_16 : decode cX4_quartet 16 = .ok (.aload_n 0, 1) := dk_42 (dk_at dksX4_quartet_0 16 rfl rfl)
theorem dX4_quartet_17 : decode cX4_quartet 17 = .ok (.iload_n 3, 1) := dk_29 (dk_at dksX4_quartet_0 17 rfl rfl)
theorem dX4_quartet_18 : decode cX4_quartet 18 = .ok (.invokevirtual 411, 3) := dk_182 1 155 (dk_at dksX4_quartet_0 18 rfl rfl)
theorem dX4_quartet_21 : decode cX4_quartet 21 = .ok (.ifCond .eq 22, 3) := dk_153 0 22 (dk_at dksX4_quartet_0 21 rfl rfl)
theorem dX4_quartet_24 : decode cX4_quartet 24 = .ok (.aload_n 0, 1) := dk_42 (dk_at dksX4_quartet_1 0 rfl rfl)
theorem dX4_quartet_25 : decode cX4_quartet 25 = .ok (.iload 4, 2) := dk_21 4 (dk_at dksX4_quartet_1 1 rfl rfl)
theorem dX4_quartet_27 : decode cX4_quartet 27 = .ok (.invokevirtual 411, 3) := dk_182 1 155 (dk_at dksX4_quartet_1 3 rfl rfl)
theorem dX4_quartet_30 : decode cX4_quartet 30 = .ok (.ifCond .eq 13, 3) := dk_153 0 13 (dk_at dksX4_quartet_1 6 rfl rfl)
theorem dX4_quartet_33 : decode cX4_quartet 33 = .ok (.iload 5, 2) := dk_21 5 (dk_at dksX4_quartet_1 9 rfl rfl)
theorem dX4_quartet_35 : decode cX4_quartet 35 = .ok (.iconst 0, 1) := dk_3 (dk_at dksX4_quartet_1 11 rfl rfl)
theorem dX4_quartet_36 : decode cX4_quartet 36 = .ok (.iconst 1, 1) := dk_4 (dk_at dksX4_quartet_1 12 rfl rfl)
theorem dX4_quartet_37 : decode cX4_quartet 37 = .ok (.invokestatic 346, 3) := dk_184 1 90 (dk_at dksX4_quartet_1 13 rfl rfl)
theorem dX4_quartet_40 : decode cX4_quartet 40 = .ok (.ifCond .ne 5, 3) := dk_154 0 5 (dk_at dksX4_quartet_1 16 rfl rfl)
theorem dX4_quartet_43 : decode cX4_quartet 43 = .ok (.iconst (-1), 1) := dk_2 (dk_at dksX4_quartet_1 19 rfl rfl)
theorem dX4_quartet_44 : decode cX4_quartet 44 = .ok (.ireturn, 1) := dk_172 (dk_at dksX4_quartet_1 20 rfl rfl)
theorem dX4_quartet_45 : decode cX4_quartet 45 = .ok (.iconst 1, 1) := dk_4 (dk_at dksX4_quartet_1 21 rfl rfl)
theorem dX4_quartet_46 : decode cX4_quartet 46 = .ok (.iload_n 1, 1) := dk_27 (dk_at dksX4_quartet_1 22 rfl rfl)
theorem dX4_quartet_47 : decode cX4_quartet 47 = .ok (.ishl, 1) := dk_120 (dk_at dksX4_quartet_1 23 rfl rfl)
theorem dX4_quartet_48 : decode cX4_quartet 48 = .ok (.iconst 1, 1) := dk_4 (dk_at dksX4_quartet_2 0 rfl rfl)
theorem dX4_quartet_49 : decode cX4_quartet 49 = .ok (.iload_n 2, 1) := dk_28 (dk_at dksX4_quartet_2 1 rfl rfl)
theorem dX4_quartet_50 : decode cX4_quartet 50 = .ok (.ishl, 1) := dk_120 (dk_at dksX4_quartet_2 2 rfl rfl)
theorem dX4_quartet_51 : decode cX4_quartet 51 = .ok (.ior, 1) := dk_128 (dk_at dksX4_quartet_2 3 rfl rfl)
theorem dX4_quartet_52 : decode cX4_quartet 52 = .ok (.iconst 1, 1) := dk_4 (dk_at dksX4_quartet_2 4 rfl rfl)
theorem dX4_quartet_53 : decode cX4_quartet 53 = .ok (.iload_n 3, 1) := dk_29 (dk_at dksX4_quartet_2 5 rfl rfl)
theorem dX4_quartet_54 : decode cX4_quartet 54 = .ok (.ishl, 1) := dk_120 (dk_at dksX4_quartet_2 6 rfl rfl)
theorem dX4_quartet_55 : decode cX4_quartet 55 = .ok (.ior, 1) := dk_128 (dk_at dksX4_quartet_2 7 rfl rfl)
theorem dX4_quartet_56 : decode cX4_quartet 56 = .ok (.iconst 1, 1) := dk_4 (dk_at dksX4_quartet_2 8 rfl rfl)
theorem dX4_quartet_57 : decode cX4_quartet 57 = .ok (.iload 4, 2) := dk_21 4 (dk_at dksX4_quartet_2 9 rfl rfl)
theorem dX4_quartet_59 : decode cX4_quartet 59 = .ok (.ishl, 1) := dk_120 (dk_at dksX4_quartet_2 11 rfl rfl)
theorem dX4_quartet_60 : decode cX4_quartet 60 = .ok (.ior, 1) := dk_128 (dk_at dksX4_quartet_2 12 rfl rfl)
theorem dX4_quartet_61 : decode cX4_quartet 61 = .ok (.invokestatic 334, 3) := dk_184 1 78 (dk_at dksX4_quartet_2 13 rfl rfl)
theorem dX4_quartet_64 : decode cX4_quartet 64 = .ok (.iconst 4, 1) := dk_7 (dk_at dksX4_quartet_2 16 rfl rfl)
theorem dX4_quartet_65 : decode cX4_quartet 65 = .ok (.if_icmp .ge 5, 3) := dk_162 0 5 (dk_at dksX4_quartet_2 17 rfl rfl)
theorem dX4_quartet_68 : decode cX4_quartet 68 = .ok (.iconst (-1), 1) := dk_2 (dk_at dksX4_quartet_2 20 rfl rfl)
theorem dX4_quartet_69 : decode cX4_quartet 69 = .ok (.ireturn, 1) := dk_172 (dk_at dksX4_quartet_2 21 rfl rfl)
theorem dX4_quartet_70 : decode cX4_quartet 70 = .ok (.iconst 0, 1) := dk_3 (dk_at dksX4_quartet_2 22 rfl rfl)
theorem dX4_quartet_71 : decode cX4_quartet 71 = .ok (.istore 6, 2) := dk_54 6 (dk_at dksX4_quartet_3 0 rfl rfl)
theorem dX4_quartet_73 : decode cX4_quartet 73 = .ok (.aload_n 0, 1) := dk_42 (dk_at dksX4_quartet_3 2 rfl rfl)
theorem dX4_quartet_74 : decode cX4_quartet 74 = .ok (.iload_n 1, 1) := dk_27 (dk_at dksX4_quartet_3 3 rfl rfl)
theorem dX4_quartet_75 : decode cX4_quartet 75 = .ok (.iload_n 2, 1) := dk_28 (dk_at dksX4_quartet_3 4 rfl rfl)
theorem dX4_quartet_76 : decode cX4_quartet 76 = .ok (.iload_n 3, 1) := dk_29 (dk_at dksX4_quartet_3 5 rfl rfl)
theorem dX4_quartet_77 : decode cX4_quartet 77 = .ok (.iload 4, 2) := dk_21 4 (dk_at dksX4_quartet_3 6 rfl rfl)
theorem dX4_quartet_79 : decode cX4_quartet 79 = .ok (.invokevirtual 463, 3) := dk_182 1 207 (dk_at dksX4_quartet_3 8 rfl rfl)
theorem dX4_quartet_82 : decode cX4_quartet 82 = .ok (.istore 7, 2) := dk_54 7 (dk_at dksX4_quartet_3 11 rfl rfl)
theorem dX4_quartet_84 : decode cX4_quartet 84 = .ok (.aload_n 0, 1) := dk_42 (dk_at dksX4_quartet_3 13 rfl rfl)
theorem dX4_quartet_85 : decode cX4_quartet 85 = .ok (.iload_n 1, 1) := dk_27 (dk_at dksX4_quartet_3 14 rfl rfl)
theorem dX4_quartet_86 : decode cX4_quartet 86 = .ok (.iload_n 3, 1) := dk_29 (dk_at dksX4_quartet_3 15 rfl rfl)
theorem dX4_quartet_87 : decode cX4_quartet 87 = .ok (.iload_n 2, 1) := dk_28 (dk_at dksX4_quartet_3 16 rfl rfl)
theorem dX4_quartet_88 : decode cX4_quartet 88 = .ok (.iload 4, 2) := dk_21 4 (dk_at dksX4_quartet_3 17 rfl rfl)
theorem dX4_quartet_90 : decode cX4_quartet 90 = .ok (.invokevirtual 463, 3) := dk_182 1 207 (dk_at dksX4_quartet_3 19 rfl rfl)
theorem dX4_quartet_93 : decode cX4_quartet 93 = .ok (.istore 8, 2) := dk_54 8 (dk_at dksX4_quartet_3 22 rfl rfl)
theorem dX4_quartet_95 : decode cX4_quartet 95 = .ok (.aload_n 0, 1) := dk_42 (dk_at dksX4_quartet_4 0 rfl rfl)
theorem dX4_quartet_96 : decode cX4_quartet 96 = .ok (.iload_n 1, 1) := dk_27 (dk_at dksX4_quartet_4 1 rfl rfl)
theorem dX4_quartet_97 : decode cX4_quartet 97 = .ok (.iload 4, 2) := dk_21 4 (dk_at dksX4_quartet_4 2 rfl rfl)
theorem dX4_quartet_99 : decode cX4_quartet 99 = .ok (.iload_n 2, 1) := dk_28 (dk_at dksX4_quartet_4 4 rfl rfl)
theorem dX4_quartet_100 : decode cX4_quartet 100 = .ok (.iload_n 3, 1) := dk_29 (dk_at dksX4_quartet_4 5 rfl rfl)
theorem dX4_quartet_101 : decode cX4_quartet 101 = .ok (.invokevirtual 463, 3) := dk_182 1 207 (dk_at dksX4_quartet_4 6 rfl rfl)
theorem dX4_quartet_104 : decode cX4_quartet 104 = .ok (.istore 9, 2) := dk_54 9 (dk_at dksX4_quartet_4 9 rfl rfl)
theorem dX4_quartet_106 : decode cX4_quartet 106 = .ok (.iload 8, 2) := dk_21 8 (dk_at dksX4_quartet_4 11 rfl rfl)
theorem dX4_quartet_108 : decode cX4_quartet 108 = .ok (.iload 7, 2) := dk_21 7 (dk_at dksX4_quartet_4 13 rfl rfl)
theorem dX4_quartet_110 : decode cX4_quartet 110 = .ok (.if_icmp .ge 10, 3) := dk_162 0 10 (dk_at dksX4_quartet_4 15 rfl rfl)
theorem dX4_quartet_113 : decode cX4_quartet 113 = .ok (.iconst 1, 1) := dk_4 (dk_at dksX4_quartet_4 18 rfl rfl)
theorem dX4_quartet_114 : decode cX4_quartet 114 = .ok (.istore 6, 2) := dk_54 6 (dk_at dksX4_quartet_4 19 rfl rfl)
theorem dX4_quartet_116 : decode cX4_quartet 116 = .ok (.iload 8, 2) := dk_21 8 (dk_at dksX4_quartet_4 21 rfl rfl)
theorem dX4_quartet_118 : decode cX4_quartet 118 = .ok (.istore 7, 2) := dk_54 7 (dk_at dksX4_quartet_5 0 rfl rfl)
theorem dX4_quartet_120 : decode cX4_quartet 120 = .ok (.iload 9, 2) := dk_21 9 (dk_at dksX4_quartet_5 2 rfl rfl)
theorem dX4_quartet_122 : decode cX4_quartet 122 = .ok (.iload 7, 2) := dk_21 7 (dk_at dksX4_quartet_5 4 rfl rfl)
theorem dX4_quartet_124 : decode cX4_quartet 124 = .ok (.if_icmp .ge 10, 3) := dk_162 0 10 (dk_at dksX4_quartet_5 6 rfl rfl)
theorem dX4_quartet_127 : decode cX4_quartet 127 = .ok (.iconst 2, 1) := dk_5 (dk_at dksX4_quartet_5 9 rfl rfl)
theorem dX4_quartet_128 : decode cX4_quartet 128 = .ok (.istore 6, 2) := dk_54 6 (dk_at dksX4_quartet_5 10 rfl rfl)
theorem dX4_quartet_130 : decode cX4_quartet 130 = .ok (.iload 9, 2) := dk_21 9 (dk_at dksX4_quartet_5 12 rfl rfl)
theorem dX4_quartet_132 : decode cX4_quartet 132 = .ok (.istore 7, 2) := dk_54 7 (dk_at dksX4_quartet_5 14 rfl rfl)
theorem dX4_quartet_134 : decode cX4_quartet 134 = .ok (.iload 5, 2) := dk_21 5 (dk_at dksX4_quartet_5 16 rfl rfl)
theorem dX4_quartet_136 : decode cX4_quartet 136 = .ok (.ifCond .ne 8, 3) := dk_154 0 8 (dk_at dksX4_quartet_5 18 rfl rfl)
theorem dX4_quartet_139 : decode cX4_quartet 139 = .ok (.iload 6, 2) := dk_21 6 (dk_at dksX4_quartet_5 21 rfl rfl)
theorem dX4_quartet_141 : decode cX4_quartet 141 = .ok (.goto 5, 3) := dk_167 0 5 (dk_at dksX4_quartet_6 0 rfl rfl)
theorem dX4_quartet_144 : decode cX4_quartet 144 = .ok (.iload 7, 2) := dk_21 7 (dk_at dksX4_quartet_6 3 rfl rfl)
theorem dX4_quartet_146 : decode cX4_quartet 146 = .ok (.ireturn, 1) := dk_172 (dk_at dksX4_quartet_6 5 rfl rfl)
abbrev cX4_changesOf : ByteArray := prog_22_method_105_code
def yX4_changesOf : MethodName := ⟨RX4, "changesOf", "(IIII)I"⟩
def dkwX4_changesOf_5 : List UInt8 := [21, 8, 159, 0, 7, 5, 167, 0, 4, 4, 96, 54, 5, 132, 6, 1, 167, 255, 130, 21, 5, 172]
abbrev dktX4_changesOf_5 : List UInt8 := dkwX4_changesOf_5 ++ []
def dkwX4_changesOf_4 : List UInt8 := [21, 11, 153, 0, 9, 21, 11, 7, 160, 0, 7, 3, 167, 0, 21, 21, 11, 5, 160, 0, 14, 21, 7]
abbrev dktX4_changesOf_4 : List UInt8 := dkwX4_changesOf_4 ++ dktX4_changesOf_5
def dkwX4_changesOf_3 : List UInt8 := [46, 21, 6, 122, 4, 126, 54, 10, 21, 7, 21, 8, 96, 21, 9, 96, 21, 10, 96, 54, 11, 21, 5]
abbrev dktX4_changesOf_3 : List UInt8 := dkwX4_changesOf_3 ++ dktX4_changesOf_4
def dkwX4_changesOf_2 : List UInt8 := [180, 0, 85, 16, 16, 29, 96, 46, 21, 6, 122, 4, 126, 54, 9, 42, 180, 0, 85, 16, 16, 21, 4, 96]
abbrev dktX4_changesOf_2 : List UInt8 := dkwX4_changesOf_2 ++ dktX4_changesOf_3
def dkwX4_changesOf_1 : List UInt8 := [122, 4, 126, 54, 7, 42, 180, 0, 85, 16, 16, 28, 96, 46, 21, 6, 122, 4, 126, 54, 8, 42]
abbrev dktX4_changesOf_1 : List UInt8 := dkwX4_changesOf_1 ++ dktX4_changesOf_2
def dkwX4_changesOf_0 : List UInt8 := [3, 54, 5, 3, 54, 6, 21, 6, 16, 6, 162, 0, 125, 42, 180, 0, 85, 16, 16, 27, 96, 46, 21, 6]
abbrev dktX4_changesOf_0 : List UInt8 := dkwX4_changesOf_0 ++ dktX4_changesOf_1
theorem dksX4_changesOf_0 : cX4_changesOf.data.toList.drop 0 = dktX4_changesOf_0 := by decide +kernel
theorem dksX4_changesOf_1 : cX4_changesOf.data.toList.drop 24 = dktX4_changesOf_1 := dk_seg dksX4_changesOf_0 24 rfl rfl
theorem dksX4_changesOf_2 : cX4_changesOf.data.toList.drop 46 = dktX4_changesOf_2 := dk_seg dksX4_changesOf_1 22 rfl rfl
theorem dksX4_changesOf_3 : cX4_changesOf.data.toList.drop 70 = dktX4_changesOf_3 := dk_seg dksX4_changesOf_2 24 rfl rfl
theorem dksX4_changesOf_4 : cX4_changesOf.data.toList.drop 93 = dktX4_changesOf_4 := dk_seg dksX4_changesOf_3 23 rfl rfl
theorem dksX4_changesOf_5 : cX4_changesOf.data.toList.drop 116 = dktX4_changesOf_5 := dk_seg dksX4_changesOf_4 23 rfl rfl
theorem dX4_changesOf_0 : decode cX4_changesOf 0 = .ok (.iconst 0, 1) := dk_3 (dk_at dksX4_changesOf_0 0 rfl rfl)
theorem dX4_changesOf_1 : decode cX4_changesOf 1 = .ok (.istore 5, 2) := dk_54 5 (dk_at dksX4_changesOf_0 1 rfl rfl)
theorem dX4_changesOf_3 : decode cX4_changesOf 3 = .ok (.iconst 0, 1) := dk_3 (dk_at dksX4_changesOf_0 3 rfl rfl)
theorem dX4_changesOf_4 : decode cX4_changesOf 4 = .ok (.istore 6, 2) := dk_54 6 (dk_at dksX4_changesOf_0 4 rfl rfl)
theorem dX4_changesOf_6 : decode cX4_changesOf 6 = .ok (.iload 6, 2) := dk_21 6 (dk_at dksX4_changesOf_0 6 rfl rfl)
theorem dX4_changesOf_8 : decode cX4_changesOf 8 = .ok (.bipush 6, 2) := dk_16 6 (dk_at dksX4_changesOf_0 8 rfl rfl)
theorem dX4_changesOf_10 : decode cX4_changesOf 10 = .ok (.if_icmp .ge 125, 3) := dk_162 0 125 (dk_at dksX4_changesOf_0 10 rfl rfl)
theorem dX4_changesOf_13 : decode cX4_changesOf 13 = .ok (.aload_n 0, 1) := dk_42 (dk_at dksX4_changesOf_0 13 rfl rfl)
theorem dX4_changesOf_14 : decode cX4_changesOf 14 = .ok (.getfield 85, 3) := dk_180 0 85 (dk_at dksX4_changesOf_0 14 rfl rfl)
theorem dX4_changesOf_17 : decode cX4_changesOf 17 = .ok (.bipush 16, 2) := dk_16 16 (dk_at dksX4_changesOf_0 17 rfl rfl)
theorem dX4_changesOf_19 : decode cX4_changesOf 19 = .ok (.iload_n 1, 1) := dk_27 (dk_at dksX4_changesOf_0 19 rfl rfl)
theorem dX4_changesOf_20 : decode cX4_changesOf 20 = .ok (.iadd, 1) := dk_96 (dk_at dksX4_changesOf_0 20 rfl rfl)
theorem dX4_changesOf_21 : decode cX4_changesOf 21 = .ok (.iaload, 1) := dk_46 (dk_at dksX4_changesOf_0 21 rfl rfl)
theorem dX4_changesOf_22 : decode cX4_changesOf 22 = .ok (.iload 6, 2) := dk_21 6 (dk_at dksX4_changesOf_0 22 rfl rfl)
theorem dX4_changesOf_24 : decode cX4_changesOf 24 = .ok (.ishr, 1) := dk_122 (dk_at dksX4_changesOf_1 0 rfl rfl)
theorem dX4_changesOf_25 : decode cX4_changesOf 25 = .ok (.iconst 1, 1) := dk_4 (dk_at dksX4_changesOf_1 1 rfl rfl)
theorem dX4_changesOf_26 : decode cX4_changesOf 26 = .ok (.iand, 1) := dk_126 (dk_at dksX4_changesOf_1 2 rfl rfl)
theorem dX4_changesOf_27 : decode cX4_changesOf 27 = .ok (.istore 7, 2) := dk_54 7 (dk_at dksX4_changesOf_1 3 rfl rfl)
theorem dX4_changesOf_29 : decode cX4_changesOf 29 = .ok (.aload_n 0, 1) := dk_42 (dk_at dksX4_changesOf_1 5 rfl rfl)
theorem dX4_changesOf_30 : decode cX4_changesOf 30 = .ok (.getfield 85, 3) := dk_180 0 85 (dk_at dksX4_changesOf_1 6 rfl rfl)
theorem dX4_changesOf_33 : decode cX4_changesOf 33 = .ok (.bipush 16, 2) := dk_16 16 (dk_at dksX4_changesOf_1 9 rfl rfl)
theorem dX4_changesOf_35 : decode cX4_changesOf 35 = .ok (.iload_n 2, 1) := dk_28 (dk_at dksX4_changesOf_1 11 rfl rfl)
theorem dX4_changesOf_36 : decode cX4_changesOf 36 = .ok (.iadd, 1) := dk_96 (dk_at dksX4_changesOf_1 12 rfl rfl)
theorem dX4_changesOf_37 : decode cX4_changesOf 37 = .ok (.iaload, 1) := dk_46 (dk_at dksX4_changesOf_1 13 rfl rfl)
theorem dX4_changesOf_38 : decode cX4_changesOf 38 = .ok (.iload 6, 2) := dk_21 6 (dk_at dksX4_changesOf_1 14 rfl rfl)
theorem dX4_changesOf_40 : decode cX4_changesOf 40 = .ok (.ishr, 1) := dk_122 (dk_at dksX4_changesOf_1 16 rfl rfl)
theorem dX4_changesOf_41 : decode cX4_changesOf 41 = .ok (.iconst 1, 1) := dk_4 (dk_at dksX4_changesOf_1 17 rfl rfl)
theorem dX4_changesOf_42 : decode cX4_changesOf 42 = .ok (.iand, 1) := dk_126 (dk_at dksX4_changesOf_1 18 rfl rfl)
theorem dX4_changesOf_43 : decode cX4_changesOf 43 = .ok (.istore 8, 2) := dk_54 8 (dk_at dksX4_changesOf_1 19 rfl rfl)
theorem dX4_changesOf_45 : decode cX4_changesOf 45 = .ok (.aload_n 0, 1) := dk_42 (dk_at dksX4_changesOf_1 21 rfl rfl)
theorem dX4_changesOf_46 : decode cX4_changesOf 46 = .ok (.getfield 85, 3) := dk_180 0 85 (dk_at dksX4_changesOf_2 0 rfl rfl)
theorem dX4_changesOf_49 : decode cX4_changesOf 49 = .ok (.bipush 16, 2) := dk_16 16 (dk_at dksX4_changesOf_2 3 rfl rfl)
theorem dX4_changesOf_51 : decode cX4_changesOf 51 = .ok (.iload_n 3, 1) := dk_29 (dk_at dksX4_changesOf_2 5 rfl rfl)
theorem dX4_changesOf_52 : decode cX4_changesOf 52 = .ok (.iadd, 1) := dk_96 (dk_at dksX4_changesOf_2 6 rfl rfl)
theorem dX4_changesOf_53 : decode cX4_changesOf 53 = .ok (.iaload, 1) := dk_46 (dk_at dksX4_changesOf_2 7 rfl rfl)
theorem dX4_changesOf_54 : decode cX4_changesOf 54 = .ok (.iload 6, 2) := dk_21 6 (dk_at dksX4_changesOf_2 8 rfl rfl)
theorem dX4_changesOf_56 : decode cX4_changesOf 56 = .ok (.ishr, 1) := dk_122 (dk_at dksX4_changesOf_2 10 rfl rfl)
theorem dX4_changesOf_57 : decode cX4_changesOf 57 = .ok (.iconst 1, 1) := dk_4 (dk_at dksX4_changesOf_2 11 rfl rfl)
theorem dX4_changesOf_58 : decode cX4_changesOf 58 = .ok (.iand, 1) := dk_126 (dk_at dksX4_changesOf_2 12 rfl rfl)
theorem dX4_changesOf_59 : decode cX4_changesOf 59 = .ok (.istore 9, 2) := dk_54 9 (dk_at dksX4_changesOf_2 13 rfl rfl)
theorem dX4_changesOf_61 : decode cX4_changesOf 61 = .ok (.aload_n 0, 1) := dk_42 (dk_at dksX4_changesOf_2 15 rfl rfl)
theorem dX4_changesOf_62 : decode cX4_changesOf 62 = .ok (.getfield 85, 3) := dk_180 0 85 (dk_at dksX4_changesOf_2 16 rfl rfl)
theorem dX4_changesOf_65 : decode cX4_changesOf 65 = .ok (.bipush 16, 2) := dk_16 16 (dk_at dksX4_changesOf_2 19 rfl rfl)
theorem dX4_changesOf_67 : decode cX4_changesOf 67 = .ok (.iload 4, 2) := dk_21 4 (dk_at dksX4_changesOf_2 21 rfl rfl)
theorem dX4_changesOf_69 : decode cX4_changesOf 69 = .ok (.iadd, 1) := dk_96 (dk_at dksX4_changesOf_2 23 rfl rfl)
theorem dX4_changesOf_70 : decode cX4_changesOf 70 = .ok (.iaload, 1) := dk_46 (dk_at dksX4_changesOf_3 0 rfl rfl)
theorem dX4_changesOf_71 : decode cX4_changesOf 71 = .ok (.iload 6, 2) := dk_21 6 (dk_at dksX4_changesOf_3 1 rfl rfl)
theorem dX4_changesOf_73 : decode cX4_changesOf 73 = .ok (.ishr, 1) := dk_122 (dk_at dksX4_changesOf_3 3 rfl rfl)
theorem dX4_changesOf_74 : decode cX4_changesOf 74 = .ok (.iconst 1, 1) := dk_4 (dk_at dksX4_changesOf_3 4 rfl rfl)
theorem dX4_changesOf_75 : decode cX4_changesOf 75 = .ok (.iand, 1) := dk_126 (dk_at dksX4_changesOf_3 5 rfl rfl)
theorem dX4_changesOf_76 : decode cX4_changesOf 76 = .ok (.istore 10, 2) := dk_54 10 (dk_at dksX4_changesOf_3 6 rfl rfl)
theorem dX4_changesOf_78 : decode cX4_changesOf 78 = .ok (.iload 7, 2) := dk_21 7 (dk_at dksX4_changesOf_3 8 rfl rfl)
theorem dX4_changesOf_80 : decode cX4_changesOf 80 = .ok (.iload 8, 2) := dk_21 8 (dk_at dksX4_changesOf_3 10 rfl rfl)
theorem dX4_changesOf_82 : decode cX4_changesOf 82 = .ok (.iadd, 1) := dk_96 (dk_at dksX4_changesOf_3 12 rfl rfl)
theorem dX4_changesOf_83 : decode cX4_changesOf 83 = .ok (.iload 9, 2) := dk_21 9 (dk_at dksX4_changesOf_3 13 rfl rfl)
theorem dX4_changesOf_85 : decode cX4_changesOf 85 = .ok (.iadd, 1) := dk_96 (dk_at dksX4_changesOf_3 15 rfl rfl)
theorem dX4_changesOf_86 : decode cX4_changesOf 86 = .ok (.iload 10, 2) := dk_21 10 (dk_at dksX4_changesOf_3 16 rfl rfl)
theorem dX4_changesOf_88 : decode cX4_changesOf 88 = .ok (.iadd, 1) := dk_96 (dk_at dksX4_changesOf_3 18 rfl rfl)
theorem dX4_changesOf_89 : decode cX4_changesOf 89 = .ok (.istore 11, 2) := dk_54 11 (dk_at dksX4_changesOf_3 19 rfl rfl)
theorem dX4_changesOf_91 : decode cX4_changesOf 91 = .ok (.iload 5, 2) := dk_21 5 (dk_at dksX4_changesOf_3 21 rfl rfl)
theorem dX4_changesOf_93 : decode cX4_changesOf 93 = .ok (.iload 11, 2) := dk_21 11 (dk_at dksX4_changesOf_4 0 rfl rfl)
theorem dX4_changesOf_95 : decode cX4_changesOf 95 = .ok (.ifCond .eq 9, 3) := dk_153 0 9 (dk_at dksX4_changesOf_4 2 rfl rfl)
theorem dX4_changesOf_98 : decode cX4_changesOf 98 = .ok (.iload 11, 2) := dk_21 11 (dk_at dksX4_changesOf_4 5 rfl rfl)
theorem dX4_changesOf_100 : decode cX4_changesOf 100 = .ok (.iconst 4, 1) := dk_7 (dk_at dksX4_changesOf_4 7 rfl rfl)
theorem dX4_changesOf_101 : decode cX4_changesOf 101 = .ok (.if_icmp .ne 7, 3) := dk_160 0 7 (dk_at dksX4_changesOf_4 8 rfl rfl)
theorem dX4_changesOf_104 : decode cX4_changesOf 104 = .ok (.iconst 0, 1) := dk_3 (dk_at dksX4_changesOf_4 11 rfl rfl)
theorem dX4_changesOf_105 : decode cX4_changesOf 105 = .ok (.goto 21, 3) := dk_167 0 21 (dk_at dksX4_changesOf_4 12 rfl rfl)
theorem dX4_changesOf_108 : decode cX4_changesOf 108 = .ok (.iload 11, 2) := dk_21 11 (dk_at dksX4_changesOf_4 15 rfl rfl)
theorem dX4_changesOf_110 : decode cX4_changesOf 110 = .ok (.iconst 2, 1) := dk_5 (dk_at dksX4_changesOf_4 17 rfl rfl)
theorem dX4_changesOf_111 : decode cX4_changesOf 111 = .ok (.if_icmp .ne 14, 3) := dk_160 0 14 (dk_at dksX4_changesOf_4 18 rfl rfl)
theorem dX4_changesOf_114 : decode cX4_changesOf 114 = .ok (.iload 7, 2) := dk_21 7 (dk_at dksX4_changesOf_4 21 rfl rfl)
theorem dX4_changesOf_116 : decode cX4_changesOf 116 = .ok (.iload 8, 2) := dk_21 8 (dk_at dksX4_changesOf_5 0 rfl rfl)
theorem dX4_changesOf_118 : decode cX4_changesOf 118 = .ok (.if_icmp .eq 7, 3) := dk_159 0 7 (dk_at dksX4_changesOf_5 2 rfl rfl)
theorem dX4_changesOf_121 : decode cX4_changesOf 121 = .ok (.iconst 2, 1) := dk_5 (dk_at dksX4_changesOf_5 5 rfl rfl)
theorem dX4_changesOf_122 : decode cX4_changesOf 122 = .ok (.goto 4, 3) := dk_167 0 4 (dk_at dksX4_changesOf_5 6 rfl rfl)
theorem dX4_changesOf_125 : decode cX4_changesOf 125 = .ok (.iconst 1, 1) := dk_4 (dk_at dksX4_changesOf_5 9 rfl rfl)
theorem dX4_changesOf_126 : decode cX4_changesOf 126 = .ok (.iadd, 1) := dk_96 (dk_at dksX4_changesOf_5 10 rfl rfl)
theorem dX4_changesOf_127 : decode cX4_changesOf 127 = .ok (.istore 5, 2) := dk_54 5 (dk_at dksX4_changesOf_5 11 rfl rfl)
theorem dX4_changesOf_129 : decode cX4_changesOf 129 = .ok (.iinc 6 1, 3) := dk_132 6 1 (dk_at dksX4_changesOf_5 13 rfl rfl)
theorem dX4_changesOf_132 : decode cX4_changesOf 132 = .ok (.goto (-126), 3) := dk_167 255 130 (dk_at dksX4_changesOf_5 16 rfl rfl)
theorem dX4_changesOf_135 : decode cX4_changesOf 135 = .ok (.iload 5, 2) := dk_21 5 (dk_at dksX4_changesOf_5 19 rfl rfl)
theorem dX4_changesOf_137 : decode cX4_changesOf 137 = .ok (.ireturn, 1) := dk_172 (dk_at dksX4_changesOf_5 21 rfl rfl)
abbrev cX4_span : ByteArray := prog_22_method_107_code
def yX4_span : MethodName := ⟨RX4, "span", "()I"⟩
def dkwX4_span_6 : List UInt8 := [167, 255, 139, 29, 172]
abbrev dktX4_span_6 : List UInt8 := dkwX4_span_6 ++ []
def dkwX4_span_5 : List UInt8 := [167, 255, 178, 28, 4, 21, 4, 120, 128, 61, 27, 4, 21, 4, 120, 2, 130, 126, 60, 29, 21, 5, 96, 62]
abbrev dktX4_span_5 : List UInt8 := dkwX4_span_5 ++ dktX4_span_6
def dkwX4_span_4 : List UInt8 := [167, 0, 20, 21, 8, 54, 4, 16, 6, 42, 21, 7, 21, 8, 182, 1, 159, 100, 54, 5, 132, 6, 1]
abbrev dktX4_span_4 : List UInt8 := dkwX4_span_4 ++ dktX4_span_5
def dkwX4_span_3 : List UInt8 := [184, 0, 250, 153, 0, 39, 16, 6, 42, 21, 7, 21, 8, 182, 1, 159, 100, 21, 5, 161, 0, 6]
abbrev dktX4_span_3 : List UInt8 := dkwX4_span_3 ++ dktX4_span_4
def dkwX4_span_2 : List UInt8 := [16, 8, 108, 54, 7, 21, 6, 16, 8, 112, 54, 8, 28, 21, 7, 184, 0, 250, 153, 0, 48, 27, 21, 8]
abbrev dktX4_span_2 : List UInt8 := dkwX4_span_2 ++ dktX4_span_3
def dkwX4_span_1 : List UInt8 := [27, 153, 0, 119, 2, 54, 4, 17, 3, 232, 54, 5, 3, 54, 6, 21, 6, 16, 64, 162, 0, 77, 21, 6]
abbrev dktX4_span_1 : List UInt8 := dkwX4_span_1 ++ dktX4_span_2
def dkwX4_span_0 : List UInt8 := [42, 182, 1, 75, 60, 27, 154, 0, 5, 3, 172, 27, 27, 116, 126, 61, 27, 28, 2, 130, 126, 60, 3, 62]
abbrev dktX4_span_0 : List UInt8 := dkwX4_span_0 ++ dktX4_span_1
theorem dksX4_span_0 : cX4_span.data.toList.drop 0 = dktX4_span_0 := by decide +kernel
theorem dksX4_span_1 : cX4_span.data.toList.drop 24 = dktX4_span_1 := dk_seg dksX4_span_0 24 rfl rfl
theorem dksX4_span_2 : cX4_span.data.toList.drop 48 = dktX4_span_2 := dk_seg dksX4_span_1 24 rfl rfl
theorem dksX4_span_3 : cX4_span.data.toList.drop 72 = dktX4_span_3 := dk_seg dksX4_span_2 24 rfl rfl
theorem dksX4_span_4 : cX4_span.data.toList.drop 94 = dktX4_span_4 := dk_seg dksX4_span_3 22 rfl rfl
theorem dksX4_span_5 : cX4_span.data.toList.drop 117 = dktX4_span_5 := dk_seg dksX4_span_4 23 rfl rfl
theorem dksX4_span_6 : cX4_span.data.toList.drop 141 = dktX4_span_6 := dk_seg dksX4_span_5 24 rfl rfl
theorem dX4_span_0 : decode cX4_span 0 = .ok (.aload_n 0, 1) := dk_42 (dk_at dksX4_span_0 0 rfl rfl)
theorem dX4_span_1 : decode cX4_span 1 = .ok (.invokevirtual 331, 3) := dk_182 1 75 (dk_at dksX4_span_0 1 rfl rfl)
theorem dX4_span_4 : decode cX4_span 4 = .ok (.istore_n 1, 1) := dk_60 (dk_at dksX4_span_0 4 rfl rfl)
theorem dX4_span_5 : decode cX4_span 5 = .ok (.iload_n 1, 1) := dk_27 (dk_at dksX4_span_0 5 rfl rfl)
theorem dX4_span_6 : decode cX4_span 6 = .ok (.ifCond .ne 5, 3) := dk_154 0 5 (dk_at dksX4_span_0 6 rfl rfl)
theorem dX4_span_9 : decode cX4_span 9 = .ok (.iconst 0, 1) := dk_3 (dk_at dksX4_span_0 9 rfl rfl)
theorem dX4_span_10 : decode cX4_span 10 = .ok (.ireturn, 1) := dk_172 (dk_at dksX4_span_0 10 rfl rfl)
theorem dX4_span_11 : decode cX4_span 11 = .ok (.iload_n 1, 1) := dk_27 (dk_at dksX4_span_0 11 rfl rfl)
theorem dX4_span_12 : decode cX4_span 12 = .ok (.iload_n 1, 1) := dk_27 (dk_at dksX4_span_0 12 rfl rfl)
theorem dX4_span_13 : decode cX4_span 13 = .ok (.ineg, 1) := dk_116 (dk_at dksX4_span_0 13 rfl rfl)
theorem dX4_span_14 : decode cX4_span 14 = .ok (.iand, 1) := dk_126 (dk_at dksX4_span_0 14 rfl rfl)
theorem dX4_span_15 : decode cX4_span 15 = .ok (.istore_n 2, 1) := dk_61 (dk_at dksX4_span_0 15 rfl rfl)
theorem dX4_span_16 : decode cX4_span 16 = .ok (.iload_n 1, 1) := dk_27 (dk_at dksX4_span_0 16 rfl rfl)
theorem dX4_span_17 : decode cX4_span 17 = .ok (.iload_n 2, 1) := dk_28 (dk_at dksX4_span_0 17 rfl rfl)
theorem dX4_span_18 : decode cX4_span 18 = .ok (.iconst (-1), 1) := dk_2 (dk_at dksX4_span_0 18 rfl rfl)
theorem dX4_span_19 : decode cX4_span 19 = .ok (.ixor, 1) := dk_130 (dk_at dksX4_span_0 19 rfl rfl)
theorem dX4_span_20 : decode cX4_span 20 = .ok (.iand, 1) := dk_126 (dk_at dksX4_span_0 20 rfl rfl)
theorem dX4_span_21 : decode cX4_span 21 = .ok (.istore_n 1, 1) := dk_60 (dk_at dksX4_span_0 21 rfl rfl)
theorem dX4_span_22 : decode cX4_span 22 = .ok (.iconst 0, 1) := dk_3 (dk_at dksX4_span_0 22 rfl rfl)
theorem dX4_span_23 : decode cX4_span 23 = .ok (.istore_n 3, 1) := dk_62 (dk_at dksX4_span_0 23 rfl rfl)
theorem dX4_span_24 : decode cX4_span 24 = .ok (.iload_n 1, 1) := dk_27 (dk_at dksX4_span_1 0 rfl rfl)
theorem dX4_span_25 : decode cX4_span 25 = .ok (.ifCond .eq 119, 3) := dk_153 0 119 (dk_at dksX4_span_1 1 rfl rfl)
theorem dX4_span_28 : decode cX4_span 28 = .ok (.iconst (-1), 1) := dk_2 (dk_at dksX4_span_1 4 rfl rfl)
theorem dX4_span_29 : decode cX4_span 29 = .ok (.istore 4, 2) := dk_54 4 (dk_at dksX4_span_1 5 rfl rfl)
theorem dX4_span_31 : decode cX4_span 31 = .ok (.sipush 1000, 3) := dk_17 3 232 (dk_at dksX4_span_1 7 rfl rfl)
theorem dX4_span_34 : decode cX4_span 34 = .ok (.istore 5, 2) := dk_54 5 (dk_at dksX4_span_1 10 rfl rfl)
theorem dX4_span_36 : decode cX4_span 36 = .ok (.iconst 0, 1) := dk_3 (dk_at dksX4_span_1 12 rfl rfl)
theorem dX4_span_37 : decode cX4_span 37 = .ok (.istore 6, 2) := dk_54 6 (dk_at dksX4_span_1 13 rfl rfl)
theorem dX4_span_39 : decode cX4_span 39 = .ok (.iload 6, 2) := dk_21 6 (dk_at dksX4_span_1 15 rfl rfl)
theorem dX4_span_41 : decode cX4_span 41 = .ok (.bipush 64, 2) := dk_16 64 (dk_at dksX4_span_1 17 rfl rfl)
theorem dX4_span_43 : decode cX4_span 43 = .ok (.if_icmp .ge 77, 3) := dk_162 0 77 (dk_at dksX4_span_1 19 rfl rfl)
theorem dX4_span_46 : decode cX4_span 46 = .ok (.iload 6, 2) := dk_21 6 (dk_at dksX4_span_1 22 rfl rfl)
theorem dX4_span_48 : decode cX4_span 48 = .ok (.bipush 8, 2) := dk_16 8 (dk_at dksX4_span_2 0 rfl rfl)
theorem dX4_span_50 : decode cX4_span 50 = .ok (.idiv, 1) := dk_108 (dk_at dksX4_span_2 2 rfl rfl)
theorem dX4_span_51 : decode cX4_span 51 = .ok (.istore 7, 2) := dk_54 7 (dk_at dksX4_span_2 3 rfl rfl)
theorem dX4_span_53 : decode cX4_span 53 = .ok (.iload 6, 2) := dk_21 6 (dk_at dksX4_span_2 5 rfl rfl)
theorem dX4_span_55 : decode cX4_span 55 = .ok (.bipush 8, 2) := dk_16 8 (dk_at dksX4_span_2 7 rfl rfl)
theorem dX4_span_57 : decode cX4_span 57 = .ok (.irem, 1) := dk_112 (dk_at dksX4_span_2 9 rfl rfl)
theorem dX4_span_58 : decode cX4_span 58 = .ok (.istore 8, 2) := dk_54 8 (dk_at dksX4_span_2 10 rfl rfl)
theorem dX4_span_60 : decode cX4_span 60 = .ok (.iload_n 2, 1) := dk_28 (dk_at dksX4_span_2 12 rfl rfl)
theorem dX4_span_61 : decode cX4_span 61 = .ok (.iload 7, 2) := dk_21 7 (dk_at dksX4_span_2 13 rfl rfl)
theorem dX4_span_63 : decode cX4_span 63 = .ok (.invokestatic 250, 3) := dk_184 0 250 (dk_at dksX4_span_2 15 rfl rfl)
theorem dX4_span_66 : decode cX4_span 66 = .ok (.ifCond .eq 48, 3) := dk_153 0 48 (dk_at dksX4_span_2 18 rfl rfl)
theorem dX4_span_69 : decode cX4_span 69 = .ok (.iload_n 1, 1) := dk_27 (dk_at dksX4_span_2 21 rfl rfl)
theorem dX4_span_70 : decode cX4_span 70 = .ok (.iload 8, 2) := dk_21 8 (dk_at dksX4_span_2 22 rfl rfl)
theorem dX4_span_72 : decode cX4_span 72 = .ok (.invokestatic 250, 3) := dk_184 0 250 (dk_at dksX4_span_3 0 rfl rfl)
theorem dX4_span_75 : decode cX4_span 75 = .ok (.ifCond .eq 39, 3) := dk_153 0 39 (dk_at dksX4_span_3 3 rfl rfl)
theorem dX4_span_78 : decode cX4_span 78 = .ok (.bipush 6, 2) := dk_16 6 (dk_at dksX4_span_3 6 rfl rfl)
theorem dX4_span_80 : decode cX4_span 80 = .ok (.aload_n 0, 1) := dk_42 (dk_at dksX4_span_3 8 rfl rfl)
theorem dX4_span_81 : decode cX4_span 81 = .ok (.iload 7, 2) := dk_21 7 (dk_at dksX4_span_3 9 rfl rfl)
theorem dX4_span_83 : decode cX4_span 83 = .ok (.iload 8, 2) := dk_21 8 (dk_at dksX4_span_3 11 rfl rfl)
theorem dX4_span_85 : decode cX4_span 85 = .ok (.invokevirtual 415, 3) := dk_182 1 159 (dk_at dksX4_span_3 13 rfl rfl)
theorem dX4_span_88 : decode cX4_span 88 = .ok (.isub, 1) := dk_100 (dk_at dksX4_span_3 16 rfl rfl)
theorem dX4_span_89 : decode cX4_span 89 = .ok (.iload 5, 2) := dk_21 5 (dk_at dksX4_span_3 17 rfl rfl)
theorem dX4_span_91 : decode cX4_span 91 = .ok (.if_icmp .lt 6, 3) := dk_161 0 6 (dk_at dksX4_span_3 19 rfl rfl)
theorem dX4_span_94 : decode cX4_span 94 = .ok (.goto 20, 3) := dk_167 0 20 (dk_at dksX4_span_4 0 rfl rfl)
theorem dX4_span_97 : decode cX4_span 97 = .ok (.iload 8, 2) := dk_21 8 (dk_at dksX4_span_4 3 rfl rfl)
theorem dX4_span_99 : decode cX4_span 99 = .ok (.istore 4, 2) := dk_54 4 (dk_at dksX4_span_4 5 rfl rfl)
theorem dX4_span_101 : decode cX4_span 101 = .ok (.bipush 6, 2) := dk_16 6 (dk_at dksX4_span_4 7 rfl rfl)
theorem dX4_span_103 : decode cX4_span 103 = .ok (.aload_n 0, 1) := dk_42 (dk_at dksX4_span_4 9 rfl rfl)
theorem dX4_span_104 : decode cX4_span 104 = .ok (.iload 7, 2) := dk_21 7 (dk_at dksX4_span_4 10 rfl rfl)
theorem dX4_span_106 : decode cX4_span 106 = .ok (.iload 8, 2) := dk_21 8 (dk_at dksX4_span_4 12 rfl rfl)
theorem dX4_span_108 : decode cX4_span 108 = .ok (.invokevirtual 415, 3) := dk_182 1 159 (dk_at dksX4_span_4 14 rfl rfl)
theorem dX4_span_111 : decode cX4_span 111 = .ok (.isub, 1) := dk_100 (dk_at dksX4_span_4 17 rfl rfl)
theorem dX4_span_112 : decode cX4_span 112 = .ok (.istore 5, 2) := dk_54 5 (dk_at dksX4_span_4 18 rfl rfl)
theorem dX4_span_114 : decode cX4_span 114 = .ok (.iinc 6 1, 3) := dk_132 6 1 (dk_at dksX4_span_4 20 rfl rfl)
theorem dX4_span_117 : decode cX4_span 117 = .ok (.goto (-78), 3) := dk_167 255 178 (dk_at dksX4_span_5 0 rfl rfl)
theorem dX4_span_120 : decode cX4_span 120 = .ok (.iload_n 2, 1) := dk_28 (dk_at dksX4_span_5 3 rfl rfl)
theorem dX4_span_121 : decode cX4_span 121 = .ok (.iconst 1, 1) := dk_4 (dk_at dksX4_span_5 4 rfl rfl)
theorem dX4_span_122 : decode cX4_span 122 = .ok (.iload 4, 2) := dk_21 4 (dk_at dksX4_span_5 5 rfl rfl)
theorem dX4_span_124 : decode cX4_span 124 = .ok (.ishl, 1) := dk_120 (dk_at dksX4_span_5 7 rfl rfl)
theorem dX4_span_125 : decode cX4_span 125 = .ok (.ior, 1) := dk_128 (dk_at dksX4_span_5 8 rfl rfl)
theorem dX4_span_126 : decode cX4_span 126 = .ok (.istore_n 2, 1) := dk_61 (dk_at dksX4_span_5 9 rfl rfl)
theorem dX4_span_127 : decode cX4_span 127 = .ok (.iload_n 1, 1) := dk_27 (dk_at dksX4_span_5 10 rfl rfl)
theorem dX4_span_128 : decode cX4_span 128 = .ok (.iconst 1, 1) := dk_4 (dk_at dksX4_span_5 11 rfl rfl)
theorem dX4_span_129 : decode cX4_span 129 = .ok (.iload 4, 2) := dk_21 4 (dk_at dksX4_span_5 12 rfl rfl)
theorem dX4_span_131 : decode cX4_span 131 = .ok (.ishl, 1) := dk_120 (dk_at dksX4_span_5 14 rfl rfl)
theorem dX4_span_132 : decode cX4_span 132 = .ok (.iconst (-1), 1) := dk_2 (dk_at dksX4_span_5 15 rfl rfl)
theorem dX4_span_133 : decode cX4_span 133 = .ok (.ixor, 1) := dk_130 (dk_at dksX4_span_5 16 rfl rfl)
theorem dX4_span_134 : decode cX4_span 134 = .ok (.iand, 1) := dk_126 (dk_at dksX4_span_5 17 rfl rfl)
theorem dX4_span_135 : decode cX4_span 135 = .ok (.istore_n 1, 1) := dk_60 (dk_at dksX4_span_5 18 rfl rfl)
theorem dX4_span_136 : decode cX4_span 136 = .ok (.iload_n 3, 1) := dk_29 (dk_at dksX4_span_5 19 rfl rfl)
theorem dX4_span_137 : decode cX4_span 137 = .ok (.iload 5, 2) := dk_21 5 (dk_at dksX4_span_5 20 rfl rfl)
theorem dX4_span_139 : decode cX4_span 139 = .ok (.iadd, 1) := dk_96 (dk_at dksX4_span_5 22 rfl rfl)
theorem dX4_span_140 : decode cX4_span 140 = .ok (.istore_n 3, 1) := dk_62 (dk_at dksX4_span_5 23 rfl rfl)
theorem dX4_span_141 : decode cX4_span 141 = .ok (.goto (-117), 3) := dk_167 255 139 (dk_at dksX4_span_6 0 rfl rfl)
theorem dX4_span_144 : decode cX4_span 144 = .ok (.iload_n 3, 1) := dk_29 (dk_at dksX4_span_6 3 rfl rfl)
theorem dX4_span_145 : decode cX4_span 145 = .ok (.ireturn, 1) := dk_172 (dk_at dksX4_span_6 4 rfl rfl)
abbrev cX4_line : ByteArray := prog_22_method_109_code
def yX4_line : MethodName := ⟨RX4, "line", "(I)I"⟩
def dkwX4_line_1 : List UInt8 := [162, 0, 17, 28, 42, 28, 182, 1, 210, 128, 61, 132, 3, 1, 167, 255, 239, 28, 172]
abbrev dktX4_line_1 : List UInt8 := dkwX4_line_1 ++ []
def dkwX4_line_0 : List UInt8 := [42, 27, 182, 1, 155, 154, 0, 5, 2, 172, 42, 4, 27, 120, 182, 1, 210, 61, 3, 62, 29, 16, 8]
abbrev dktX4_line_0 : List UInt8 := dkwX4_line_0 ++ dktX4_line_1
theorem dksX4_line_0 : cX4_line.data.toList.drop 0 = dktX4_line_0 := by decide +kernel
theorem dksX4_line_1 : cX4_line.data.toList.drop 23 = dktX4_line_1 := dk_seg dksX4_line_0 23 rfl rfl
theorem dX4_line_0 : decode cX4_line 0 = .ok (.aload_n 0, 1) := dk_42 (dk_at dksX4_line_0 0 rfl rfl)
theorem dX4_line_1 : decode cX4_line 1 = .ok (.iload_n 1, 1) := dk_27 (dk_at dksX4_line_0 1 rfl rfl)
theorem dX4_line_2 : decode cX4_line 2 = .ok (.invokevirtual 411, 3) := dk_182 1 155 (dk_at dksX4_line_0 2 rfl rfl)
theorem dX4_line_5 : decode cX4_line 5 = .ok (.ifCond .ne 5, 3) := dk_154 0 5 (dk_at dksX4_line_0 5 rfl rfl)
theorem dX4_line_8 : decode cX4_line 8 = .ok (.iconst (-1), 1) := dk_2 (dk_at dksX4_line_0 8 rfl rfl)
theorem dX4_line_9 : decode cX4_line 9 = .ok (.ireturn, 1) := dk_172 (dk_at dksX4_line_0 9 rfl rfl)
theorem dX4_line_10 : decode cX4_line 10 = .ok (.aload_n 0, 1) := dk_42 (dk_at dksX4_line_0 10 rfl rfl)
theorem dX4_line_11 : decode cX4_line 11 = .ok (.iconst 1, 1) := dk_4 (dk_at dksX4_line_0 11 rfl rfl)
theorem dX4_line_12 : decode cX4_line 12 = .ok (.iload_n 1, 1) := dk_27 (dk_at dksX4_line_0 12 rfl rfl)
theorem dX4_line_13 : decode cX4_line 13 = .ok (.ishl, 1) := dk_120 (dk_at dksX4_line_0 13 rfl rfl)
theorem dX4_line_14 : decode cX4_line 14 = .ok (.invokevirtual 466, 3) := dk_182 1 210 (dk_at dksX4_line_0 14 rfl rfl)
theorem dX4_line_17 : decode cX4_line 17 = .ok (.istore_n 2, 1) := dk_61 (dk_at dksX4_line_0 17 rfl rfl)
theorem dX4_line_18 : decode cX4_line 18 = .ok (.iconst 0, 1) := dk_3 (dk_at dksX4_line_0 18 rfl rfl)
theorem dX4_line_19 : decode cX4_line 19 = .ok (.istore_n 3, 1) := dk_62 (dk_at dksX4_line_0 19 rfl rfl)
theorem dX4_line_20 : decode cX4_line 20 = .ok (.iload_n 3, 1) := dk_29 (dk_at dksX4_line_0 20 rfl rfl)
theorem dX4_line_21 : decode cX4_line 21 = .ok (.bipush 8, 2) := dk_16 8 (dk_at dksX4_line_0 21 rfl rfl)
theorem dX4_line_23 : decode cX4_line 23 = .ok (.if_icmp .ge 17, 3) := dk_162 0 17 (dk_at dksX4_line_1 0 rfl rfl)
theorem dX4_line_26 : decode cX4_line 26 = .ok (.iload_n 2, 1) := dk_28 (dk_at dksX4_line_1 3 rfl rfl)
theorem dX4_line_27 : decode cX4_line 27 = .ok (.aload_n 0, 1) := dk_42 (dk_at dksX4_line_1 4 rfl rfl)
theorem dX4_line_28 : decode cX4_line 28 = .ok (.iload_n 2, 1) := dk_28 (dk_at dksX4_line_1 5 rfl rfl)
theorem dX4_line_29 : decode cX4_line 29 = .ok (.invokevirtual 466, 3) := dk_182 1 210 (dk_at dksX4_line_1 6 rfl rfl)
theorem dX4_line_32 : decode cX4_line 32 = .ok (.ior, 1) := dk_128 (dk_at dksX4_line_1 9 rfl rfl)
theorem dX4_line_33 : decode cX4_line 33 = .ok (.istore_n 2, 1) := dk_61 (dk_at dksX4_line_1 10 rfl rfl)
theorem dX4_line_34 : decode cX4_line 34 = .ok (.iinc 3 1, 3) := dk_132 3 1 (dk_at dksX4_line_1 11 rfl rfl)
theorem dX4_line_37 : decode cX4_line 37 = .ok (.goto (-17), 3) := dk_167 255 239 (dk_at dksX4_line_1 14 rfl rfl)
theorem dX4_line_40 : decode cX4_line 40 = .ok (.iload_n 2, 1) := dk_28 (dk_at dksX4_line_1 17 rfl rfl)
theorem dX4_line_41 : decode cX4_line 41 = .ok (.ireturn, 1) := dk_172 (dk_at dksX4_line_1 18 rfl rfl)
abbrev cX4_parentsOf : ByteArray := prog_22_method_108_code
def yX4_parentsOf : MethodName := ⟨RX4, "parentsOf", "(I)I"⟩
def dkwX4_parentsOf_3 : List UInt8 := [120, 128, 61, 132, 3, 1, 167, 255, 184, 28, 172]
abbrev dktX4_parentsOf_3 : List UInt8 := dkwX4_parentsOf_3 ++ []
def dkwX4_parentsOf_2 : List UInt8 := [61, 42, 180, 0, 85, 16, 48, 29, 96, 46, 155, 0, 17, 28, 4, 42, 180, 0, 85, 16, 48, 29, 96, 46]
abbrev dktX4_parentsOf_2 : List UInt8 := dkwX4_parentsOf_2 ++ dktX4_parentsOf_3
def dkwX4_parentsOf_1 : List UInt8 := [180, 0, 85, 16, 40, 29, 96, 46, 155, 0, 17, 28, 4, 42, 180, 0, 85, 16, 40, 29, 96, 46, 120, 128]
abbrev dktX4_parentsOf_1 : List UInt8 := dkwX4_parentsOf_1 ++ dktX4_parentsOf_2
def dkwX4_parentsOf_0 : List UInt8 := [3, 61, 3, 62, 29, 16, 8, 162, 0, 72, 27, 29, 184, 0, 250, 154, 0, 6, 167, 0, 55, 42]
abbrev dktX4_parentsOf_0 : List UInt8 := dkwX4_parentsOf_0 ++ dktX4_parentsOf_1
theorem dksX4_parentsOf_0 : cX4_parentsOf.data.toList.drop 0 = dktX4_parentsOf_0 := by decide +kernel
theorem dksX4_parentsOf_1 : cX4_parentsOf.data.toList.drop 22 = dktX4_parentsOf_1 := dk_seg dksX4_parentsOf_0 22 rfl rfl
theorem dksX4_parentsOf_2 : cX4_parentsOf.data.toList.drop 46 = dktX4_parentsOf_2 := dk_seg dksX4_parentsOf_1 24 rfl rfl
theorem dksX4_parentsOf_3 : cX4_parentsOf.data.toList.drop 70 = dktX4_parentsOf_3 := dk_seg dksX4_parentsOf_2 24 rfl rfl
theorem dX4_parentsOf_0 : decode cX4_parentsOf 0 = .ok (.iconst 0, 1) := dk_3 (dk_at dksX4_parentsOf_0 0 rfl rfl)
theorem dX4_parentsOf_1 : decode cX4_parentsOf 1 = .ok (.istore_n 2, 1) := dk_61 (dk_at dksX4_parentsOf_0 1 rfl rfl)
theorem dX4_parentsOf_2 : decode cX4_parentsOf 2 = .ok (.iconst 0, 1) := dk_3 (dk_at dksX4_parentsOf_0 2 rfl rfl)
theorem dX4_parentsOf_3 : decode cX4_parentsOf 3 = .ok (.istore_n 3, 1) := dk_62 (dk_at dksX4_parentsOf_0 3 rfl rfl)
theorem dX4_parentsOf_4 : decode cX4_parentsOf 4 = .ok (.iload_n 3, 1) := dk_29 (dk_at dksX4_parentsOf_0 4 rfl rfl)
theorem dX4_parentsOf_5 : decode cX4_parentsOf 5 = .ok (.bipush 8, 2) := dk_16 8 (dk_at dksX4_parentsOf_0 5 rfl rfl)
theorem dX4_parentsOf_7 : decode cX4_parentsOf 7 = .ok (.if_icmp .ge 72, 3) := dk_162 0 72 (dk_at dksX4_parentsOf_0 7 rfl rfl)
theorem dX4_parentsOf_10 : decode cX4_parentsOf 10 = .ok (.iload_n 1, 1) := dk_27 (dk_at dksX4_parentsOf_0 10 rfl rfl)
theorem dX4_parentsOf_11 : decode cX4_parentsOf 11 = .ok (.iload_n 3, 1) := dk_29 (dk_at dksX4_parentsOf_0 11 rfl rfl)
theorem dX4_parentsOf_12 : decode cX4_parentsOf 12 = .ok (.invokestatic 250, 3) := dk_184 0 250 (dk_at dksX4_parentsOf_0 12 rfl rfl)
theorem dX4_parentsOf_15 : decode cX4_parentsOf 15 = .ok (.ifCond .ne 6, 3) := dk_154 0 6 (dk_at dksX4_parentsOf_0 15 rfl rfl)
theorem dX4_parentsOf_18 : decode cX4_parentsOf 18 = .ok (.goto 55, 3) := dk_167 0 55 (dk_at dksX4_parentsOf_0 18 rfl rfl)
theorem dX4_parentsOf_21 : decode cX4_parentsOf 21 = .ok (.aload_n 0, 1) := dk_42 (dk_at dksX4_parentsOf_0 21 rfl rfl)
theorem dX4_parentsOf_22 : decode cX4_parentsOf 22 = .ok (.getfield 85, 3) := dk_180 0 85 (dk_at dksX4_parentsOf_1 0 rfl rfl)
theorem dX4_parentsOf_25 : decode cX4_parentsOf 25 = .ok (.bipush 40, 2) := dk_16 40 (dk_at dksX4_parentsOf_1 3 rfl rfl)
theorem dX4_parentsOf_27 : decode cX4_parentsOf 27 = .ok (.iload_n 3, 1) := dk_29 (dk_at dksX4_parentsOf_1 5 rfl rfl)
theorem dX4_parentsOf_28 : decode cX4_parentsOf 28 = .ok (.iadd, 1) := dk_96 (dk_at dksX4_parentsOf_1 6 rfl rfl)
theorem dX4_parentsOf_29 : decode cX4_parentsOf 29 = .ok (.iaload, 1) := dk_46 (dk_at dksX4_parentsOf_1 7 rfl rfl)
theorem dX4_parentsOf_30 : decode cX4_parentsOf 30 = .ok (.ifCond .lt 17, 3) := dk_155 0 17 (dk_at dksX4_parentsOf_1 8 rfl rfl)
theorem dX4_parentsOf_33 : decode cX4_parentsOf 33 = .ok (.iload_n 2, 1) := dk_28 (dk_at dksX4_parentsOf_1 11 rfl rfl)
theorem dX4_parentsOf_34 : decode cX4_parentsOf 34 = .ok (.iconst 1, 1) := dk_4 (dk_at dksX4_parentsOf_1 12 rfl rfl)
theorem dX4_parentsOf_35 : decode cX4_parentsOf 35 = .ok (.aload_n 0, 1) := dk_42 (dk_at dksX4_parentsOf_1 13 rfl rfl)
theorem dX4_parentsOf_36 : decode cX4_parentsOf 36 = .ok (.getfield 85, 3) := dk_180 0 85 (dk_at dksX4_parentsOf_1 14 rfl rfl)
theorem dX4_parentsOf_39 : decode cX4_parentsOf 39 = .ok (.bipush 40, 2) := dk_16 40 (dk_at dksX4_parentsOf_1 17 rfl rfl)
theorem dX4_parentsOf_41 : decode cX4_parentsOf 41 = .ok (.iload_n 3, 1) := dk_29 (dk_at dksX4_parentsOf_1 19 rfl rfl)
theorem dX4_parentsOf_42 : decode cX4_parentsOf 42 = .ok (.iadd, 1) := dk_96 (dk_at dksX4_parentsOf_1 20 rfl rfl)
theorem dX4_parentsOf_43 : decode cX4_parentsOf 43 = .ok (.iaload, 1) := dk_46 (dk_at dksX4_parentsOf_1 21 rfl rfl)
theorem dX4_parentsOf_44 : decode cX4_parentsOf 44 = .ok (.ishl, 1) := dk_120 (dk_at dksX4_parentsOf_1 22 rfl rfl)
theorem dX4_parentsOf_45 : decode cX4_parentsOf 45 = .ok (.ior, 1) := dk_128 (dk_at dksX4_parentsOf_1 23 rfl rfl)
theorem dX4_parentsOf_46 : decode cX4_parentsOf 46 = .ok (.istore_n 2, 1) := dk_61 (dk_at dksX4_parentsOf_2 0 rfl rfl)
theorem dX4_parentsOf_47 : decode cX4_parentsOf 47 = .ok (.aload_n 0, 1) := dk_42 (dk_at dksX4_parentsOf_2 1 rfl rfl)
theorem dX4_parentsOf_48 : decode cX4_parentsOf 48 = .ok (.getfield 85, 3) := dk_180 0 85 (dk_at dksX4_parentsOf_2 2 rfl rfl)
theorem dX4_parentsOf_51 : decode cX4_parentsOf 51 = .ok (.bipush 48, 2) := dk_16 48 (dk_at dksX4_parentsOf_2 5 rfl rfl)
theorem dX4_parentsOf_53 : decode cX4_parentsOf 53 = .ok (.iload_n 3, 1) := dk_29 (dk_at dksX4_parentsOf_2 7 rfl rfl)
theorem dX4_parentsOf_54 : decode cX4_parentsOf 54 = .ok (.iadd, 1) := dk_96 (dk_at dksX4_parentsOf_2 8 rfl rfl)
theorem dX4_parentsOf_55 : decode cX4_parentsOf 55 = .ok (.iaload, 1) := dk_46 (dk_at dksX4_parentsOf_2 9 rfl rfl)
theorem dX4_parentsOf_56 : decode cX4_parentsOf 56 = .ok (.ifCond .lt 17, 3) := dk_155 0 17 (dk_at dksX4_parentsOf_2 10 rfl rfl)
theorem dX4_parentsOf_59 : decode cX4_parentsOf 59 = .ok (.iload_n 2, 1) := dk_28 (dk_at dksX4_parentsOf_2 13 rfl rfl)
theorem dX4_parentsOf_60 : decode cX4_parentsOf 60 = .ok (.iconst 1, 1) := dk_4 (dk_at dksX4_parentsOf_2 14 rfl rfl)
theorem dX4_parentsOf_61 : decode cX4_parentsOf 61 = .ok (.aload_n 0, 1) := dk_42 (dk_at dksX4_parentsOf_2 15 rfl rfl)
theorem dX4_parentsOf_62 : decode cX4_parentsOf 62 = .ok (.getfield 85, 3) := dk_180 0 85 (dk_at dksX4_parentsOf_2 16 rfl rfl)
theorem dX4_parentsOf_65 : decode cX4_parentsOf 65 = .ok (.bipush 48, 2) := dk_16 48 (dk_at dksX4_parentsOf_2 19 rfl rfl)
theorem dX4_parentsOf_67 : decode cX4_parentsOf 67 = .ok (.iload_n 3, 1) := dk_29 (dk_at dksX4_parentsOf_2 21 rfl rfl)
theorem dX4_parentsOf_68 : decode cX4_parentsOf 68 = .ok (.iadd, 1) := dk_96 (dk_at dksX4_parentsOf_2 22 rfl rfl)
theorem dX4_parentsOf_69 : decode cX4_parentsOf 69 = .ok (.iaload, 1) := dk_46 (dk_at dksX4_parentsOf_2 23 rfl rfl)
theorem dX4_parentsOf_70 : decode cX4_parentsOf 70 = .ok (.ishl, 1) := dk_120 (dk_at dksX4_parentsOf_3 0 rfl rfl)
theorem dX4_parentsOf_71 : decode cX4_parentsOf 71 = .ok (.ior, 1) := dk_128 (dk_at dksX4_parentsOf_3 1 rfl rfl)
theorem dX4_parentsOf_72 : decode cX4_parentsOf 72 = .ok (.istore_n 2, 1) := dk_61 (dk_at dksX4_parentsOf_3 2 rfl rfl)
theorem dX4_parentsOf_73 : decode cX4_parentsOf 73 = .ok (.iinc 3 1, 3) := dk_132 3 1 (dk_at dksX4_parentsOf_3 3 rfl rfl)
theorem dX4_parentsOf_76 : decode cX4_parentsOf 76 = .ok (.goto (-72), 3) := dk_167 255 184 (dk_at dksX4_parentsOf_3 6 rfl rfl)
theorem dX4_parentsOf_79 : decode cX4_parentsOf 79 = .ok (.iload_n 2, 1) := dk_28 (dk_at dksX4_parentsOf_3 9 rfl rfl)
theorem dX4_parentsOf_80 : decode cX4_parentsOf 80 = .ok (.ireturn, 1) := dk_172 (dk_at dksX4_parentsOf_3 10 rfl rfl)
abbrev cX4_litter : ByteArray := prog_22_method_110_code
def yX4_litter : MethodName := ⟨RX4, "litter", "(I)I"⟩
def dkwX4_litter_2 : List UInt8 := [29, 120, 128, 61, 132, 3, 1, 167, 255, 215, 28, 172]
abbrev dktX4_litter_2 : List UInt8 := dkwX4_litter_2 ++ []
def dkwX4_litter_1 : List UInt8 := [16, 40, 29, 96, 46, 27, 159, 0, 16, 42, 180, 0, 85, 16, 48, 29, 96, 46, 27, 160, 0, 9, 28, 4]
abbrev dktX4_litter_1 : List UInt8 := dkwX4_litter_1 ++ dktX4_litter_2
def dkwX4_litter_0 : List UInt8 := [42, 27, 182, 1, 155, 154, 0, 5, 2, 172, 3, 61, 3, 62, 29, 16, 8, 162, 0, 41, 42, 180, 0, 85]
abbrev dktX4_litter_0 : List UInt8 := dkwX4_litter_0 ++ dktX4_litter_1
theorem dksX4_litter_0 : cX4_litter.data.toList.drop 0 = dktX4_litter_0 := by decide +kernel
theorem dksX4_litter_1 : cX4_litter.data.toList.drop 24 = dktX4_litter_1 := dk_seg dksX4_litter_0 24 rfl rfl
theorem dksX4_litter_2 : cX4_litter.data.toList.drop 48 = dktX4_litter_2 := dk_seg dksX4_litter_1 24 rfl rfl
theorem dX4_litter_0 : decode cX4_litter 0 = .ok (.aload_n 0, 1) := dk_42 (dk_at dksX4_litter_0 0 rfl rfl)
theorem dX4_litter_1 : decode cX4_litter 1 = .ok (.iload_n 1, 1) := dk_27 (dk_at dksX4_litter_0 1 rfl rfl)
theorem dX4_litter_2 : decode cX4_litter 2 = .ok (.invokevirtual 411, 3) := dk_182 1 155 (dk_at dksX4_litter_0 2 rfl rfl)
theorem dX4_litter_5 : decode cX4_litter 5 = .ok (.ifCond .ne 5, 3) := dk_154 0 5 (dk_at dksX4_litter_0 5 rfl rfl)
theorem dX4_litter_8 : decode cX4_litter 8 = .ok (.iconst (-1), 1) := dk_2 (dk_at dksX4_litter_0 8 rfl rfl)
theorem dX4_litter_9 : decode cX4_litter 9 = .ok (.ireturn, 1) := dk_172 (dk_at dksX4_litter_0 9 rfl rfl)
theorem dX4_litter_10 : decode cX4_litter 10 = .ok (.iconst 0, 1) := dk_3 (dk_at dksX4_litter_0 10 rfl rfl)
theorem dX4_litter_11 : decode cX4_litter 11 = .ok (.istore_n 2, 1) := dk_61 (dk_at dksX4_litter_0 11 rfl rfl)
theorem dX4_litter_12 : decode cX4_litter 12 = .ok (.iconst 0, 1) := dk_3 (dk_at dksX4_litter_0 12 rfl rfl)
theorem dX4_litter_13 : decode cX4_litter 13 = .ok (.istore_n 3, 1) := dk_62 (dk_at dksX4_litter_0 13 rfl rfl)
theorem dX4_litter_14 : decode cX4_litter 14 = .ok (.iload_n 3, 1) := dk_29 (dk_at dksX4_litter_0 14 rfl rfl)
theorem dX4_litter_15 : decode cX4_litter 15 = .ok (.bipush 8, 2) := dk_16 8 (dk_at dksX4_litter_0 15 rfl rfl)
theorem dX4_litter_17 : decode cX4_litter 17 = .ok (.if_icmp .ge 41, 3) := dk_162 0 41 (dk_at dksX4_litter_0 17 rfl rfl)
theorem dX4_litter_20 : decode cX4_litter 20 = .ok (.aload_n 0, 1) := dk_42 (dk_at dksX4_litter_0 20 rfl rfl)
theorem dX4_litter_21 : decode cX4_litter 21 = .ok (.getfield 85, 3) := dk_180 0 85 (dk_at dksX4_litter_0 21 rfl rfl)
theorem dX4_litter_24 : decode cX4_litter 24 = .ok (.bipush 40, 2) := dk_16 40 (dk_at dksX4_litter_1 0 rfl rfl)
theorem dX4_litter_26 : decode cX4_litter 26 = .ok (.iload_n 3, 1) := dk_29 (dk_at dksX4_litter_1 2 rfl rfl)
theorem dX4_litter_27 : decode cX4_litter 27 = .ok (.iadd, 1) := dk_96 (dk_at dksX4_litter_1 3 rfl rfl)
theorem dX4_litter_28 : decode cX4_litter 28 = .ok (.iaload, 1) := dk_46 (dk_at dksX4_litter_1 4 rfl rfl)
theorem dX4_litter_29 : decode cX4_litter 29 = .ok (.iload_n 1, 1) := dk_27 (dk_at dksX4_litter_1 5 rfl rfl)
theorem dX4_litter_30 : decode cX4_litter 30 = .ok (.if_icmp .eq 16, 3) := dk_159 0 16 (dk_at dksX4_litter_1 6 rfl rfl)
theorem dX4_litter_33 : decode cX4_litter 33 = .ok (.aload_n 0, 1) := dk_42 (dk_at dksX4_litter_1 9 rfl rfl)
theorem dX4_litter_34 : decode cX4_litter 34 = .ok (.getfield 85, 3) := dk_180 0 85 (dk_at dksX4_litter_1 10 rfl rfl)
theorem dX4_litter_37 : decode cX4_litter 37 = .ok (.bipush 48, 2) := dk_16 48 (dk_at dksX4_litter_1 13 rfl rfl)
theorem dX4_litter_39 : decode cX4_litter 39 = .ok (.iload_n 3, 1) := dk_29 (dk_at dksX4_litter_1 15 rfl rfl)
theorem dX4_litter_40 : decode cX4_litter 40 = .ok (.iadd, 1) := dk_96 (dk_at dksX4_litter_1 16 rfl rfl)
theorem dX4_litter_41 : decode cX4_litter 41 = .ok (.iaload, 1) := dk_46 (dk_at dksX4_litter_1 17 rfl rfl)
theorem dX4_litter_42 : decode cX4_litter 42 = .ok (.iload_n 1, 1) := dk_27 (dk_at dksX4_litter_1 18 rfl rfl)
theorem dX4_litter_43 : decode cX4_litter 43 = .ok (.if_icmp .ne 9, 3) := dk_160 0 9 (dk_at dksX4_litter_1 19 rfl rfl)
theorem dX4_litter_46 : decode cX4_litter 46 = .ok (.iload_n 2, 1) := dk_28 (dk_at dksX4_litter_1 22 rfl rfl)
theorem dX4_litter_47 : decode cX4_litter 47 = .ok (.iconst 1, 1) := dk_4 (dk_at dksX4_litter_1 23 rfl rfl)
theorem dX4_litter_48 : decode cX4_litter 48 = .ok (.iload_n 3, 1) := dk_29 (dk_at dksX4_litter_2 0 rfl rfl)
theorem dX4_litter_49 : decode cX4_litter 49 = .ok (.ishl, 1) := dk_120 (dk_at dksX4_litter_2 1 rfl rfl)
theorem dX4_litter_50 : decode cX4_litter 50 = .ok (.ior, 1) := dk_128 (dk_at dksX4_litter_2 2 rfl rfl)
theorem dX4_litter_51 : decode cX4_litter 51 = .ok (.istore_n 2, 1) := dk_61 (dk_at dksX4_litter_2 3 rfl rfl)
theorem dX4_litter_52 : decode cX4_litter 52 = .ok (.iinc 3 1, 3) := dk_132 3 1 (dk_at dksX4_litter_2 4 rfl rfl)
theorem dX4_litter_55 : decode cX4_litter 55 = .ok (.goto (-41), 3) := dk_167 255 215 (dk_at dksX4_litter_2 7 rfl rfl)
theorem dX4_litter_58 : decode cX4_litter 58 = .ok (.iload_n 2, 1) := dk_28 (dk_at dksX4_litter_2 10 rfl rfl)
theorem dX4_litter_59 : decode cX4_litter 59 = .ok (.ireturn, 1) := dk_172 (dk_at dksX4_litter_2 11 rfl rfl)
abbrev cX4_kin : ByteArray := prog_22_method_112_code
def yX4_kin : MethodName := ⟨RX4, "kin", "(II)I"⟩
def dkwX4_kin_3 : List UInt8 := [29, 167, 0, 4, 2, 172]
abbrev dktX4_kin_3 : List UInt8 := dkwX4_kin_3 ++ []
def dkwX4_kin_2 : List UInt8 := [54, 5, 21, 5, 29, 162, 0, 6, 21, 5, 62, 132, 4, 1, 167, 255, 220, 29, 17, 3, 232, 162, 0, 7]
abbrev dktX4_kin_2 : List UInt8 := dkwX4_kin_2 ++ dktX4_kin_3
def dkwX4_kin_1 : List UInt8 := [54, 4, 21, 4, 16, 8, 162, 0, 35, 42, 27, 21, 4, 182, 1, 213, 42, 28, 21, 4, 182, 1, 213, 96]
abbrev dktX4_kin_1 : List UInt8 := dkwX4_kin_1 ++ dktX4_kin_2
def dkwX4_kin_0 : List UInt8 := [42, 27, 182, 1, 155, 153, 0, 11, 42, 28, 182, 1, 155, 154, 0, 5, 2, 172, 17, 3, 232, 62, 3]
abbrev dktX4_kin_0 : List UInt8 := dkwX4_kin_0 ++ dktX4_kin_1
theorem dksX4_kin_0 : cX4_kin.data.toList.drop 0 = dktX4_kin_0 := by decide +kernel
theorem dksX4_kin_1 : cX4_kin.data.toList.drop 23 = dktX4_kin_1 := dk_seg dksX4_kin_0 23 rfl rfl
theorem dksX4_kin_2 : cX4_kin.data.toList.drop 47 = dktX4_kin_2 := dk_seg dksX4_kin_1 24 rfl rfl
theorem dksX4_kin_3 : cX4_kin.data.toList.drop 71 = dktX4_kin_3 := dk_seg dksX4_kin_2 24 rfl rfl
theorem dX4_kin_0 : decode cX4_kin 0 = .ok (.aload_n 0, 1) := dk_42 (dk_at dksX4_kin_0 0 rfl rfl)
theorem dX4_kin_1 : decode cX4_kin 1 = .ok (.iload_n 1, 1) := dk_27 (dk_at dksX4_kin_0 1 rfl rfl)
theorem dX4_kin_2 : decode cX4_kin 2 = .ok (.invokevirtual 411, 3) := dk_182 1 155 (dk_at dksX4_kin_0 2 rfl rfl)
theorem dX4_kin_5 : decode cX4_kin 5 = .ok (.ifCond .eq 11, 3) := dk_153 0 11 (dk_at dksX4_kin_0 5 rfl rfl)
theorem dX4_kin_8 : decode cX4_kin 8 = .ok (.aload_n 0, 1) := dk_42 (dk_at dksX4_kin_0 8 rfl rfl)
theorem dX4_kin_9 : decode cX4_kin 9 = .ok (.iload_n 2, 1) := dk_28 (dk_at dksX4_kin_0 9 rfl rfl)
theorem dX4_kin_10 : decode cX4_kin 10 = .ok (.invokevirtual 411, 3) := dk_182 1 155 (dk_at dksX4_kin_0 10 rfl rfl)
theorem dX4_kin_13 : decode cX4_kin 13 = .ok (.ifCond .ne 5, 3) := dk_154 0 5 (dk_at dksX4_kin_0 13 rfl rfl)
theorem dX4_kin_16 : decode cX4_kin 16 = .ok (.iconst (-1), 1) := dk_2 (dk_at dksX4_kin_0 16 rfl rfl)
theorem dX4_kin_17 : decode cX4_kin 17 = .ok (.ireturn, 1) := dk_172 (dk_at dksX4_kin_0 17 rfl rfl)
theorem dX4_kin_18 : decode cX4_kin 18 = .ok (.sipush 1000, 3) := dk_17 3 232 (dk_at dksX4_kin_0 18 rfl rfl)
theorem dX4_kin_21 : decode cX4_kin 21 = .ok (.istore_n 3, 1) := dk_62 (dk_at dksX4_kin_0 21 rfl rfl)
theorem dX4_kin_22 : decode cX4_kin 22 = .ok (.iconst 0, 1) := dk_3 (dk_at dksX4_kin_0 22 rfl rfl)
theorem dX4_kin_23 : decode cX4_kin 23 = .ok (.istore 4, 2) := dk_54 4 (dk_at dksX4_kin_1 0 rfl rfl)
theorem dX4_kin_25 : decode cX4_kin 25 = .ok (.iload 4, 2) := dk_21 4 (dk_at dksX4_kin_1 2 rfl rfl)
theorem dX4_kin_27 : decode cX4_kin 27 = .ok (.bipush 8, 2) := dk_16 8 (dk_at dksX4_kin_1 4 rfl rfl)
theorem dX4_kin_29 : decode cX4_kin 29 = .ok (.if_icmp .ge 35, 3) := dk_162 0 35 (dk_at dksX4_kin_1 6 rfl rfl)
theorem dX4_kin_32 : decode cX4_kin 32 = .ok (.aload_n 0, 1) := dk_42 (dk_at dksX4_kin_1 9 rfl rfl)
theorem dX4_kin_33 : decode cX4_kin 33 = .ok (.iload_n 1, 1) := dk_27 (dk_at dksX4_kin_1 10 rfl rfl)
theorem dX4_kin_34 : decode cX4_kin 34 = .ok (.iload 4, 2) := dk_21 4 (dk_at dksX4_kin_1 11 rfl rfl)
theorem dX4_kin_36 : decode cX4_kin 36 = .ok (.invokevirtual 469, 3) := dk_182 1 213 (dk_at dksX4_kin_1 13 rfl rfl)
theorem dX4_kin_39 : decode cX4_kin 39 = .ok (.aload_n 0, 1) := dk_42 (dk_at dksX4_kin_1 16 rfl rfl)
theorem dX4_kin_40 : decode cX4_kin 40 = .ok (.iload_n 2, 1) := dk_28 (dk_at dksX4_kin_1 17 rfl rfl)
theorem dX4_kin_41 : decode cX4_kin 41 = .ok (.iload 4, 2) := dk_21 4 (dk_at dksX4_kin_1 18 rfl rfl)
theorem dX4_kin_43 : decode cX4_kin 43 = .ok (.invokevirtual 469, 3) := dk_182 1 213 (dk_at dksX4_kin_1 20 rfl rfl)
theorem dX4_kin_46 : decode cX4_kin 46 = .ok (.iadd, 1) := dk_96 (dk_at dksX4_kin_1 23 rfl rfl)
theorem dX4_kin_47 : decode cX4_kin 47 = .ok (.istore 5, 2) := dk_54 5 (dk_at dksX4_kin_2 0 rfl rfl)
theorem dX4_kin_49 : decode cX4_kin 49 = .ok (.iload 5, 2) := dk_21 5 (dk_at dksX4_kin_2 2 rfl rfl)
theorem dX4_kin_51 : decode cX4_kin 51 = .ok (.iload_n 3, 1) := dk_29 (dk_at dksX4_kin_2 4 rfl rfl)
theorem dX4_kin_52 : decode cX4_kin 52 = .ok (.if_icmp .ge 6, 3) := dk_162 0 6 (dk_at dksX4_kin_2 5 rfl rfl)
theorem dX4_kin_55 : decode cX4_kin 55 = .ok (.iload 5, 2) := dk_21 5 (dk_at dksX4_kin_2 8 rfl rfl)
theorem dX4_kin_57 : decode cX4_kin 57 = .ok (.istore_n 3, 1) := dk_62 (dk_at dksX4_kin_2 10 rfl rfl)
theorem dX4_kin_58 : decode cX4_kin 58 = .ok (.iinc 4 1, 3) := dk_132 4 1 (dk_at dksX4_kin_2 11 rfl rfl)
theorem dX4_kin_61 : decode cX4_kin 61 = .ok (.goto (-36), 3) := dk_167 255 220 (dk_at dksX4_kin_2 14 rfl rfl)
theorem dX4_kin_64 : decode cX4_kin 64 = .ok (.iload_n 3, 1) := dk_29 (dk_at dksX4_kin_2 17 rfl rfl)
theorem dX4_kin_65 : decode cX4_kin 65 = .ok (.sipush 1000, 3) := dk_17 3 232 (dk_at dksX4_kin_2 18 rfl rfl)
theorem dX4_kin_68 : decode cX4_kin 68 = .ok (.if_icmp .ge 7, 3) := dk_162 0 7 (dk_at dksX4_kin_2 21 rfl rfl)
theorem dX4_kin_71 : decode cX4_kin 71 = .ok (.iload_n 3, 1) := dk_29 (dk_at dksX4_kin_3 0 rfl rfl)
theorem dX4_kin_72 : decode cX4_kin 72 = .ok (.goto 4, 3) := dk_167 0 4 (dk_at dksX4_kin_3 1 rfl rfl)
theorem dX4_kin_75 : decode cX4_kin 75 = .ok (.iconst (-1), 1) := dk_2 (dk_at dksX4_kin_3 4 rfl rfl)
theorem dX4_kin_76 : decode cX4_kin 76 = .ok (.ireturn, 1) := dk_172 (dk_at dksX4_kin_3 5 rfl rfl)
abbrev cX4_stepsUp : ByteArray := prog_22_method_111_code
def yX4_stepsUp : MethodName := ⟨RX4, "stepsUp", "(II)I"⟩
def dkwX4_stepsUp_1 : List UInt8 := [172, 42, 29, 182, 1, 210, 62, 132, 4, 1, 167, 255, 229, 17, 3, 232, 172]
abbrev dktX4_stepsUp_1 : List UInt8 := dkwX4_stepsUp_1 ++ []
def dkwX4_stepsUp_0 : List UInt8 := [4, 27, 120, 62, 3, 54, 4, 21, 4, 16, 8, 163, 0, 26, 29, 28, 184, 0, 250, 153, 0, 6, 21, 4]
abbrev dktX4_stepsUp_0 : List UInt8 := dkwX4_stepsUp_0 ++ dktX4_stepsUp_1
theorem dksX4_stepsUp_0 : cX4_stepsUp.data.toList.drop 0 = dktX4_stepsUp_0 := by decide +kernel
theorem dksX4_stepsUp_1 : cX4_stepsUp.data.toList.drop 24 = dktX4_stepsUp_1 := dk_seg dksX4_stepsUp_0 24 rfl rfl
theorem dX4_stepsUp_0 : decode cX4_stepsUp 0 = .ok (.iconst 1, 1) := dk_4 (dk_at dksX4_stepsUp_0 0 rfl rfl)
theorem dX4_stepsUp_1 : decode cX4_stepsUp 1 = .ok (.iload_n 1, 1) := dk_27 (dk_at dksX4_stepsUp_0 1 rfl rfl)
theorem dX4_stepsUp_2 : decode cX4_stepsUp 2 = .ok (.ishl, 1) := dk_120 (dk_at dksX4_stepsUp_0 2 rfl rfl)
theorem dX4_stepsUp_3 : decode cX4_stepsUp 3 = .ok (.istore_n 3, 1) := dk_62 (dk_at dksX4_stepsUp_0 3 rfl rfl)
theorem dX4_stepsUp_4 : decode cX4_stepsUp 4 = .ok (.iconst 0, 1) := dk_3 (dk_at dksX4_stepsUp_0 4 rfl rfl)
theorem dX4_stepsUp_5 : decode cX4_stepsUp 5 = .ok (.istore 4, 2) := dk_54 4 (dk_at dksX4_stepsUp_0 5 rfl rfl)
theorem dX4_stepsUp_7 : decode cX4_stepsUp 7 = .ok (.iload 4, 2) := dk_21 4 (dk_at dksX4_stepsUp_0 7 rfl rfl)
theorem dX4_stepsUp_9 : decode cX4_stepsUp 9 = .ok (.bipush 8, 2) := dk_16 8 (dk_at dksX4_stepsUp_0 9 rfl rfl)
theorem dX4_stepsUp_11 : decode cX4_stepsUp 11 = .ok (.if_icmp .gt 26, 3) := dk_163 0 26 (dk_at dksX4_stepsUp_0 11 rfl rfl)
theorem dX4_stepsUp_14 : decode cX4_stepsUp 14 = .ok (.iload_n 3, 1) := dk_29 (dk_at dksX4_stepsUp_0 14 rfl rfl)
theorem dX4_stepsUp_15 : decode cX4_stepsUp 15 = .ok (.iload_n 2, 1) := dk_28 (dk_at dksX4_stepsUp_0 15 rfl rfl)
theorem dX4_stepsUp_16 : decode cX4_stepsUp 16 = .ok (.invokestatic 250, 3) := dk_184 0 250 (dk_at dksX4_stepsUp_0 16 rfl rfl)
theorem dX4_stepsUp_19 : decode cX4_stepsUp 19 = .ok (.ifCond .eq 6, 3) := dk_153 0 6 (dk_at dksX4_stepsUp_0 19 rfl rfl)
theorem dX4_stepsUp_22 : decode cX4_stepsUp 22 = .ok (.iload 4, 2) := dk_21 4 (dk_at dksX4_stepsUp_0 22 rfl rfl)
theorem dX4_stepsUp_24 : decode cX4_stepsUp 24 = .ok (.ireturn, 1) := dk_172 (dk_at dksX4_stepsUp_1 0 rfl rfl)
theorem dX4_stepsUp_25 : decode cX4_stepsUp 25 = .ok (.aload_n 0, 1) := dk_42 (dk_at dksX4_stepsUp_1 1 rfl rfl)
theorem dX4_stepsUp_26 : decode cX4_stepsUp 26 = .ok (.iload_n 3, 1) := dk_29 (dk_at dksX4_stepsUp_1 2 rfl rfl)
theorem dX4_stepsUp_27 : decode cX4_stepsUp 27 = .ok (.invokevirtual 466, 3) := dk_182 1 210 (dk_at dksX4_stepsUp_1 3 rfl rfl)
theorem dX4_stepsUp_30 : decode cX4_stepsUp 30 = .ok (.istore_n 3, 1) := dk_62 (dk_at dksX4_stepsUp_1 6 rfl rfl)
theorem dX4_stepsUp_31 : decode cX4_stepsUp 31 = .ok (.iinc 4 1, 3) := dk_132 4 1 (dk_at dksX4_stepsUp_1 7 rfl rfl)
theorem dX4_stepsUp_34 : decode cX4_stepsUp 34 = .ok (.goto (-27), 3) := dk_167 255 229 (dk_at dksX4_stepsUp_1 10 rfl rfl)
theorem dX4_stepsUp_37 : decode cX4_stepsUp 37 = .ok (.sipush 1000, 3) := dk_17 3 232 (dk_at dksX4_stepsUp_1 13 rfl rfl)
theorem dX4_stepsUp_40 : decode cX4_stepsUp 40 = .ok (.ireturn, 1) := dk_172 (dk_at dksX4_stepsUp_1 16 rfl rfl)
abbrev cX4_held : ByteArray := prog_22_method_115_code
def yX4_held : MethodName := ⟨RX4, "held", "(IIZ)I"⟩
def dkwX4_held_4 : List UInt8 := [96, 181, 1, 113, 42, 180, 1, 113, 4, 100, 172]
abbrev dktX4_held_4 : List UInt8 := dkwX4_held_4 ++ []
def dkwX4_held_3 : List UInt8 := [180, 1, 113, 42, 180, 1, 219, 79, 42, 180, 0, 112, 42, 180, 1, 113, 2, 79, 42, 89, 180, 1, 113, 4]
abbrev dktX4_held_3 : List UInt8 := dkwX4_held_3 ++ dktX4_held_4
def dkwX4_held_2 : List UInt8 := [79, 42, 180, 0, 106, 42, 180, 1, 113, 29, 153, 0, 7, 4, 167, 0, 4, 3, 79, 42, 180, 0, 109, 42]
abbrev dktX4_held_2 : List UInt8 := dkwX4_held_2 ++ dktX4_held_3
def dkwX4_held_1 : List UInt8 := [160, 0, 5, 2, 172, 42, 180, 0, 100, 42, 180, 1, 113, 27, 79, 42, 180, 0, 103, 42, 180, 1, 113, 28]
abbrev dktX4_held_1 : List UInt8 := dkwX4_held_1 ++ dktX4_held_2
def dkwX4_held_0 : List UInt8 := [42, 27, 182, 1, 216, 153, 0, 22, 28, 3, 16, 6, 184, 1, 90, 153, 0, 12, 42, 180, 1, 113, 16, 30]
abbrev dktX4_held_0 : List UInt8 := dkwX4_held_0 ++ dktX4_held_1
theorem dksX4_held_0 : cX4_held.data.toList.drop 0 = dktX4_held_0 := by decide +kernel
theorem dksX4_held_1 : cX4_held.data.toList.drop 24 = dktX4_held_1 := dk_seg dksX4_held_0 24 rfl rfl
theorem dksX4_held_2 : cX4_held.data.toList.drop 48 = dktX4_held_2 := dk_seg dksX4_held_1 24 rfl rfl
theorem dksX4_held_3 : cX4_held.data.toList.drop 72 = dktX4_held_3 := dk_seg dksX4_held_2 24 rfl rfl
theorem dksX4_held_4 : cX4_held.data.toList.drop 96 = dktX4_held_4 := dk_seg dksX4_held_3 24 rfl rfl
theorem dX4_held_0 : decode cX4_held 0 = .ok (.aload_n 0, 1) := dk_42 (dk_at dksX4_held_0 0 rfl rfl)
theorem dX4_held_1 : decode cX4_held 1 = .ok (.iload_n 1, 1) := dk_27 (dk_at dksX4_held_0 1 rfl rfl)
theorem dX4_held_2 : decode cX4_held 2 = .ok (.invokevirtual 472, 3) := dk_182 1 216 (dk_at dksX4_held_0 2 rfl rfl)
theorem dX4_held_5 : decode cX4_held 5 = .ok (.ifCond .eq 22, 3) := dk_153 0 22 (dk_at dksX4_held_0 5 rfl rfl)
theorem dX4_held_8 : decode cX4_held 8 = .ok (.iload_n 2, 1) := dk_28 (dk_at dksX4_held_0 8 rfl rfl)
theorem dX4_held_9 : decode cX4_held 9 = .ok (.iconst 0, 1) := dk_3 (dk_at dksX4_held_0 9 rfl rfl)
theorem dX4_held_10 : decode cX4_held 10 = .ok (.bipush 6, 2) := dk_16 6 (dk_at dksX4_held_0 10 rfl rfl)
theorem dX4_held_12 : decode cX4_held 12 = .ok (.invokestatic 346, 3) := dk_184 1 90 (dk_at dksX4_held_0 12 rfl rfl)
theorem dX4_held_15 : decode cX4_held 15 = .ok (.ifCond .eq 12, 3) := dk_153 0 12 (dk_at dksX4_held_0 15 rfl rfl)
theorem dX4_held_18 : decode cX4_held 18 = .ok (.aload_n 0, 1) := dk_42 (dk_at dksX4_held_0 18 rfl rfl)
theorem dX4_held_19 : decode cX4_held 19 = .ok (.getfield 369, 3) := dk_180 1 113 (dk_at dksX4_held_0 19 rfl rfl)
theorem dX4_held_22 : decode cX4_held 22 = .ok (.bipush 30, 2) := dk_16 30 (dk_at dksX4_held_0 22 rfl rfl)
theorem dX4_held_24 : decode cX4_held 24 = .ok (.if_icmp .ne 5, 3) := dk_160 0 5 (dk_at dksX4_held_1 0 rfl rfl)
theorem dX4_held_27 : decode cX4_held 27 = .ok (.iconst (-1), 1) := dk_2 (dk_at dksX4_held_1 3 rfl rfl)
theorem dX4_held_28 : decode cX4_held 28 = .ok (.ireturn, 1) := dk_172 (dk_at dksX4_held_1 4 rfl rfl)
theorem dX4_held_29 : decode cX4_held 29 = .ok (.aload_n 0, 1) := dk_42 (dk_at dksX4_held_1 5 rfl rfl)
theorem dX4_held_30 : decode cX4_held 30 = .ok (.getfield 100, 3) := dk_180 0 100 (dk_at dksX4_held_1 6 rfl rfl)
theorem dX4_held_33 : decode cX4_held 33 = .ok (.aload_n 0, 1) := dk_42 (dk_at dksX4_held_1 9 rfl rfl)
theorem dX4_held_34 : decode cX4_held 34 = .ok (.getfield 369, 3) := dk_180 1 113 (dk_at dksX4_held_1 10 rfl rfl)
theorem dX4_held_37 : decode cX4_held 37 = .ok (.iload_n 1, 1) := dk_27 (dk_at dksX4_held_1 13 rfl rfl)
theorem dX4_held_38 : decode cX4_held 38 = .ok (.iastore, 1) := dk_79 (dk_at dksX4_held_1 14 rfl rfl)
theorem dX4_held_39 : decode cX4_held 39 = .ok (.aload_n 0, 1) := dk_42 (dk_at dksX4_held_1 15 rfl rfl)
theorem dX4_held_40 : decode cX4_held 40 = .ok (.getfield 103, 3) := dk_180 0 103 (dk_at dksX4_held_1 16 rfl rfl)
theorem dX4_held_43 : decode cX4_held 43 = .ok (.aload_n 0, 1) := dk_42 (dk_at dksX4_held_1 19 rfl rfl)
theorem dX4_held_44 : decode cX4_held 44 = .ok (.getfield 369, 3) := dk_180 1 113 (dk_at dksX4_held_1 20 rfl rfl)
theorem dX4_held_47 : decode cX4_held 47 = .ok (.iload_n 2, 1) := dk_28 (dk_at dksX4_held_1 23 rfl rfl)
theorem dX4_held_48 : decode cX4_held 48 = .ok (.iastore, 1) := dk_79 (dk_at dksX4_held_2 0 rfl rfl)
theorem dX4_held_49 : decode cX4_held 49 = .ok (.aload_n 0, 1) := dk_42 (dk_at dksX4_held_2 1 rfl rfl)
theorem dX4_held_50 : decode cX4_held 50 = .ok (.getfield 106, 3) := dk_180 0 106 (dk_at dksX4_held_2 2 rfl rfl)
theorem dX4_held_53 : decode cX4_held 53 = .ok (.aload_n 0, 1) := dk_42 (dk_at dksX4_held_2 5 rfl rfl)
theorem dX4_held_54 : decode cX4_held 54 = .ok (.getfield 369, 3) := dk_180 1 113 (dk_at dksX4_held_2 6 rfl rfl)
theorem dX4_held_57 : decode cX4_held 57 = .ok (.iload_n 3, 1) := dk_29 (dk_at dksX4_held_2 9 rfl rfl)
theorem dX4_held_58 : decode cX4_held 58 = .ok (.ifCond .eq 7, 3) := dk_153 0 7 (dk_at dksX4_held_2 10 rfl rfl)
theorem dX4_held_61 : decode cX4_held 61 = .ok (.iconst 1, 1) := dk_4 (dk_at dksX4_held_2 13 rfl rfl)
theorem dX4_held_62 : decode cX4_held 62 = .ok (.goto 4, 3) := dk_167 0 4 (dk_at dksX4_held_2 14 rfl rfl)
theorem dX4_held_65 : decode cX4_held 65 = .ok (.iconst 0, 1) := dk_3 (dk_at dksX4_held_2 17 rfl rfl)
theorem dX4_held_66 : decode cX4_held 66 = .ok (.iastore, 1) := dk_79 (dk_at dksX4_held_2 18 rfl rfl)
theorem dX4_held_67 : decode cX4_held 67 = .ok (.aload_n 0, 1) := dk_42 (dk_at dksX4_held_2 19 rfl rfl)
theorem dX4_held_68 : decode cX4_held 68 = .ok (.getfield 109, 3) := dk_180 0 109 (dk_at dksX4_held_2 20 rfl rfl)
theorem dX4_held_71 : decode cX4_held 71 = .ok (.aload_n 0, 1) := dk_42 (dk_at dksX4_held_2 23 rfl rfl)
theorem dX4_held_72 : decode cX4_held 72 = .ok (.getfield 369, 3) := dk_180 1 113 (dk_at dksX4_held_3 0 rfl rfl)
theorem dX4_held_75 : decode cX4_held 75 = .ok (.aload_n 0, 1) := dk_42 (dk_at dksX4_held_3 3 rfl rfl)
theorem dX4_held_76 : decode cX4_held 76 = .ok (.getfield 475, 3) := dk_180 1 219 (dk_at dksX4_held_3 4 rfl rfl)
theorem dX4_held_79 : decode cX4_held 79 = .ok (.iastore, 1) := dk_79 (dk_at dksX4_held_3 7 rfl rfl)
theorem dX4_held_80 : decode cX4_held 80 = .ok (.aload_n 0, 1) := dk_42 (dk_at dksX4_held_3 8 rfl rfl)
theorem dX4_held_81 : decode cX4_held 81 = .ok (.getfield 112, 3) := dk_180 0 112 (dk_at dksX4_held_3 9 rfl rfl)
theorem dX4_held_84 : decode cX4_held 84 = .ok (.aload_n 0, 1) := dk_42 (dk_at dksX4_held_3 12 rfl rfl)
theorem dX4_held_85 : decode cX4_held 85 = .ok (.getfield 369, 3) := dk_180 1 113 (dk_at dksX4_held_3 13 rfl rfl)
theorem dX4_held_88 : decode cX4_held 88 = .ok (.iconst (-1), 1) := dk_2 (dk_at dksX4_held_3 16 rfl rfl)
theorem dX4_held_89 : decode cX4_held 89 = .ok (.iastore, 1) := dk_79 (dk_at dksX4_held_3 17 rfl rfl)
theorem dX4_held_90 : decode cX4_held 90 = .ok (.aload_n 0, 1) := dk_42 (dk_at dksX4_held_3 18 rfl rfl)
theorem dX4_held_91 : decode cX4_held 91 = .ok (.dup, 1) := dk_89 (dk_at dksX4_held_3 19 rfl rfl)
theorem dX4_held_92 : decode cX4_held 92 = .ok (.getfield 369, 3) := dk_180 1 113 (dk_at dksX4_held_3 20 rfl rfl)
theorem dX4_held_95 : decode cX4_held 95 = .ok (.iconst 1, 1) := dk_4 (dk_at dksX4_held_3 23 rfl rfl)
theorem dX4_held_96 : decode cX4_held 96 = .ok (.iadd, 1) := dk_96 (dk_at dksX4_held_4 0 rfl rfl)
theorem dX4_held_97 : decode cX4_held 97 = .ok (.putfield 369, 3) := dk_181 1 113 (dk_at dksX4_held_4 1 rfl rfl)
theorem dX4_held_100 : decode cX4_held 100 = .ok (.aload_n 0, 1) := dk_42 (dk_at dksX4_held_4 4 rfl rfl)
theorem dX4_held_101 : decode cX4_held 101 = .ok (.getfield 369, 3) := dk_180 1 113 (dk_at dksX4_held_4 5 rfl rfl)
theorem dX4_held_104 : decode cX4_held 104 = .ok (.iconst 1, 1) := dk_4 (dk_at dksX4_held_4 8 rfl rfl)
theorem dX4_held_105 : decode cX4_held 105 = .ok (.isub, 1) := dk_100 (dk_at dksX4_held_4 9 rfl rfl)
theorem dX4_held_106 : decode cX4_held 106 = .ok (.ireturn, 1) := dk_172 (dk_at dksX4_held_4 10 rfl rfl)
abbrev cX4_isOther : ByteArray := prog_22_method_113_code
def yX4_isOther : MethodName := ⟨RX4, "isOther", "(I)Z"⟩
def dkwX4_isOther_0 : List UInt8 := [27, 3, 42, 180, 0, 24, 42, 180, 0, 244, 46, 5, 100, 184, 1, 90, 172]
abbrev dktX4_isOther_0 : List UInt8 := dkwX4_isOther_0 ++ []
theorem dksX4_isOther_0 : cX4_isOther.data.toList.drop 0 = dktX4_isOther_0 := by decide +kernel
theorem dX4_isOther_0 : decode cX4_isOther 0 = .ok (.iload_n 1, 1) := dk_27 (dk_at dksX4_isOther_0 0 rfl rfl)
theorem dX4_isOther_1 : decode cX4_isOther 1 = .ok (.iconst 0, 1) := dk_3 (dk_at dksX4_isOther_0 1 rfl rfl)
theorem dX4_isOther_2 : decode cX4_isOther 2 = .ok (.aload_n 0, 1) := dk_42 (dk_at dksX4_isOther_0 2 rfl rfl)
theorem dX4_isOther_3 : decode cX4_isOther 3 = .ok (.getfield 24, 3) := dk_180 0 24 (dk_at dksX4_isOther_0 3 rfl rfl)
theorem dX4_isOther_6 : decode cX4_isOther 6 = .ok (.aload_n 0, 1) := dk_42 (dk_at dksX4_isOther_0 6 rfl rfl)
theorem dX4_isOther_7 : decode cX4_isOther 7 = .ok (.getfield 244, 3) := dk_180 0 244 (dk_at dksX4_isOther_0 7 rfl rfl)
theorem dX4_isOther_10 : decode cX4_isOther 10 = .ok (.iaload, 1) := dk_46 (dk_at dksX4_isOther_0 10 rfl rfl)
theorem dX4_isOther_11 : decode cX4_isOther 11 = .ok (.iconst 2, 1) := dk_5 (dk_at dksX4_isOther_0 11 rfl rfl)
theorem dX4_isOther_12 : decode cX4_isOther 12 = .ok (.isub, 1) := dk_100 (dk_at dksX4_isOther_0 12 rfl rfl)
theorem dX4_isOther_13 : decode cX4_isOther 13 = .ok (.invokestatic 346, 3) := dk_184 1 90 (dk_at dksX4_isOther_0 13 rfl rfl)
theorem dX4_isOther_16 : decode cX4_isOther 16 = .ok (.ireturn, 1) := dk_172 (dk_at dksX4_isOther_0 16 rfl rfl)
abbrev cX4_untell : ByteArray := prog_22_method_116_code
def yX4_untell : MethodName := ⟨RX4, "untell", "(I)Z"⟩
def dkwX4_untell_1 : List UInt8 := [172, 42, 180, 0, 112, 27, 42, 180, 1, 219, 79, 4, 172]
abbrev dktX4_untell_1 : List UInt8 := dkwX4_untell_1 ++ []
def dkwX4_untell_0 : List UInt8 := [27, 3, 42, 180, 1, 113, 4, 100, 184, 1, 90, 153, 0, 12, 42, 180, 0, 112, 27, 46, 155, 0, 5, 3]
abbrev dktX4_untell_0 : List UInt8 := dkwX4_untell_0 ++ dktX4_untell_1
theorem dksX4_untell_0 : cX4_untell.data.toList.drop 0 = dktX4_untell_0 := by decide +kernel
theorem dksX4_untell_1 : cX4_untell.data.toList.drop 24 = dktX4_untell_1 := dk_seg dksX4_untell_0 24 rfl rfl
theorem dX4_untell_0 : decode cX4_untell 0 = .ok (.iload_n 1, 1) := dk_27 (dk_at dksX4_untell_0 0 rfl rfl)
theorem dX4_untell_1 : decode cX4_untell 1 = .ok (.iconst 0, 1) := dk_3 (dk_at dksX4_untell_0 1 rfl rfl)
theorem dX4_untell_2 : decode cX4_untell 2 = .ok (.aload_n 0, 1) := dk_42 (dk_at dksX4_untell_0 2 rfl rfl)
theorem dX4_untell_3 : decode cX4_untell 3 = .ok (.getfield 369, 3) := dk_180 1 113 (dk_at dksX4_untell_0 3 rfl rfl)
theorem dX4_untell_6 : decode cX4_untell 6 = .ok (.iconst 1, 1) := dk_4 (dk_at dksX4_untell_0 6 rfl rfl)
theorem dX4_untell_7 : decode cX4_untell 7 = .ok (.isub, 1) := dk_100 (dk_at dksX4_untell_0 7 rfl rfl)
theorem dX4_untell_8 : decode cX4_untell 8 = .ok (.invokestatic 346, 3) := dk_184 1 90 (dk_at dksX4_untell_0 8 rfl rfl)
theorem dX4_untell_11 : decode cX4_untell 11 = .ok (.ifCond .eq 12, 3) := dk_153 0 12 (dk_at dksX4_untell_0 11 rfl rfl)
theorem dX4_untell_14 : decode cX4_untell 14 = .ok (.aload_n 0, 1) := dk_42 (dk_at dksX4_untell_0 14 rfl rfl)
theorem dX4_untell_15 : decode cX4_untell 15 = .ok (.getfield 112, 3) := dk_180 0 112 (dk_at dksX4_untell_0 15 rfl rfl)
theorem dX4_untell_18 : decode cX4_untell 18 = .ok (.iload_n 1, 1) := dk_27 (dk_at dksX4_untell_0 18 rfl rfl)
theorem dX4_untell_19 : decode cX4_untell 19 = .ok (.iaload, 1) := dk_46 (dk_at dksX4_untell_0 19 rfl rfl)
theorem dX4_untell_20 : decode cX4_untell 20 = .ok (.ifCond .lt 5, 3) := dk_155 0 5 (dk_at dksX4_untell_0 20 rfl rfl)
theorem dX4_untell_23 : decode cX4_untell 23 = .ok (.iconst 0, 1) := dk_3 (dk_at dksX4_untell_0 23 rfl rfl)
theorem dX4_untell_24 : decode cX4_untell 24 = .ok (.ireturn, 1) := dk_172 (dk_at dksX4_untell_1 0 rfl rfl)
theorem dX4_untell_25 : decode cX4_untell 25 = .ok (.aload_n 0, 1) := dk_42 (dk_at dksX4_untell_1 1 rfl rfl)
theorem dX4_untell_26 : decode cX4_untell 26 = .ok (.getfield 112, 3) := dk_180 0 112 (dk_at dksX4_untell_1 2 rfl rfl)
theorem dX4_untell_29 : decode cX4_untell 29 = .ok (.iload_n 1, 1) := dk_27 (dk_at dksX4_untell_1 5 rfl rfl)
theorem dX4_untell_30 : decode cX4_untell 30 = .ok (.aload_n 0, 1) := dk_42 (dk_at dksX4_untell_1 6 rfl rfl)
theorem dX4_untell_31 : decode cX4_untell 31 = .ok (.getfield 475, 3) := dk_180 1 219 (dk_at dksX4_untell_1 7 rfl rfl)
theorem dX4_untell_34 : decode cX4_untell 34 = .ok (.iastore, 1) := dk_79 (dk_at dksX4_untell_1 10 rfl rfl)
theorem dX4_untell_35 : decode cX4_untell 35 = .ok (.iconst 1, 1) := dk_4 (dk_at dksX4_untell_1 11 rfl rfl)
theorem dX4_untell_36 : decode cX4_untell 36 = .ok (.ireturn, 1) := dk_172 (dk_at dksX4_untell_1 12 rfl rfl)
abbrev cX4_later : ByteArray := prog_22_method_117_code
def yX4_later : MethodName := ⟨RX4, "later", "(I)I"⟩
def dkwX4_later_1 : List UInt8 := [172, 42, 89, 180, 1, 219, 27, 96, 181, 1, 219, 42, 180, 1, 219, 172]
abbrev dktX4_later_1 : List UInt8 := dkwX4_later_1 ++ []
def dkwX4_later_0 : List UInt8 := [27, 3, 17, 3, 232, 184, 1, 90, 153, 0, 15, 42, 180, 1, 219, 27, 96, 19, 1, 222, 164, 0, 5, 2]
abbrev dktX4_later_0 : List UInt8 := dkwX4_later_0 ++ dktX4_later_1
theorem dksX4_later_0 : cX4_later.data.toList.drop 0 = dktX4_later_0 := by decide +kernel
theorem dksX4_later_1 : cX4_later.data.toList.drop 24 = dktX4_later_1 := dk_seg dksX4_later_0 24 rfl rfl
theorem dX4_later_0 : decode cX4_later 0 = .ok (.iload_n 1, 1) := dk_27 (dk_at dksX4_later_0 0 rfl rfl)
theorem dX4_later_1 : decode cX4_later 1 = .ok (.iconst 0, 1) := dk_3 (dk_at dksX4_later_0 1 rfl rfl)
theorem dX4_later_2 : decode cX4_later 2 = .ok (.sipush 1000, 3) := dk_17 3 232 (dk_at dksX4_later_0 2 rfl rfl)
theorem dX4_later_5 : decode cX4_later 5 = .ok (.invokestatic 346, 3) := dk_184 1 90 (dk_at dksX4_later_0 5 rfl rfl)
theorem dX4_later_8 : decode cX4_later 8 = .ok (.ifCond .eq 15, 3) := dk_153 0 15 (dk_at dksX4_later_0 8 rfl rfl)
theorem dX4_later_11 : decode cX4_later 11 = .ok (.aload_n 0, 1) := dk_42 (dk_at dksX4_later_0 11 rfl rfl)
theorem dX4_later_12 : decode cX4_later 12 = .ok (.getfield 475, 3) := dk_180 1 219 (dk_at dksX4_later_0 12 rfl rfl)
theorem dX4_later_15 : decode cX4_later 15 = .ok (.iload_n 1, 1) := dk_27 (dk_at dksX4_later_0 15 rfl rfl)
theorem dX4_later_16 : decode cX4_later 16 = .ok (.iadd, 1) := dk_96 (dk_at dksX4_later_0 16 rfl rfl)
theorem dX4_later_17 : decode cX4_later 17 = .ok (.ldc_w 478, 3) := dk_19 1 222 (dk_at dksX4_later_0 17 rfl rfl)
theorem dX4_later_20 : decode cX4_later 20 = .ok (.if_icmp .le 5, 3) := dk_164 0 5 (dk_at dksX4_later_0 20 rfl rfl)
theorem dX4_later_23 : decode cX4_later 23 = .ok (.iconst (-1), 1) := dk_2 (dk_at dksX4_later_0 23 rfl rfl)
theorem dX4_later_24 : decode cX4_later 24 = .ok (.ireturn, 1) := dk_172 (dk_at dksX4_later_1 0 rfl rfl)
theorem dX4_later_25 : decode cX4_later 25 = .ok (.aload_n 0, 1) := dk_42 (dk_at dksX4_later_1 1 rfl rfl)
theorem dX4_later_26 : decode cX4_later 26 = .ok (.dup, 1) := dk_89 (dk_at dksX4_later_1 2 rfl rfl)
theorem dX4_later_27 : decode cX4_later 27 = .ok (.getfield 475, 3) := dk_180 1 219 (dk_at dksX4_later_1 3 rfl rfl)
theorem dX4_later_30 : decode cX4_later 30 = .ok (.iload_n 1, 1) := dk_27 (dk_at dksX4_later_1 6 rfl rfl)
theorem dX4_later_31 : decode cX4_later 31 = .ok (.iadd, 1) := dk_96 (dk_at dksX4_later_1 7 rfl rfl)
theorem dX4_later_32 : decode cX4_later 32 = .ok (.putfield 475, 3) := dk_181 1 219 (dk_at dksX4_later_1 8 rfl rfl)
theorem dX4_later_35 : decode cX4_later 35 = .ok (.aload_n 0, 1) := dk_42 (dk_at dksX4_later_1 11 rfl rfl)
theorem dX4_later_36 : decode cX4_later 36 = .ok (.getfield 475, 3) := dk_180 1 219 (dk_at dksX4_later_1 12 rfl rfl)
theorem dX4_later_39 : decode cX4_later 39 = .ok (.ireturn, 1) := dk_172 (dk_at dksX4_later_1 15 rfl rfl)
abbrev cX4_fits : ByteArray := prog_22_method_119_code
def yX4_fits : MethodName := ⟨RX4, "fits", "(I)I"⟩
def dkwX4_fits_3 : List UInt8 := [172]
abbrev dktX4_fits_3 : List UInt8 := dkwX4_fits_3 ++ []
def dkwX4_fits_2 : List UInt8 := [28, 51, 153, 0, 7, 4, 167, 0, 4, 3, 96, 181, 1, 226, 132, 2, 1, 167, 255, 200, 42, 180, 1, 226]
abbrev dktX4_fits_2 : List UInt8 := dkwX4_fits_2 ++ dktX4_fits_3
def dkwX4_fits_1 : List UInt8 := [158, 0, 44, 42, 180, 0, 118, 28, 42, 28, 27, 182, 1, 229, 84, 42, 89, 180, 1, 226, 42, 180, 0, 118]
abbrev dktX4_fits_1 : List UInt8 := dkwX4_fits_1 ++ dktX4_fits_2
def dkwX4_fits_0 : List UInt8 := [42, 3, 181, 1, 226, 3, 61, 28, 16, 64, 162, 0, 56, 42, 180, 0, 24, 42, 180, 0, 244, 46]
abbrev dktX4_fits_0 : List UInt8 := dkwX4_fits_0 ++ dktX4_fits_1
theorem dksX4_fits_0 : cX4_fits.data.toList.drop 0 = dktX4_fits_0 := by decide +kernel
theorem dksX4_fits_1 : cX4_fits.data.toList.drop 22 = dktX4_fits_1 := dk_seg dksX4_fits_0 22 rfl rfl
theorem dksX4_fits_2 : cX4_fits.data.toList.drop 46 = dktX4_fits_2 := dk_seg dksX4_fits_1 24 rfl rfl
theorem dksX4_fits_3 : cX4_fits.data.toList.drop 70 = dktX4_fits_3 := dk_seg dksX4_fits_2 24 rfl rfl
theorem dX4_fits_0 : decode cX4_fits 0 = .ok (.aload_n 0, 1) := dk_42 (dk_at dksX4_fits_0 0 rfl rfl)
theorem dX4_fits_1 : decode cX4_fits 1 = .ok (.iconst 0, 1) := dk_3 (dk_at dksX4_fits_0 1 rfl rfl)
theorem dX4_fits_2 : decode cX4_fits 2 = .ok (.putfield 482, 3) := dk_181 1 226 (dk_at dksX4_fits_0 2 rfl rfl)
theorem dX4_fits_5 : decode cX4_fits 5 = .ok (.iconst 0, 1) := dk_3 (dk_at dksX4_fits_0 5 rfl rfl)
theorem dX4_fits_6 : decode cX4_fits 6 = .ok (.istore_n 2, 1) := dk_61 (dk_at dksX4_fits_0 6 rfl rfl)
theorem dX4_fits_7 : decode cX4_fits 7 = .ok (.iload_n 2, 1) := dk_28 (dk_at dksX4_fits_0 7 rfl rfl)
theorem dX4_fits_8 : decode cX4_fits 8 = .ok (.bipush 64, 2) := dk_16 64 (dk_at dksX4_fits_0 8 rfl rfl)
theorem dX4_fits_10 : decode cX4_fits 10 = .ok (.if_icmp .ge 56, 3) := dk_162 0 56 (dk_at dksX4_fits_0 10 rfl rfl)
theorem dX4_fits_13 : decode cX4_fits 13 = .ok (.aload_n 0, 1) := dk_42 (dk_at dksX4_fits_0 13 rfl rfl)
theorem dX4_fits_14 : decode cX4_fits 14 = .ok (.getfield 24, 3) := dk_180 0 24 (dk_at dksX4_fits_0 14 rfl rfl)
theorem dX4_fits_17 : decode cX4_fits 17 = .ok (.aload_n 0, 1) := dk_42 (dk_at dksX4_fits_0 17 rfl rfl)
theorem dX4_fits_18 : decode cX4_fits 18 = .ok (.getfield 244, 3) := dk_180 0 244 (dk_at dksX4_fits_0 18 rfl rfl)
theorem dX4_fits_21 : decode cX4_fits 21 = .ok (.iaload, 1) := dk_46 (dk_at dksX4_fits_0 21 rfl rfl)
theorem dX4_fits_22 : decode cX4_fits 22 = .ok (.ifCond .le 44, 3) := dk_158 0 44 (dk_at dksX4_fits_1 0 rfl rfl)
theorem dX4_fits_25 : decode cX4_fits 25 = .ok (.aload_n 0, 1) := dk_42 (dk_at dksX4_fits_1 3 rfl rfl)
theorem dX4_fits_26 : decode cX4_fits 26 = .ok (.getfield 118, 3) := dk_180 0 118 (dk_at dksX4_fits_1 4 rfl rfl)
theorem dX4_fits_29 : decode cX4_fits 29 = .ok (.iload_n 2, 1) := dk_28 (dk_at dksX4_fits_1 7 rfl rfl)
theorem dX4_fits_30 : decode cX4_fits 30 = .ok (.aload_n 0, 1) := dk_42 (dk_at dksX4_fits_1 8 rfl rfl)
theorem dX4_fits_31 : decode cX4_fits 31 = .ok (.iload_n 2, 1) := dk_28 (dk_at dksX4_fits_1 9 rfl rfl)
theorem dX4_fits_32 : decode cX4_fits 32 = .ok (.iload_n 1, 1) := dk_27 (dk_at dksX4_fits_1 10 rfl rfl)
theorem dX4_fits_33 : decode cX4_fits 33 = .ok (.invokevirtual 485, 3) := dk_182 1 229 (dk_at dksX4_fits_1 11 rfl rfl)
theorem dX4_fits_36 : decode cX4_fits 36 = .ok (.bastore, 1) := dk_84 (dk_at dksX4_fits_1 14 rfl rfl)
theorem dX4_fits_37 : decode cX4_fits 37 = .ok (.aload_n 0, 1) := dk_42 (dk_at dksX4_fits_1 15 rfl rfl)
theorem dX4_fits_38 : decode cX4_fits 38 = .ok (.dup, 1) := dk_89 (dk_at dksX4_fits_1 16 rfl rfl)
theorem dX4_fits_39 : decode cX4_fits 39 = .ok (.getfield 482, 3) := dk_180 1 226 (dk_at dksX4_fits_1 17 rfl rfl)
theorem dX4_fits_42 : decode cX4_fits 42 = .ok (.aload_n 0, 1) := dk_42 (dk_at dksX4_fits_1 20 rfl rfl)
theorem dX4_fits_43 : decode cX4_fits 43 = .ok (.getfield 118, 3) := dk_180 0 118 (dk_at dksX4_fits_1 21 rfl rfl)
theorem dX4_fits_46 : decode cX4_fits 46 = .ok (.iload_n 2, 1) := dk_28 (dk_at dksX4_fits_2 0 rfl rfl)
theorem dX4_fits_47 : decode cX4_fits 47 = .ok (.baload, 1) := dk_51 (dk_at dksX4_fits_2 1 rfl rfl)
theorem dX4_fits_48 : decode cX4_fits 48 = .ok (.ifCond .eq 7, 3) := dk_153 0 7 (dk_at dksX4_fits_2 2 rfl rfl)
theorem dX4_fits_51 : decode cX4_fits 51 = .ok (.iconst 1, 1) := dk_4 (dk_at dksX4_fits_2 5 rfl rfl)
theorem dX4_fits_52 : decode cX4_fits 52 = .ok (.goto 4, 3) := dk_167 0 4 (dk_at dksX4_fits_2 6 rfl rfl)
theorem dX4_fits_55 : decode cX4_fits 55 = .ok (.iconst 0, 1) := dk_3 (dk_at dksX4_fits_2 9 rfl rfl)
theorem dX4_fits_56 : decode cX4_fits 56 = .ok (.iadd, 1) := dk_96 (dk_at dksX4_fits_2 10 rfl rfl)
theorem dX4_fits_57 : decode cX4_fits 57 = .ok (.putfield 482, 3) := dk_181 1 226 (dk_at dksX4_fits_2 11 rfl rfl)
theorem dX4_fits_60 : decode cX4_fits 60 = .ok (.iinc 2 1, 3) := dk_132 2 1 (dk_at dksX4_fits_2 14 rfl rfl)
theorem dX4_fits_63 : decode cX4_fits 63 = .ok (.goto (-56), 3) := dk_167 255 200 (dk_at dksX4_fits_2 17 rfl rfl)
theorem dX4_fits_66 : decode cX4_fits 66 = .ok (.aload_n 0, 1) := dk_42 (dk_at dksX4_fits_2 20 rfl rfl)
theorem dX4_fits_67 : decode cX4_fits 67 = .ok (.getfield 482, 3) := dk_180 1 226 (dk_at dksX4_fits_2 21 rfl rfl)
theorem dX4_fits_70 : decode cX4_fits 70 = .ok (.ireturn, 1) := dk_172 (dk_at dksX4_fits_3 0 rfl rfl)
abbrev cX4_doesFit : ByteArray := prog_22_method_118_code
def yX4_doesFit : MethodName := ⟨RX4, "doesFit", "(II)Z"⟩
def dkwX4_doesFit_3 : List UInt8 := [180, 0, 106, 29, 46, 159, 0, 5, 3, 172, 132, 3, 1, 167, 255, 173, 4, 172]
abbrev dktX4_doesFit_3 : List UInt8 := dkwX4_doesFit_3 ++ []
def dkwX4_doesFit_2 : List UInt8 := [29, 46, 182, 1, 223, 42, 180, 0, 103, 29, 46, 161, 0, 7, 4, 167, 0, 4, 3, 54, 4, 21, 4, 42]
abbrev dktX4_doesFit_2 : List UInt8 := dkwX4_doesFit_2 ++ dktX4_doesFit_3
def dkwX4_doesFit_1 : List UInt8 := [29, 46, 155, 0, 16, 42, 180, 0, 112, 29, 46, 28, 163, 0, 6, 167, 0, 43, 42, 27, 42, 180, 0, 100]
abbrev dktX4_doesFit_1 : List UInt8 := dkwX4_doesFit_1 ++ dktX4_doesFit_2
def dkwX4_doesFit_0 : List UInt8 := [3, 62, 29, 42, 180, 1, 113, 162, 0, 81, 42, 180, 0, 109, 29, 46, 28, 163, 0, 65, 42, 180, 0, 112]
abbrev dktX4_doesFit_0 : List UInt8 := dkwX4_doesFit_0 ++ dktX4_doesFit_1
theorem dksX4_doesFit_0 : cX4_doesFit.data.toList.drop 0 = dktX4_doesFit_0 := by decide +kernel
theorem dksX4_doesFit_1 : cX4_doesFit.data.toList.drop 24 = dktX4_doesFit_1 := dk_seg dksX4_doesFit_0 24 rfl rfl
theorem dksX4_doesFit_2 : cX4_doesFit.data.toList.drop 48 = dktX4_doesFit_2 := dk_seg dksX4_doesFit_1 24 rfl rfl
theorem dksX4_doesFit_3 : cX4_doesFit.data.toList.drop 72 = dktX4_doesFit_3 := dk_seg dksX4_doesFit_2 24 rfl rfl
theorem dX4_doesFit_0 : decode cX4_doesFit 0 = .ok (.iconst 0, 1) := dk_3 (dk_at dksX4_doesFit_0 0 rfl rfl)
theorem dX4_doesFit_1 : decode cX4_doesFit 1 = .ok (.istore_n 3, 1) := dk_62 (dk_at dksX4_doesFit_0 1 rfl rfl)
theorem dX4_doesFit_2 : decode cX4_doesFit 2 = .ok (.iload_n 3, 1) := dk_29 (dk_at dksX4_doesFit_0 2 rfl rfl)
theorem dX4_doesFit_3 : decode cX4_doesFit 3 = .ok (.aload_n 0, 1) := dk_42 (dk_at dksX4_doesFit_0 3 rfl rfl)
theorem dX4_doesFit_4 : decode cX4_doesFit 4 = .ok (.getfield 369, 3) := dk_180 1 113 (dk_at dksX4_doesFit_0 4 rfl rfl)
theorem dX4_doesFit_7 : decode cX4_doesFit 7 = .ok (.if_icmp .ge 81, 3) := dk_162 0 81 (dk_at dksX4_doesFit_0 7 rfl rfl)
theorem dX4_doesFit_10 : decode cX4_doesFit 10 = .ok (.aload_n 0, 1) := dk_42 (dk_at dksX4_doesFit_0 10 rfl rfl)
theorem dX4_doesFit_11 : decode cX4_doesFit 11 = .ok (.getfield 109, 3) := dk_180 0 109 (dk_at dksX4_doesFit_0 11 rfl rfl)
theorem dX4_doesFit_14 : decode cX4_doesFit 14 = .ok (.iload_n 3, 1) := dk_29 (dk_at dksX4_doesFit_0 14 rfl rfl)
theorem dX4_doesFit_15 : decode cX4_doesFit 15 = .ok (.iaload, 1) := dk_46 (dk_at dksX4_doesFit_0 15 rfl rfl)
theorem dX4_doesFit_16 : decode cX4_doesFit 16 = .ok (.iload_n 2, 1) := dk_28 (dk_at dksX4_doesFit_0 16 rfl rfl)
theorem dX4_doesFit_17 : decode cX4_doesFit 17 = .ok (.if_icmp .gt 65, 3) := dk_163 0 65 (dk_at dksX4_doesFit_0 17 rfl rfl)
theorem dX4_doesFit_20 : decode cX4_doesFit 20 = .ok (.aload_n 0, 1) := dk_42 (dk_at dksX4_doesFit_0 20 rfl rfl)
theorem dX4_doesFit_21 : decode cX4_doesFit 21 = .ok (.getfield 112, 3) := dk_180 0 112 (dk_at dksX4_doesFit_0 21 rfl rfl)
theorem dX4_doesFit_24 : decode cX4_doesFit 24 = .ok (.iload_n 3, 1) := dk_29 (dk_at dksX4_doesFit_1 0 rfl rfl)
theorem dX4_doesFit_25 : decode cX4_doesFit 25 = .ok (.iaload, 1) := dk_46 (dk_at dksX4_doesFit_1 1 rfl rfl)
theorem dX4_doesFit_26 : decode cX4_doesFit 26 = .ok (.ifCond .lt 16, 3) := dk_155 0 16 (dk_at dksX4_doesFit_1 2 rfl rfl)
theorem dX4_doesFit_29 : decode cX4_doesFit 29 = .ok (.aload_n 0, 1) := dk_42 (dk_at dksX4_doesFit_1 5 rfl rfl)
theorem dX4_doesFit_30 : decode cX4_doesFit 30 = .ok (.getfield 112, 3) := dk_180 0 112 (dk_at dksX4_doesFit_1 6 rfl rfl)
theorem dX4_doesFit_33 : decode cX4_doesFit 33 = .ok (.iload_n 3, 1) := dk_29 (dk_at dksX4_doesFit_1 9 rfl rfl)
theorem dX4_doesFit_34 : decode cX4_doesFit 34 = .ok (.iaload, 1) := dk_46 (dk_at dksX4_doesFit_1 10 rfl rfl)
theorem dX4_doesFit_35 : decode cX4_doesFit 35 = .ok (.iload_n 2, 1) := dk_28 (dk_at dksX4_doesFit_1 11 rfl rfl)
theorem dX4_doesFit_36 : decode cX4_doesFit 36 = .ok (.if_icmp .gt 6, 3) := dk_163 0 6 (dk_at dksX4_doesFit_1 12 rfl rfl)
theorem dX4_doesFit_39 : decode cX4_doesFit 39 = .ok (.goto 43, 3) := dk_167 0 43 (dk_at dksX4_doesFit_1 15 rfl rfl)
theorem dX4_doesFit_42 : decode cX4_doesFit 42 = .ok (.aload_n 0, 1) := dk_42 (dk_at dksX4_doesFit_1 18 rfl rfl)
theorem dX4_doesFit_43 : decode cX4_doesFit 43 = .ok (.iload_n 1, 1) := dk_27 (dk_at dksX4_doesFit_1 19 rfl rfl)
theorem dX4_doesFit_44 : decode cX4_doesFit 44 = .ok (.aload_n 0, 1) := dk_42 (dk_at dksX4_doesFit_1 20 rfl rfl)
theorem dX4_doesFit_45 : decode cX4_doesFit 45 = .ok (.getfield 100, 3) := dk_180 0 100 (dk_at dksX4_doesFit_1 21 rfl rfl)
theorem dX4_doesFit_48 : decode cX4_doesFit 48 = .ok (.iload_n 3, 1) := dk_29 (dk_at dksX4_doesFit_2 0 rfl rfl)
theorem dX4_doesFit_49 : decode cX4_doesFit 49 = .ok (.iaload, 1) := dk_46 (dk_at dksX4_doesFit_2 1 rfl rfl)
theorem dX4_doesFit_50 : decode cX4_doesFit 50 = .ok (.invokevirtual 479, 3) := dk_182 1 223 (dk_at dksX4_doesFit_2 2 rfl rfl)
theorem dX4_doesFit_53 : decode cX4_doesFit 53 = .ok (.aload_n 0, 1) := dk_42 (dk_at dksX4_doesFit_2 5 rfl rfl)
theorem dX4_doesFit_54 : decode cX4_doesFit 54 = .ok (.getfield 103, 3) := dk_180 0 103 (dk_at dksX4_doesFit_2 6 rfl rfl)
theorem dX4_doesFit_57 : decode cX4_doesFit 57 = .ok (.iload_n 3, 1) := dk_29 (dk_at dksX4_doesFit_2 9 rfl rfl)
theorem dX4_doesFit_58 : decode cX4_doesFit 58 = .ok (.iaload, 1) := dk_46 (dk_at dksX4_doesFit_2 10 rfl rfl)
theorem dX4_doesFit_59 : decode cX4_doesFit 59 = .ok (.if_icmp .lt 7, 3) := dk_161 0 7 (dk_at dksX4_doesFit_2 11 rfl rfl)
theorem dX4_doesFit_62 : decode cX4_doesFit 62 = .ok (.iconst 1, 1) := dk_4 (dk_at dksX4_doesFit_2 14 rfl rfl)
theorem dX4_doesFit_63 : decode cX4_doesFit 63 = .ok (.goto 4, 3) := dk_167 0 4 (dk_at dksX4_doesFit_2 15 rfl rfl)
theorem dX4_doesFit_66 : decode cX4_doesFit 66 = .ok (.iconst 0, 1) := dk_3 (dk_at dksX4_doesFit_2 18 rfl rfl)
theorem dX4_doesFit_67 : decode cX4_doesFit 67 = .ok (.istore 4, 2) := dk_54 4 (dk_at dksX4_doesFit_2 19 rfl rfl)
theorem dX4_doesFit_69 : decode cX4_doesFit 69 = .ok (.iload 4, 2) := dk_21 4 (dk_at dksX4_doesFit_2 21 rfl rfl)
theorem dX4_doesFit_71 : decode cX4_doesFit 71 = .ok (.aload_n 0, 1) := dk_42 (dk_at dksX4_doesFit_2 23 rfl rfl)
theorem dX4_doesFit_72 : decode cX4_doesFit 72 = .ok (.getfield 106, 3) := dk_180 0 106 (dk_at dksX4_doesFit_3 0 rfl rfl)
theorem dX4_doesFit_75 : decode cX4_doesFit 75 = .ok (.iload_n 3, 1) := dk_29 (dk_at dksX4_doesFit_3 3 rfl rfl)
theorem dX4_doesFit_76 : decode cX4_doesFit 76 = .ok (.iaload, 1) := dk_46 (dk_at dksX4_doesFit_3 4 rfl rfl)
theorem dX4_doesFit_77 : decode cX4_doesFit 77 = .ok (.if_icmp .eq 5, 3) := dk_159 0 5 (dk_at dksX4_doesFit_3 5 rfl rfl)
theorem dX4_doesFit_80 : decode cX4_doesFit 80 = .ok (.iconst 0, 1) := dk_3 (dk_at dksX4_doesFit_3 8 rfl rfl)
theorem dX4_doesFit_81 : decode cX4_doesFit 81 = .ok (.ireturn, 1) := dk_172 (dk_at dksX4_doesFit_3 9 rfl rfl)
theorem dX4_doesFit_82 : decode cX4_doesFit 82 = .ok (.iinc 3 1, 3) := dk_132 3 1 (dk_at dksX4_doesFit_3 10 rfl rfl)
theorem dX4_doesFit_85 : decode cX4_doesFit 85 = .ok (.goto (-83), 3) := dk_167 255 173 (dk_at dksX4_doesFit_3 13 rfl rfl)
theorem dX4_doesFit_88 : decode cX4_doesFit 88 = .ok (.iconst 1, 1) := dk_4 (dk_at dksX4_doesFit_3 16 rfl rfl)
theorem dX4_doesFit_89 : decode cX4_doesFit 89 = .ok (.ireturn, 1) := dk_172 (dk_at dksX4_doesFit_3 17 rfl rfl)
abbrev cX4_sharedIf : ByteArray := prog_22_method_114_code
def yX4_sharedIf : MethodName := ⟨RX4, "sharedIf", "(II)I"⟩
def dkwX4_sharedIf_0 : List UInt8 := [27, 42, 180, 0, 51, 16, 6, 42, 180, 0, 244, 104, 28, 96, 46, 184, 1, 69, 172]
abbrev dktX4_sharedIf_0 : List UInt8 := dkwX4_sharedIf_0 ++ []
theorem dksX4_sharedIf_0 : cX4_sharedIf.data.toList.drop 0 = dktX4_sharedIf_0 := by decide +kernel
theorem dX4_sharedIf_0 : decode cX4_sharedIf 0 = .ok (.iload_n 1, 1) := dk_27 (dk_at dksX4_sharedIf_0 0 rfl rfl)
theorem dX4_sharedIf_1 : decode cX4_sharedIf 1 = .ok (.aload_n 0, 1) := dk_42 (dk_at dksX4_sharedIf_0 1 rfl rfl)
theorem dX4_sharedIf_2 : decode cX4_sharedIf 2 = .ok (.getfield 51, 3) := dk_180 0 51 (dk_at dksX4_sharedIf_0 2 rfl rfl)
theorem dX4_sharedIf_5 : decode cX4_sharedIf 5 = .ok (.bipush 6, 2) := dk_16 6 (dk_at dksX4_sharedIf_0 5 rfl rfl)
theorem dX4_sharedIf_7 : decode cX4_sharedIf 7 = .ok (.aload_n 0, 1) := dk_42 (dk_at dksX4_sharedIf_0 7 rfl rfl)
theorem dX4_sharedIf_8 : decode cX4_sharedIf 8 = .ok (.getfield 244, 3) := dk_180 0 244 (dk_at dksX4_sharedIf_0 8 rfl rfl)
theorem dX4_sharedIf_11 : decode cX4_sharedIf 11 = .ok (.imul, 1) := dk_104 (dk_at dksX4_sharedIf_0 11 rfl rfl)
theorem dX4_sharedIf_12 : decode cX4_sharedIf 12 = .ok (.iload_n 2, 1) := dk_28 (dk_at dksX4_sharedIf_0 12 rfl rfl)
theorem dX4_sharedIf_13 : decode cX4_sharedIf 13 = .ok (.iadd, 1) := dk_96 (dk_at dksX4_sharedIf_0 13 rfl rfl)
theorem dX4_sharedIf_14 : decode cX4_sharedIf 14 = .ok (.iaload, 1) := dk_46 (dk_at dksX4_sharedIf_0 14 rfl rfl)
theorem dX4_sharedIf_15 : decode cX4_sharedIf 15 = .ok (.invokestatic 325, 3) := dk_184 1 69 (dk_at dksX4_sharedIf_0 15 rfl rfl)
theorem dX4_sharedIf_18 : decode cX4_sharedIf 18 = .ok (.ireturn, 1) := dk_172 (dk_at dksX4_sharedIf_0 18 rfl rfl)
abbrev cX4_sure : ByteArray := prog_22_method_120_code
def yX4_sure : MethodName := ⟨RX4, "sure", "(II)I"⟩
def dkwX4_sure_3 : List UInt8 := [167, 0, 14, 21, 4, 154, 0, 7, 3, 167, 0, 5, 16, 254, 172]
abbrev dktX4_sure_3 : List UInt8 := dkwX4_sure_3 ++ []
def dkwX4_sure_2 : List UInt8 := [27, 122, 4, 126, 167, 0, 4, 3, 96, 54, 4, 132, 5, 1, 167, 255, 221, 21, 4, 29, 160, 0, 7, 4]
abbrev dktX4_sure_2 : List UInt8 := dkwX4_sure_2 ++ dktX4_sure_3
def dkwX4_sure_1 : List UInt8 := [3, 54, 5, 21, 5, 16, 64, 162, 0, 34, 21, 4, 42, 180, 0, 118, 21, 5, 51, 153, 0, 12, 21, 5]
abbrev dktX4_sure_1 : List UInt8 := dkwX4_sure_1 ++ dktX4_sure_2
def dkwX4_sure_0 : List UInt8 := [42, 28, 182, 1, 232, 62, 27, 3, 8, 184, 1, 90, 153, 0, 7, 29, 154, 0, 5, 2, 172, 3, 54, 4]
abbrev dktX4_sure_0 : List UInt8 := dkwX4_sure_0 ++ dktX4_sure_1
theorem dksX4_sure_0 : cX4_sure.data.toList.drop 0 = dktX4_sure_0 := by decide +kernel
theorem dksX4_sure_1 : cX4_sure.data.toList.drop 24 = dktX4_sure_1 := dk_seg dksX4_sure_0 24 rfl rfl
theorem dksX4_sure_2 : cX4_sure.data.toList.drop 48 = dktX4_sure_2 := dk_seg dksX4_sure_1 24 rfl rfl
theorem dksX4_sure_3 : cX4_sure.data.toList.drop 72 = dktX4_sure_3 := dk_seg dksX4_sure_2 24 rfl rfl
theorem dX4_sure_0 : decode cX4_sure 0 = .ok (.aload_n 0, 1) := dk_42 (dk_at dksX4_sure_0 0 rfl rfl)
theorem dX4_sure_1 : decode cX4_sure 1 = .ok (.iload_n 2, 1) := dk_28 (dk_at dksX4_sure_0 1 rfl rfl)
theorem dX4_sure_2 : decode cX4_sure 2 = .ok (.invokevirtual 488, 3) := dk_182 1 232 (dk_at dksX4_sure_0 2 rfl rfl)
theorem dX4_sure_5 : decode cX4_sure 5 = .ok (.istore_n 3, 1) := dk_62 (dk_at dksX4_sure_0 5 rfl rfl)
theorem dX4_sure_6 : decode cX4_sure 6 = .ok (.iload_n 1, 1) := dk_27 (dk_at dksX4_sure_0 6 rfl rfl)
theorem dX4_sure_7 : decode cX4_sure 7 = .ok (.iconst 0, 1) := dk_3 (dk_at dksX4_sure_0 7 rfl rfl)
theorem dX4_sure_8 : decode cX4_sure 8 = .ok (.iconst 5, 1) := dk_8 (dk_at dksX4_sure_0 8 rfl rfl)
theorem dX4_sure_9 : decode cX4_sure 9 = .ok (.invokestatic 346, 3) := dk_184 1 90 (dk_at dksX4_sure_0 9 rfl rfl)
theorem dX4_sure_12 : decode cX4_sure 12 = .ok (.ifCond .eq 7, 3) := dk_153 0 7 (dk_at dksX4_sure_0 12 rfl rfl)
theorem dX4_sure_15 : decode cX4_sure 15 = .ok (.iload_n 3, 1) := dk_29 (dk_at dksX4_sure_0 15 rfl rfl)
theorem dX4_sure_16 : decode cX4_sure 16 = .ok (.ifCond .ne 5, 3) := dk_154 0 5 (dk_at dksX4_sure_0 16 rfl rfl)
theorem dX4_sure_19 : decode cX4_sure 19 = .ok (.iconst (-1), 1) := dk_2 (dk_at dksX4_sure_0 19 rfl rfl)
theorem dX4_sure_20 : decode cX4_sure 20 = .ok (.ireturn, 1) := dk_172 (dk_at dksX4_sure_0 20 rfl rfl)
theorem dX4_sure_21 : decode cX4_sure 21 = .ok (.iconst 0, 1) := dk_3 (dk_at dksX4_sure_0 21 rfl rfl)
theorem dX4_sure_22 : decode cX4_sure 22 = .ok (.istore 4, 2) := dk_54 4 (dk_at dksX4_sure_0 22 rfl rfl)
theorem dX4_sure_24 : decode cX4_sure 24 = .ok (.iconst 0, 1) := dk_3 (dk_at dksX4_sure_1 0 rfl rfl)
theorem dX4_sure_25 : decode cX4_sure 25 = .ok (.istore 5, 2) := dk_54 5 (dk_at dksX4_sure_1 1 rfl rfl)
theorem dX4_sure_27 : decode cX4_sure 27 = .ok (.iload 5, 2) := dk_21 5 (dk_at dksX4_sure_1 3 rfl rfl)
theorem dX4_sure_29 : decode cX4_sure 29 = .ok (.bipush 64, 2) := dk_16 64 (dk_at dksX4_sure_1 5 rfl rfl)
theorem dX4_sure_31 : decode cX4_sure 31 = .ok (.if_icmp .ge 34, 3) := dk_162 0 34 (dk_at dksX4_sure_1 7 rfl rfl)
theorem dX4_sure_34 : decode cX4_sure 34 = .ok (.iload 4, 2) := dk_21 4 (dk_at dksX4_sure_1 10 rfl rfl)
theorem dX4_sure_36 : decode cX4_sure 36 = .ok (.aload_n 0, 1) := dk_42 (dk_at dksX4_sure_1 12 rfl rfl)
theorem dX4_sure_37 : decode cX4_sure 37 = .ok (.getfield 118, 3) := dk_180 0 118 (dk_at dksX4_sure_1 13 rfl rfl)
theorem dX4_sure_40 : decode cX4_sure 40 = .ok (.iload 5, 2) := dk_21 5 (dk_at dksX4_sure_1 16 rfl rfl)
theorem dX4_sure_42 : decode cX4_sure 42 = .ok (.baload, 1) := dk_51 (dk_at dksX4_sure_1 18 rfl rfl)
theorem dX4_sure_43 : decode cX4_sure 43 = .ok (.ifCond .eq 12, 3) := dk_153 0 12 (dk_at dksX4_sure_1 19 rfl rfl)
theorem dX4_sure_46 : decode cX4_sure 46 = .ok (.iload 5, 2) := dk_21 5 (dk_at dksX4_sure_1 22 rfl rfl)
theorem dX4_sure_48 : decode cX4_sure 48 = .ok (.iload_n 1, 1) := dk_27 (dk_at dksX4_sure_2 0 rfl rfl)
theorem dX4_sure_49 : decode cX4_sure 49 = .ok (.ishr, 1) := dk_122 (dk_at dksX4_sure_2 1 rfl rfl)
theorem dX4_sure_50 : decode cX4_sure 50 = .ok (.iconst 1, 1) := dk_4 (dk_at dksX4_sure_2 2 rfl rfl)
theorem dX4_sure_51 : decode cX4_sure 51 = .ok (.iand, 1) := dk_126 (dk_at dksX4_sure_2 3 rfl rfl)
theorem dX4_sure_52 : decode cX4_sure 52 = .ok (.goto 4, 3) := dk_167 0 4 (dk_at dksX4_sure_2 4 rfl rfl)
theorem dX4_sure_55 : decode cX4_sure 55 = .ok (.iconst 0, 1) := dk_3 (dk_at dksX4_sure_2 7 rfl rfl)
theorem dX4_sure_56 : decode cX4_sure 56 = .ok (.iadd, 1) := dk_96 (dk_at dksX4_sure_2 8 rfl rfl)
theorem dX4_sure_57 : decode cX4_sure 57 = .ok (.istore 4, 2) := dk_54 4 (dk_at dksX4_sure_2 9 rfl rfl)
theorem dX4_sure_59 : decode cX4_sure 59 = .ok (.iinc 5 1, 3) := dk_132 5 1 (dk_at dksX4_sure_2 11 rfl rfl)
theorem dX4_sure_62 : decode cX4_sure 62 = .ok (.goto (-35), 3) := dk_167 255 221 (dk_at dksX4_sure_2 14 rfl rfl)
theorem dX4_sure_65 : decode cX4_sure 65 = .ok (.iload 4, 2) := dk_21 4 (dk_at dksX4_sure_2 17 rfl rfl)
theorem dX4_sure_67 : decode cX4_sure 67 = .ok (.iload_n 3, 1) := dk_29 (dk_at dksX4_sure_2 19 rfl rfl)
theorem dX4_sure_68 : decode cX4_sure 68 = .ok (.if_icmp .ne 7, 3) := dk_160 0 7 (dk_at dksX4_sure_2 20 rfl rfl)
theorem dX4_sure_71 : decode cX4_sure 71 = .ok (.iconst 1, 1) := dk_4 (dk_at dksX4_sure_2 23 rfl rfl)
theorem dX4_sure_72 : decode cX4_sure 72 = .ok (.goto 14, 3) := dk_167 0 14 (dk_at dksX4_sure_3 0 rfl rfl)
theorem dX4_sure_75 : decode cX4_sure 75 = .ok (.iload 4, 2) := dk_21 4 (dk_at dksX4_sure_3 3 rfl rfl)
theorem dX4_sure_77 : decode cX4_sure 77 = .ok (.ifCond .ne 7, 3) := dk_154 0 7 (dk_at dksX4_sure_3 5 rfl rfl)
theorem dX4_sure_80 : decode cX4_sure 80 = .ok (.iconst 0, 1) := dk_3 (dk_at dksX4_sure_3 8 rfl rfl)
theorem dX4_sure_81 : decode cX4_sure 81 = .ok (.goto 5, 3) := dk_167 0 5 (dk_at dksX4_sure_3 9 rfl rfl)
theorem dX4_sure_84 : decode cX4_sure 84 = .ok (.bipush (-2), 2) := dk_16 254 (dk_at dksX4_sure_3 12 rfl rfl)
theorem dX4_sure_86 : decode cX4_sure 86 = .ok (.ireturn, 1) := dk_172 (dk_at dksX4_sure_3 14 rfl rfl)
abbrev cX4_ask : ByteArray := prog_22_method_122_code
def yX4_ask : MethodName := ⟨RX4, "ask", "(II)I"⟩
def dkwX4_ask_4 : List UInt8 := [182, 1, 235, 172]
abbrev dktX4_ask_4 : List UInt8 := dkwX4_ask_4 ++ []
def dkwX4_ask_3 : List UInt8 := [21, 5, 54, 4, 132, 5, 1, 167, 255, 218, 27, 154, 0, 8, 21, 4, 167, 0, 9, 42, 21, 4]
abbrev dktX4_ask_3 : List UInt8 := dkwX4_ask_3 ++ dktX4_ask_4
def dkwX4_ask_2 : List UInt8 := [180, 0, 244, 46, 4, 100, 162, 0, 28, 42, 21, 5, 182, 1, 235, 42, 21, 4, 182, 1, 235, 162, 0, 7]
abbrev dktX4_ask_2 : List UInt8 := dkwX4_ask_2 ++ dktX4_ask_3
def dkwX4_ask_1 : List UInt8 := [180, 0, 244, 46, 5, 162, 0, 5, 2, 172, 3, 54, 4, 4, 54, 5, 21, 5, 42, 180, 0, 24, 42]
abbrev dktX4_ask_1 : List UInt8 := dkwX4_ask_1 ++ dktX4_ask_2
def dkwX4_ask_0 : List UInt8 := [42, 28, 182, 1, 232, 62, 27, 3, 4, 184, 1, 90, 153, 0, 20, 29, 153, 0, 16, 42, 180, 0, 24, 42]
abbrev dktX4_ask_0 : List UInt8 := dkwX4_ask_0 ++ dktX4_ask_1
theorem dksX4_ask_0 : cX4_ask.data.toList.drop 0 = dktX4_ask_0 := by decide +kernel
theorem dksX4_ask_1 : cX4_ask.data.toList.drop 24 = dktX4_ask_1 := dk_seg dksX4_ask_0 24 rfl rfl
theorem dksX4_ask_2 : cX4_ask.data.toList.drop 47 = dktX4_ask_2 := dk_seg dksX4_ask_1 23 rfl rfl
theorem dksX4_ask_3 : cX4_ask.data.toList.drop 71 = dktX4_ask_3 := dk_seg dksX4_ask_2 24 rfl rfl
theorem dksX4_ask_4 : cX4_ask.data.toList.drop 93 = dktX4_ask_4 := dk_seg dksX4_ask_3 22 rfl rfl
theorem dX4_ask_0 : decode cX4_ask 0 = .ok (.aload_n 0, 1) := dk_42 (dk_at dksX4_ask_0 0 rfl rfl)
theorem dX4_ask_1 : decode cX4_ask 1 = .ok (.iload_n 2, 1) := dk_28 (dk_at dksX4_ask_0 1 rfl rfl)
theorem dX4_ask_2 : decode cX4_ask 2 = .ok (.invokevirtual 488, 3) := dk_182 1 232 (dk_at dksX4_ask_0 2 rfl rfl)
theorem dX4_ask_5 : decode cX4_ask 5 = .ok (.istore_n 3, 1) := dk_62 (dk_at dksX4_ask_0 5 rfl rfl)
theorem dX4_ask_6 : decode cX4_ask 6 = .ok (.iload_n 1, 1) := dk_27 (dk_at dksX4_ask_0 6 rfl rfl)
theorem dX4_ask_7 : decode cX4_ask 7 = .ok (.iconst 0, 1) := dk_3 (dk_at dksX4_ask_0 7 rfl rfl)
theorem dX4_ask_8 : decode cX4_ask 8 = .ok (.iconst 1, 1) := dk_4 (dk_at dksX4_ask_0 8 rfl rfl)
theorem dX4_ask_9 : decode cX4_ask 9 = .ok (.invokestatic 346, 3) := dk_184 1 90 (dk_at dksX4_ask_0 9 rfl rfl)
theorem dX4_ask_12 : decode cX4_ask 12 = .ok (.ifCond .eq 20, 3) := dk_153 0 20 (dk_at dksX4_ask_0 12 rfl rfl)
theorem dX4_ask_15 : decode cX4_ask 15 = .ok (.iload_n 3, 1) := dk_29 (dk_at dksX4_ask_0 15 rfl rfl)
theorem dX4_ask_16 : decode cX4_ask 16 = .ok (.ifCond .eq 16, 3) := dk_153 0 16 (dk_at dksX4_ask_0 16 rfl rfl)
theorem dX4_ask_19 : decode cX4_ask 19 = .ok (.aload_n 0, 1) := dk_42 (dk_at dksX4_ask_0 19 rfl rfl)
theorem dX4_ask_20 : decode cX4_ask 20 = .ok (.getfield 24, 3) := dk_180 0 24 (dk_at dksX4_ask_0 20 rfl rfl)
theorem dX4_ask_23 : decode cX4_ask 23 = .ok (.aload_n 0, 1) := dk_42 (dk_at dksX4_ask_0 23 rfl rfl)
theorem dX4_ask_24 : decode cX4_ask 24 = .ok (.getfield 244, 3) := dk_180 0 244 (dk_at dksX4_ask_1 0 rfl rfl)
theorem dX4_ask_27 : decode cX4_ask 27 = .ok (.iaload, 1) := dk_46 (dk_at dksX4_ask_1 3 rfl rfl)
theorem dX4_ask_28 : decode cX4_ask 28 = .ok (.iconst 2, 1) := dk_5 (dk_at dksX4_ask_1 4 rfl rfl)
theorem dX4_ask_29 : decode cX4_ask 29 = .ok (.if_icmp .ge 5, 3) := dk_162 0 5 (dk_at dksX4_ask_1 5 rfl rfl)
theorem dX4_ask_32 : decode cX4_ask 32 = .ok (.iconst (-1), 1) := dk_2 (dk_at dksX4_ask_1 8 rfl rfl)
theorem dX4_ask_33 : decode cX4_ask 33 = .ok (.ireturn, 1) := dk_172 (dk_at dksX4_ask_1 9 rfl rfl)
theorem dX4_ask_34 : decode cX4_ask 34 = .ok (.iconst 0, 1) := dk_3 (dk_at dksX4_ask_1 10 rfl rfl)
theorem dX4_ask_35 : decode cX4_ask 35 = .ok (.istore 4, 2) := dk_54 4 (dk_at dksX4_ask_1 11 rfl rfl)
theorem dX4_ask_37 : decode cX4_ask 37 = .ok (.iconst 1, 1) := dk_4 (dk_at dksX4_ask_1 13 rfl rfl)
theorem dX4_ask_38 : decode cX4_ask 38 = .ok (.istore 5, 2) := dk_54 5 (dk_at dksX4_ask_1 14 rfl rfl)
theorem dX4_ask_40 : decode cX4_ask 40 = .ok (.iload 5, 2) := dk_21 5 (dk_at dksX4_ask_1 16 rfl rfl)
theorem dX4_ask_42 : decode cX4_ask 42 = .ok (.aload_n 0, 1) := dk_42 (dk_at dksX4_ask_1 18 rfl rfl)
theorem dX4_ask_43 : decode cX4_ask 43 = .ok (.getfield 24, 3) := dk_180 0 24 (dk_at dksX4_ask_1 19 rfl rfl)
theorem dX4_ask_46 : decode cX4_ask 46 = .ok (.aload_n 0, 1) := dk_42 (dk_at dksX4_ask_1 22 rfl rfl)
theorem dX4_ask_47 : decode cX4_ask 47 = .ok (.getfield 244, 3) := dk_180 0 244 (dk_at dksX4_ask_2 0 rfl rfl)
theorem dX4_ask_50 : decode cX4_ask 50 = .ok (.iaload, 1) := dk_46 (dk_at dksX4_ask_2 3 rfl rfl)
theorem dX4_ask_51 : decode cX4_ask 51 = .ok (.iconst 1, 1) := dk_4 (dk_at dksX4_ask_2 4 rfl rfl)
theorem dX4_ask_52 : decode cX4_ask 52 = .ok (.isub, 1) := dk_100 (dk_at dksX4_ask_2 5 rfl rfl)
theorem dX4_ask_53 : decode cX4_ask 53 = .ok (.if_icmp .ge 28, 3) := dk_162 0 28 (dk_at dksX4_ask_2 6 rfl rfl)
theorem dX4_ask_56 : decode cX4_ask 56 = .ok (.aload_n 0, 1) := dk_42 (dk_at dksX4_ask_2 9 rfl rfl)
theorem dX4_ask_57 : decode cX4_ask 57 = .ok (.iload 5, 2) := dk_21 5 (dk_at dksX4_ask_2 10 rfl rfl)
theorem dX4_ask_59 : decode cX4_ask 59 = .ok (.invokevirtual 491, 3) := dk_182 1 235 (dk_at dksX4_ask_2 12 rfl rfl)
theorem dX4_ask_62 : decode cX4_ask 62 = .ok (.aload_n 0, 1) := dk_42 (dk_at dksX4_ask_2 15 rfl rfl)
theorem dX4_ask_63 : decode cX4_ask 63 = .ok (.iload 4, 2) := dk_21 4 (dk_at dksX4_ask_2 16 rfl rfl)
theorem dX4_ask_65 : decode cX4_ask 65 = .ok (.invokevirtual 491, 3) := dk_182 1 235 (dk_at dksX4_ask_2 18 rfl rfl)
theorem dX4_ask_68 : decode cX4_ask 68 = .ok (.if_icmp .ge 7, 3) := dk_162 0 7 (dk_at dksX4_ask_2 21 rfl rfl)
theorem dX4_ask_71 : decode cX4_ask 71 = .ok (.iload 5, 2) := dk_21 5 (dk_at dksX4_ask_3 0 rfl rfl)
theorem dX4_ask_73 : decode cX4_ask 73 = .ok (.istore 4, 2) := dk_54 4 (dk_at dksX4_ask_3 2 rfl rfl)
theorem dX4_ask_75 : decode cX4_ask 75 = .ok (.iinc 5 1, 3) := dk_132 5 1 (dk_at dksX4_ask_3 4 rfl rfl)
theorem dX4_ask_78 : decode cX4_ask 78 = .ok (.goto (-38), 3) := dk_167 255 218 (dk_at dksX4_ask_3 7 rfl rfl)
theorem dX4_ask_81 : decode cX4_ask 81 = .ok (.iload_n 1, 1) := dk_27 (dk_at dksX4_ask_3 10 rfl rfl)
theorem dX4_ask_82 : decode cX4_ask 82 = .ok (.ifCond .ne 8, 3) := dk_154 0 8 (dk_at dksX4_ask_3 11 rfl rfl)
theorem dX4_ask_85 : decode cX4_ask 85 = .ok (.iload 4, 2) := dk_21 4 (dk_at dksX4_ask_3 14 rfl rfl)
theorem dX4_ask_87 : decode cX4_ask 87 = .ok (.goto 9, 3) := dk_167 0 9 (dk_at dksX4_ask_3 16 rfl rfl)
theorem dX4_ask_90 : decode cX4_ask 90 = .ok (.aload_n 0, 1) := dk_42 (dk_at dksX4_ask_3 19 rfl rfl)
theorem dX4_ask_91 : decode cX4_ask 91 = .ok (.iload 4, 2) := dk_21 4 (dk_at dksX4_ask_3 20 rfl rfl)
theorem dX4_ask_93 : decode cX4_ask 93 = .ok (.invokevirtual 491, 3) := dk_182 1 235 (dk_at dksX4_ask_4 0 rfl rfl)
theorem dX4_ask_96 : decode cX4_ask 96 = .ok (.ireturn, 1) := dk_172 (dk_at dksX4_ask_4 3 rfl rfl)
abbrev cX4_mostBy : ByteArray := prog_22_method_121_code
def yX4_mostBy : MethodName := ⟨RX4, "mostBy", "(I)I"⟩
def dkwX4_mostBy_3 : List UInt8 := [164, 0, 11, 42, 180, 0, 115, 21, 4, 46, 61, 132, 3, 1, 167, 255, 197, 28, 172]
abbrev dktX4_mostBy_3 : List UInt8 := dkwX4_mostBy_3 ++ []
def dkwX4_mostBy_2 : List UInt8 := [182, 1, 223, 54, 4, 42, 180, 0, 115, 21, 4, 92, 46, 4, 96, 79, 42, 180, 0, 115, 21, 4, 46, 28]
abbrev dktX4_mostBy_2 : List UInt8 := dkwX4_mostBy_2 ++ dktX4_mostBy_3
def dkwX4_mostBy_1 : List UInt8 := [62, 29, 16, 64, 162, 0, 59, 42, 180, 0, 118, 29, 51, 154, 0, 6, 167, 0, 41, 42, 29, 27]
abbrev dktX4_mostBy_1 : List UInt8 := dkwX4_mostBy_1 ++ dktX4_mostBy_2
def dkwX4_mostBy_0 : List UInt8 := [3, 61, 28, 16, 6, 163, 0, 16, 42, 180, 0, 115, 28, 3, 79, 132, 2, 1, 167, 255, 240, 3, 61, 3]
abbrev dktX4_mostBy_0 : List UInt8 := dkwX4_mostBy_0 ++ dktX4_mostBy_1
theorem dksX4_mostBy_0 : cX4_mostBy.data.toList.drop 0 = dktX4_mostBy_0 := by decide +kernel
theorem dksX4_mostBy_1 : cX4_mostBy.data.toList.drop 24 = dktX4_mostBy_1 := dk_seg dksX4_mostBy_0 24 rfl rfl
theorem dksX4_mostBy_2 : cX4_mostBy.data.toList.drop 46 = dktX4_mostBy_2 := dk_seg dksX4_mostBy_1 22 rfl rfl
theorem dksX4_mostBy_3 : cX4_mostBy.data.toList.drop 70 = dktX4_mostBy_3 := dk_seg dksX4_mostBy_2 24 rfl rfl
theorem dX4_mostBy_0 : decode cX4_mostBy 0 = .ok (.iconst 0, 1) := dk_3 (dk_at dksX4_mostBy_0 0 rfl rfl)
theorem dX4_mostBy_1 : decode cX4_mostBy 1 = .ok (.istore_n 2, 1) := dk_61 (dk_at dksX4_mostBy_0 1 rfl rfl)
theorem dX4_mostBy_2 : decode cX4_mostBy 2 = .ok (.iload_n 2, 1) := dk_28 (dk_at dksX4_mostBy_0 2 rfl rfl)
theorem dX4_mostBy_3 : decode cX4_mostBy 3 = .ok (.bipush 6, 2) := dk_16 6 (dk_at dksX4_mostBy_0 3 rfl rfl)
theorem dX4_mostBy_5 : decode cX4_mostBy 5 = .ok (.if_icmp .gt 16, 3) := dk_163 0 16 (dk_at dksX4_mostBy_0 5 rfl rfl)
theorem dX4_mostBy_8 : decode cX4_mostBy 8 = .ok (.aload_n 0, 1) := dk_42 (dk_at dksX4_mostBy_0 8 rfl rfl)
theorem dX4_mostBy_9 : decode cX4_mostBy 9 = .ok (.getfield 115, 3) := dk_180 0 115 (dk_at dksX4_mostBy_0 9 rfl rfl)
theorem dX4_mostBy_12 : decode cX4_mostBy 12 = .ok (.iload_n 2, 1) := dk_28 (dk_at dksX4_mostBy_0 12 rfl rfl)
theorem dX4_mostBy_13 : decode cX4_mostBy 13 = .ok (.iconst 0, 1) := dk_3 (dk_at dksX4_mostBy_0 13 rfl rfl)
theorem dX4_mostBy_14 : decode cX4_mostBy 14 = .ok (.iastore, 1) := dk_79 (dk_at dksX4_mostBy_0 14 rfl rfl)
theorem dX4_mostBy_15 : decode cX4_mostBy 15 = .ok (.iinc 2 1, 3) := dk_132 2 1 (dk_at dksX4_mostBy_0 15 rfl rfl)
theorem dX4_mostBy_18 : decode cX4_mostBy 18 = .ok (.goto (-16), 3) := dk_167 255 240 (dk_at dksX4_mostBy_0 18 rfl rfl)
theorem dX4_mostBy_21 : decode cX4_mostBy 21 = .ok (.iconst 0, 1) := dk_3 (dk_at dksX4_mostBy_0 21 rfl rfl)
theorem dX4_mostBy_22 : decode cX4_mostBy 22 = .ok (.istore_n 2, 1) := dk_61 (dk_at dksX4_mostBy_0 22 rfl rfl)
theorem dX4_mostBy_23 : decode cX4_mostBy 23 = .ok (.iconst 0, 1) := dk_3 (dk_at dksX4_mostBy_0 23 rfl rfl)
theorem dX4_mostBy_24 : decode cX4_mostBy 24 = .ok (.istore_n 3, 1) := dk_62 (dk_at dksX4_mostBy_1 0 rfl rfl)
theorem dX4_mostBy_25 : decode cX4_mostBy 25 = .ok (.iload_n 3, 1) := dk_29 (dk_at dksX4_mostBy_1 1 rfl rfl)
theorem dX4_mostBy_26 : decode cX4_mostBy 26 = .ok (.bipush 64, 2) := dk_16 64 (dk_at dksX4_mostBy_1 2 rfl rfl)
theorem dX4_mostBy_28 : decode cX4_mostBy 28 = .ok (.if_icmp .ge 59, 3) := dk_162 0 59 (dk_at dksX4_mostBy_1 4 rfl rfl)
theorem dX4_mostBy_31 : decode cX4_mostBy 31 = .ok (.aload_n 0, 1) := dk_42 (dk_at dksX4_mostBy_1 7 rfl rfl)
theorem dX4_mostBy_32 : decode cX4_mostBy 32 = .ok (.getfield 118, 3) := dk_180 0 118 (dk_at dksX4_mostBy_1 8 rfl rfl)
theorem dX4_mostBy_35 : decode cX4_mostBy 35 = .ok (.iload_n 3, 1) := dk_29 (dk_at dksX4_mostBy_1 11 rfl rfl)
theorem dX4_mostBy_36 : decode cX4_mostBy 36 = .ok (.baload, 1) := dk_51 (dk_at dksX4_mostBy_1 12 rfl rfl)
theorem dX4_mostBy_37 : decode cX4_mostBy 37 = .ok (.ifCond .ne 6, 3) := dk_154 0 6 (dk_at dksX4_mostBy_1 13 rfl rfl)
theorem dX4_mostBy_40 : decode cX4_mostBy 40 = .ok (.goto 41, 3) := dk_167 0 41 (dk_at dksX4_mostBy_1 16 rfl rfl)
theorem dX4_mostBy_43 : decode cX4_mostBy 43 = .ok (.aload_n 0, 1) := dk_42 (dk_at dksX4_mostBy_1 19 rfl rfl)
theorem dX4_mostBy_44 : decode cX4_mostBy 44 = .ok (.iload_n 3, 1) := dk_29 (dk_at dksX4_mostBy_1 20 rfl rfl)
theorem dX4_mostBy_45 : decode cX4_mostBy 45 = .ok (.iload_n 1, 1) := dk_27 (dk_at dksX4_mostBy_1 21 rfl rfl)
theorem dX4_mostBy_46 : decode cX4_mostBy 46 = .ok (.invokevirtual 479, 3) := dk_182 1 223 (dk_at dksX4_mostBy_2 0 rfl rfl)
theorem dX4_mostBy_49 : decode cX4_mostBy 49 = .ok (.istore 4, 2) := dk_54 4 (dk_at dksX4_mostBy_2 3 rfl rfl)
theorem dX4_mostBy_51 : decode cX4_mostBy 51 = .ok (.aload_n 0, 1) := dk_42 (dk_at dksX4_mostBy_2 5 rfl rfl)
theorem dX4_mostBy_52 : decode cX4_mostBy 52 = .ok (.getfield 115, 3) := dk_180 0 115 (dk_at dksX4_mostBy_2 6 rfl rfl)
theorem dX4_mostBy_55 : decode cX4_mostBy 55 = .ok (.iload 4, 2) := dk_21 4 (dk_at dksX4_mostBy_2 9 rfl rfl)
theorem dX4_mostBy_57 : decode cX4_mostBy 57 = .ok (.dup2, 1) := dk_92 (dk_at dksX4_mostBy_2 11 rfl rfl)
theorem dX4_mostBy_58 : decode cX4_mostBy 58 = .ok (.iaload, 1) := dk_46 (dk_at dksX4_mostBy_2 12 rfl rfl)
theorem dX4_mostBy_59 : decode cX4_mostBy 59 = .ok (.iconst 1, 1) := dk_4 (dk_at dksX4_mostBy_2 13 rfl rfl)
theorem dX4_mostBy_60 : decode cX4_mostBy 60 = .ok (.iadd, 1) := dk_96 (dk_at dksX4_mostBy_2 14 rfl rfl)
theorem dX4_mostBy_61 : decode cX4_mostBy 61 = .ok (.iastore, 1) := dk_79 (dk_at dksX4_mostBy_2 15 rfl rfl)
theorem dX4_mostBy_62 : decode cX4_mostBy 62 = .ok (.aload_n 0, 1) := dk_42 (dk_at dksX4_mostBy_2 16 rfl rfl)
theorem dX4_mostBy_63 : decode cX4_mostBy 63 = .ok (.getfield 115, 3) := dk_180 0 115 (dk_at dksX4_mostBy_2 17 rfl rfl)
theorem dX4_mostBy_66 : decode cX4_mostBy 66 = .ok (.iload 4, 2) := dk_21 4 (dk_at dksX4_mostBy_2 20 rfl rfl)
theorem dX4_mostBy_68 : decode cX4_mostBy 68 = .ok (.iaload, 1) := dk_46 (dk_at dksX4_mostBy_2 22 rfl rfl)
theorem dX4_mostBy_69 : decode cX4_mostBy 69 = .ok (.iload_n 2, 1) := dk_28 (dk_at dksX4_mostBy_2 23 rfl rfl)
theorem dX4_mostBy_70 : decode cX4_mostBy 70 = .ok (.if_icmp .le 11, 3) := dk_164 0 11 (dk_at dksX4_mostBy_3 0 rfl rfl)
theorem dX4_mostBy_73 : decode cX4_mostBy 73 = .ok (.aload_n 0, 1) := dk_42 (dk_at dksX4_mostBy_3 3 rfl rfl)
theorem dX4_mostBy_74 : decode cX4_mostBy 74 = .ok (.getfield 115, 3) := dk_180 0 115 (dk_at dksX4_mostBy_3 4 rfl rfl)
theorem dX4_mostBy_77 : decode cX4_mostBy 77 = .ok (.iload 4, 2) := dk_21 4 (dk_at dksX4_mostBy_3 7 rfl rfl)
theorem dX4_mostBy_79 : decode cX4_mostBy 79 = .ok (.iaload, 1) := dk_46 (dk_at dksX4_mostBy_3 9 rfl rfl)
theorem dX4_mostBy_80 : decode cX4_mostBy 80 = .ok (.istore_n 2, 1) := dk_61 (dk_at dksX4_mostBy_3 10 rfl rfl)
theorem dX4_mostBy_81 : decode cX4_mostBy 81 = .ok (.iinc 3 1, 3) := dk_132 3 1 (dk_at dksX4_mostBy_3 11 rfl rfl)
theorem dX4_mostBy_84 : decode cX4_mostBy 84 = .ok (.goto (-59), 3) := dk_167 255 197 (dk_at dksX4_mostBy_3 14 rfl rfl)
theorem dX4_mostBy_87 : decode cX4_mostBy 87 = .ok (.iload_n 2, 1) := dk_28 (dk_at dksX4_mostBy_3 17 rfl rfl)
theorem dX4_mostBy_88 : decode cX4_mostBy 88 = .ok (.ireturn, 1) := dk_172 (dk_at dksX4_mostBy_3 18 rfl rfl)
abbrev cX4_image : ByteArray := prog_22_method_123_code
def yX4_image : MethodName := ⟨RX4, "image", "(I)I"⟩
def dkwX4_image_2 : List UInt8 := [4, 84, 42, 180, 0, 85, 16, 57, 46, 172]
abbrev dktX4_image_2 : List UInt8 := dkwX4_image_2 ++ []
def dkwX4_image_1 : List UInt8 := [16, 59, 27, 104, 28, 96, 42, 180, 0, 85, 28, 46, 79, 132, 2, 1, 167, 255, 230, 42, 180, 0, 125, 27]
abbrev dktX4_image_1 : List UInt8 := dkwX4_image_1 ++ dktX4_image_2
def dkwX4_image_0 : List UInt8 := [27, 3, 5, 184, 1, 90, 154, 0, 5, 2, 172, 3, 61, 28, 16, 59, 162, 0, 26, 42, 180, 0, 122]
abbrev dktX4_image_0 : List UInt8 := dkwX4_image_0 ++ dktX4_image_1
theorem dksX4_image_0 : cX4_image.data.toList.drop 0 = dktX4_image_0 := by decide +kernel
theorem dksX4_image_1 : cX4_image.data.toList.drop 23 = dktX4_image_1 := dk_seg dksX4_image_0 23 rfl rfl
theorem dksX4_image_2 : cX4_image.data.toList.drop 47 = dktX4_image_2 := dk_seg dksX4_image_1 24 rfl rfl
theorem dX4_image_0 : decode cX4_image 0 = .ok (.iload_n 1, 1) := dk_27 (dk_at dksX4_image_0 0 rfl rfl)
theorem dX4_image_1 : decode cX4_image 1 = .ok (.iconst 0, 1) := dk_3 (dk_at dksX4_image_0 1 rfl rfl)
theorem dX4_image_2 : decode cX4_image 2 = .ok (.iconst 2, 1) := dk_5 (dk_at dksX4_image_0 2 rfl rfl)
theorem dX4_image_3 : decode cX4_image 3 = .ok (.invokestatic 346, 3) := dk_184 1 90 (dk_at dksX4_image_0 3 rfl rfl)
theorem dX4_image_6 : decode cX4_image 6 = .ok (.ifCond .ne 5, 3) := dk_154 0 5 (dk_at dksX4_image_0 6 rfl rfl)
theorem dX4_image_9 : decode cX4_image 9 = .ok (.iconst (-1), 1) := dk_2 (dk_at dksX4_image_0 9 rfl rfl)
theorem dX4_image_10 : decode cX4_image 10 = .ok (.ireturn, 1) := dk_172 (dk_at dksX4_image_0 10 rfl rfl)
theorem dX4_image_11 : decode cX4_image 11 = .ok (.iconst 0, 1) := dk_3 (dk_at dksX4_image_0 11 rfl rfl)
theorem dX4_image_12 : decode cX4_image 12 = .ok (.istore_n 2, 1) := dk_61 (dk_at dksX4_image_0 12 rfl rfl)
theorem dX4_image_13 : decode cX4_image 13 = .ok (.iload_n 2, 1) := dk_28 (dk_at dksX4_image_0 13 rfl rfl)
theorem dX4_image_14 : decode cX4_image 14 = .ok (.bipush 59, 2) := dk_16 59 (dk_at dksX4_image_0 14 rfl rfl)
theorem dX4_image_16 : decode cX4_image 16 = .ok (.if_icmp .ge 26, 3) := dk_162 0 26 (dk_at dksX4_image_0 16 rfl rfl)
theorem dX4_image_19 : decode cX4_image 19 = .ok (.aload_n 0, 1) := dk_42 (dk_at dksX4_image_0 19 rfl rfl)
theorem dX4_image_20 : decode cX4_image 20 = .ok (.getfield 122, 3) := dk_180 0 122 (dk_at dksX4_image_0 20 rfl rfl)
theorem dX4_image_23 : decode cX4_image 23 = .ok (.bipush 59, 2) := dk_16 59 (dk_at dksX4_image_1 0 rfl rfl)
theorem dX4_image_25 : decode cX4_image 25 = .ok (.iload_n 1, 1) := dk_27 (dk_at dksX4_image_1 2 rfl rfl)
theorem dX4_image_26 : decode cX4_image 26 = .ok (.imul, 1) := dk_104 (dk_at dksX4_image_1 3 rfl rfl)
theorem dX4_image_27 : decode cX4_image 27 = .ok (.iload_n 2, 1) := dk_28 (dk_at dksX4_image_1 4 rfl rfl)
theorem dX4_image_28 : decode cX4_image 28 = .ok (.iadd, 1) := dk_96 (dk_at dksX4_image_1 5 rfl rfl)
theorem dX4_image_29 : decode cX4_image 29 = .ok (.aload_n 0, 1) := dk_42 (dk_at dksX4_image_1 6 rfl rfl)
theorem dX4_image_30 : decode cX4_image 30 = .ok (.getfield 85, 3) := dk_180 0 85 (dk_at dksX4_image_1 7 rfl rfl)
theorem dX4_image_33 : decode cX4_image 33 = .ok (.iload_n 2, 1) := dk_28 (dk_at dksX4_image_1 10 rfl rfl)
theorem dX4_image_34 : decode cX4_image 34 = .ok (.iaload, 1) := dk_46 (dk_at dksX4_image_1 11 rfl rfl)
theorem dX4_image_35 : decode cX4_image 35 = .ok (.iastore, 1) := dk_79 (dk_at dksX4_image_1 12 rfl rfl)
theorem dX4_image_36 : decode cX4_image 36 = .ok (.iinc 2 1, 3) := dk_132 2 1 (dk_at dksX4_image_1 13 rfl rfl)
theorem dX4_image_39 : decode cX4_image 39 = .ok (.goto (-26), 3) := dk_167 255 230 (dk_at dksX4_image_1 16 rfl rfl)
theorem dX4_image_42 : decode cX4_image 42 = .ok (.aload_n 0, 1) := dk_42 (dk_at dksX4_image_1 19 rfl rfl)
theorem dX4_image_43 : decode cX4_image 43 = .ok (.getfield 125, 3) := dk_180 0 125 (dk_at dksX4_image_1 20 rfl rfl)
theorem dX4_image_46 : decode cX4_image 46 = .ok (.iload_n 1, 1) := dk_27 (dk_at dksX4_image_1 23 rfl rfl)
theorem dX4_image_47 : decode cX4_image 47 = .ok (.iconst 1, 1) := dk_4 (dk_at dksX4_image_2 0 rfl rfl)
theorem dX4_image_48 : decode cX4_image 48 = .ok (.bastore, 1) := dk_84 (dk_at dksX4_image_2 1 rfl rfl)
theorem dX4_image_49 : decode cX4_image 49 = .ok (.aload_n 0, 1) := dk_42 (dk_at dksX4_image_2 2 rfl rfl)
theorem dX4_image_50 : decode cX4_image 50 = .ok (.getfield 85, 3) := dk_180 0 85 (dk_at dksX4_image_2 3 rfl rfl)
theorem dX4_image_53 : decode cX4_image 53 = .ok (.bipush 57, 2) := dk_16 57 (dk_at dksX4_image_2 6 rfl rfl)
theorem dX4_image_55 : decode cX4_image 55 = .ok (.iaload, 1) := dk_46 (dk_at dksX4_image_2 8 rfl rfl)
theorem dX4_image_56 : decode cX4_image 56 = .ok (.ireturn, 1) := dk_172 (dk_at dksX4_image_2 9 rfl rfl)
abbrev cX4_back : ByteArray := prog_22_method_124_code
def yX4_back : MethodName := ⟨RX4, "back", "(I)I"⟩
def dkwX4_back_2 : List UInt8 := [132, 2, 1, 167, 255, 230, 42, 3, 181, 1, 107, 42, 3, 181, 1, 110, 42, 180, 0, 85, 16, 57, 46, 172]
abbrev dktX4_back_2 : List UInt8 := dkwX4_back_2 ++ []
def dkwX4_back_1 : List UInt8 := [16, 59, 162, 0, 26, 42, 180, 0, 85, 28, 42, 180, 0, 122, 16, 59, 27, 104, 28, 96, 46, 79]
abbrev dktX4_back_1 : List UInt8 := dkwX4_back_1 ++ dktX4_back_2
def dkwX4_back_0 : List UInt8 := [27, 3, 5, 184, 1, 90, 153, 0, 12, 42, 180, 0, 125, 27, 51, 154, 0, 5, 2, 172, 3, 61, 28]
abbrev dktX4_back_0 : List UInt8 := dkwX4_back_0 ++ dktX4_back_1
theorem dksX4_back_0 : cX4_back.data.toList.drop 0 = dktX4_back_0 := by decide +kernel
theorem dksX4_back_1 : cX4_back.data.toList.drop 23 = dktX4_back_1 := dk_seg dksX4_back_0 23 rfl rfl
theorem dksX4_back_2 : cX4_back.data.toList.drop 45 = dktX4_back_2 := dk_seg dksX4_back_1 22 rfl rfl
theorem dX4_back_0 : decode cX4_back 0 = .ok (.iload_n 1, 1) := dk_27 (dk_at dksX4_back_0 0 rfl rfl)
theorem dX4_back_1 : decode cX4_back 1 = .ok (.iconst 0, 1) := dk_3 (dk_at dksX4_back_0 1 rfl rfl)
theorem dX4_back_2 : decode cX4_back 2 = .ok (.iconst 2, 1) := dk_5 (dk_at dksX4_back_0 2 rfl rfl)
theorem dX4_back_3 : decode cX4_back 3 = .ok (.invokestatic 346, 3) := dk_184 1 90 (dk_at dksX4_back_0 3 rfl rfl)
theorem dX4_back_6 : decode cX4_back 6 = .ok (.ifCond .eq 12, 3) := dk_153 0 12 (dk_at dksX4_back_0 6 rfl rfl)
theorem dX4_back_9 : decode cX4_back 9 = .ok (.aload_n 0, 1) := dk_42 (dk_at dksX4_back_0 9 rfl rfl)
theorem dX4_back_10 : decode cX4_back 10 = .ok (.getfield 125, 3) := dk_180 0 125 (dk_at dksX4_back_0 10 rfl rfl)
theorem dX4_back_13 : decode cX4_back 13 = .ok (.iload_n 1, 1) := dk_27 (dk_at dksX4_back_0 13 rfl rfl)
theorem dX4_back_14 : decode cX4_back 14 = .ok (.baload, 1) := dk_51 (dk_at dksX4_back_0 14 rfl rfl)
theorem dX4_back_15 : decode cX4_back 15 = .ok (.ifCond .ne 5, 3) := dk_154 0 5 (dk_at dksX4_back_0 15 rfl rfl)
theorem dX4_back_18 : decode cX4_back 18 = .ok (.iconst (-1), 1) := dk_2 (dk_at dksX4_back_0 18 rfl rfl)
theorem dX4_back_19 : decode cX4_back 19 = .ok (.ireturn, 1) := dk_172 (dk_at dksX4_back_0 19 rfl rfl)
theorem dX4_back_20 : decode cX4_back 20 = .ok (.iconst 0, 1) := dk_3 (dk_at dksX4_back_0 20 rfl rfl)
theorem dX4_back_21 : decode cX4_back 21 = .ok (.istore_n 2, 1) := dk_61 (dk_at dksX4_back_0 21 rfl rfl)
theorem dX4_back_22 : decode cX4_back 22 = .ok (.iload_n 2, 1) := dk_28 (dk_at dksX4_back_0 22 rfl rfl)
theorem dX4_back_23 : decode cX4_back 23 = .ok (.bipush 59, 2) := dk_16 59 (dk_at dksX4_back_1 0 rfl rfl)
theorem dX4_back_25 : decode cX4_back 25 = .ok (.if_icmp .ge 26, 3) := dk_162 0 26 (dk_at dksX4_back_1 2 rfl rfl)
theorem dX4_back_28 : decode cX4_back 28 = .ok (.aload_n 0, 1) := dk_42 (dk_at dksX4_back_1 5 rfl rfl)
theorem dX4_back_29 : decode cX4_back 29 = .ok (.getfield 85, 3) := dk_180 0 85 (dk_at dksX4_back_1 6 rfl rfl)
theorem dX4_back_32 : decode cX4_back 32 = .ok (.iload_n 2, 1) := dk_28 (dk_at dksX4_back_1 9 rfl rfl)
theorem dX4_back_33 : decode cX4_back 33 = .ok (.aload_n 0, 1) := dk_42 (dk_at dksX4_back_1 10 rfl rfl)
theorem dX4_back_34 : decode cX4_back 34 = .ok (.getfield 122, 3) := dk_180 0 122 (dk_at dksX4_back_1 11 rfl rfl)
theorem dX4_back_37 : decode cX4_back 37 = .ok (.bipush 59, 2) := dk_16 59 (dk_at dksX4_back_1 14 rfl rfl)
theorem dX4_back_39 : decode cX4_back 39 = .ok (.iload_n 1, 1) := dk_27 (dk_at dksX4_back_1 16 rfl rfl)
theorem dX4_back_40 : decode cX4_back 40 = .ok (.imul, 1) := dk_104 (dk_at dksX4_back_1 17 rfl rfl)
theorem dX4_back_41 : decode cX4_back 41 = .ok (.iload_n 2, 1) := dk_28 (dk_at dksX4_back_1 18 rfl rfl)
theorem dX4_back_42 : decode cX4_back 42 = .ok (.iadd, 1) := dk_96 (dk_at dksX4_back_1 19 rfl rfl)
theorem dX4_back_43 : decode cX4_back 43 = .ok (.iaload, 1) := dk_46 (dk_at dksX4_back_1 20 rfl rfl)
theorem dX4_back_44 : decode cX4_back 44 = .ok (.iastore, 1) := dk_79 (dk_at dksX4_back_1 21 rfl rfl)
theorem dX4_back_45 : decode cX4_back 45 = .ok (.iinc 2 1, 3) := dk_132 2 1 (dk_at dksX4_back_2 0 rfl rfl)
theorem dX4_back_48 : decode cX4_back 48 = .ok (.goto (-26), 3) := dk_167 255 230 (dk_at dksX4_back_2 3 rfl rfl)
theorem dX4_back_51 : decode cX4_back 51 = .ok (.aload_n 0, 1) := dk_42 (dk_at dksX4_back_2 6 rfl rfl)
theorem dX4_back_52 : decode cX4_back 52 = .ok (.iconst 0, 1) := dk_3 (dk_at dksX4_back_2 7 rfl rfl)
theorem dX4_back_53 : decode cX4_back 53 = .ok (.putfield 363, 3) := dk_181 1 107 (dk_at dksX4_back_2 8 rfl rfl)
theorem dX4_back_56 : decode cX4_back 56 = .ok (.aload_n 0, 1) := dk_42 (dk_at dksX4_back_2 11 rfl rfl)
theorem dX4_back_57 : decode cX4_back 57 = .ok (.iconst 0, 1) := dk_3 (dk_at dksX4_back_2 12 rfl rfl)
theorem dX4_back_58 : decode cX4_back 58 = .ok (.putfield 366, 3) := dk_181 1 110 (dk_at dksX4_back_2 13 rfl rfl)
theorem dX4_back_61 : decode cX4_back 61 = .ok (.aload_n 0, 1) := dk_42 (dk_at dksX4_back_2 16 rfl rfl)
theorem dX4_back_62 : decode cX4_back 62 = .ok (.getfield 85, 3) := dk_180 0 85 (dk_at dksX4_back_2 17 rfl rfl)
theorem dX4_back_65 : decode cX4_back 65 = .ok (.bipush 57, 2) := dk_16 57 (dk_at dksX4_back_2 20 rfl rfl)
theorem dX4_back_67 : decode cX4_back 67 = .ok (.iaload, 1) := dk_46 (dk_at dksX4_back_2 22 rfl rfl)
theorem dX4_back_68 : decode cX4_back 68 = .ok (.ireturn, 1) := dk_172 (dk_at dksX4_back_2 23 rfl rfl)
abbrev cX4_about : ByteArray := prog_22_method_125_code
def yX4_about : MethodName := ⟨RX4, "about", "(I)I"⟩
def dkwX4_about_6 : List UInt8 := [42, 180, 0, 244, 46, 172, 2, 172]
abbrev dktX4_about_6 : List UInt8 := dkwX4_about_6 ++ []
def dkwX4_about_5 : List UInt8 := [180, 0, 244, 46, 172, 42, 180, 1, 116, 172, 42, 180, 0, 30, 42, 180, 0, 244, 46, 172, 42, 180, 0, 24]
abbrev dktX4_about_5 : List UInt8 := dkwX4_about_5 ++ dktX4_about_6
def dkwX4_about_4 : List UInt8 := [180, 1, 110, 172, 42, 180, 1, 113, 172, 42, 180, 1, 219, 172, 42, 180, 0, 241, 172, 42, 180, 0, 27, 42]
abbrev dktX4_about_4 : List UInt8 := dkwX4_about_4 ++ dktX4_about_5
def dkwX4_about_3 : List UInt8 := [46, 172, 42, 180, 0, 85, 16, 57, 46, 172, 42, 180, 0, 85, 16, 58, 46, 172, 42, 180, 1, 107, 172, 42]
abbrev dktX4_about_3 : List UInt8 := dkwX4_about_3 ++ dktX4_about_4
def dkwX4_about_2 : List UInt8 := [42, 182, 1, 75, 184, 1, 78, 172, 42, 182, 1, 87, 172, 42, 182, 1, 75, 172, 42, 180, 0, 85, 16, 56]
abbrev dktX4_about_2 : List UInt8 := dkwX4_about_2 ++ dktX4_about_3
def dkwX4_about_1 : List UInt8 := [170, 0, 0, 0, 0, 0, 177, 0, 0, 0, 0, 0, 0, 0, 14, 0, 0, 0, 75, 0, 0, 0, 83, 0, 0, 0, 88, 0, 0, 0, 93, 0, 0, 0, 101, 0, 0, 0, 109, 0, 0, 0, 117, 0, 0, 0, 122, 0, 0, 0, 127, 0, 0, 0, 132, 0, 0, 0, 137, 0, 0, 0, 142, 0, 0, 0, 152, 0, 0, 0, 157, 0, 0, 0, 167]
abbrev dktX4_about_1 : List UInt8 := dkwX4_about_1 ++ dktX4_about_2
def dkwX4_about_0 : List UInt8 := [27]
abbrev dktX4_about_0 : List UInt8 := dkwX4_about_0 ++ dktX4_about_1
theorem dksX4_about_0 : cX4_about.data.toList.drop 0 = dktX4_about_0 := by decide +kernel
theorem dksX4_about_1 : cX4_about.data.toList.drop 1 = dktX4_about_1 := dk_seg dksX4_about_0 1 rfl rfl
theorem dksX4_about_2 : cX4_about.data.toList.drop 76 = dktX4_about_2 := dk_seg dksX4_about_1 75 rfl rfl
theorem dksX4_about_3 : cX4_about.data.toList.drop 100 = dktX4_about_3 := dk_seg dksX4_about_2 24 rfl rfl
theorem dksX4_about_4 : cX4_about.data.toList.drop 124 = dktX4_about_4 := dk_seg dksX4_about_3 24 rfl rfl
theorem dksX4_about_5 : cX4_about.data.toList.drop 148 = dktX4_about_5 := dk_seg dksX4_about_4 24 rfl rfl
theorem dksX4_about_6 : cX4_about.data.toList.drop 172 = dktX4_about_6 := dk_seg dksX4_about_5 24 rfl rfl
theorem dX4_about_0 : decode cX4_about 0 = .ok (.iload_n 1, 1) := dk_27 (dk_at dksX4_about_0 0 rfl rfl)
theorem dX4_about_1 : decode cX4_about 1 = .ok (.tableswitch 177 0 14 #[75, 83, 88, 93, 101, 109, 117, 122, 127, 132, 137, 142, 152, 157, 167], 75) := by decide +kernel
theorem dX4_about_76 : decode cX4_about 76 = .ok (.aload_n 0, 1) := dk_42 (dk_at dksX4_about_2 0 rfl rfl)
theorem dX4_about_77 : decode cX4_about 77 = .ok (.invokevirtual 331, 3) := dk_182 1 75 (dk_at dksX4_about_2 1 rfl rfl)
theorem dX4_about_80 : decode cX4_about 80 = .ok (.invokestatic 334, 3) := dk_184 1 78 (dk_at dksX4_about_2 4 rfl rfl)
theorem dX4_about_83 : decode cX4_about 83 = .ok (.ireturn, 1) := dk_172 (dk_at dksX4_about_2 7 rfl rfl)
theorem dX4_about_84 : decode cX4_about 84 = .ok (.aload_n 0, 1) := dk_42 (dk_at dksX4_about_2 8 rfl rfl)
theorem dX4_about_85 : decode cX4_about 85 = .ok (.invokevirtual 343, 3) := dk_182 1 87 (dk_at dksX4_about_2 9 rfl rfl)
theorem dX4_about_88 : decode cX4_about 88 = .ok (.ireturn, 1) := dk_172 (dk_at dksX4_about_2 12 rfl rfl)
theorem dX4_about_89 : decode cX4_about 89 = .ok (.aload_n 0, 1) := dk_42 (dk_at dksX4_about_2 13 rfl rfl)
theorem dX4_about_90 : decode cX4_about 90 = .ok (.invokevirtual 331, 3) := dk_182 1 75 (dk_at dksX4_about_2 14 rfl rfl)
theorem dX4_about_93 : decode cX4_about 93 = .ok (.ireturn, 1) := dk_172 (dk_at dksX4_about_2 17 rfl rfl)
theorem dX4_about_94 : decode cX4_about 94 = .ok (.aload_n 0, 1) := dk_42 (dk_at dksX4_about_2 18 rfl rfl)
theorem dX4_about_95 : decode cX4_about 95 = .ok (.getfield 85, 3) := dk_180 0 85 (dk_at dksX4_about_2 19 rfl rfl)
theorem dX4_about_98 : decode cX4_about 98 = .ok (.bipush 56, 2) := dk_16 56 (dk_at dksX4_about_2 22 rfl rfl)
theorem dX4_about_100 : decode cX4_about 100 = .ok (.iaload, 1) := dk_46 (dk_at dksX4_about_3 0 rfl rfl)
theorem dX4_about_101 : decode cX4_about 101 = .ok (.ireturn, 1) := dk_172 (dk_at dksX4_about_3 1 rfl rfl)
theorem dX4_about_102 : decode cX4_about 102 = .ok (.aload_n 0, 1) := dk_42 (dk_at dksX4_about_3 2 rfl rfl)
theorem dX4_about_103 : decode cX4_about 103 = .ok (.getfield 85, 3) := dk_180 0 85 (dk_at dksX4_about_3 3 rfl rfl)
theorem dX4_about_106 : decode cX4_about 106 = .ok (.bipush 57, 2) := dk_16 57 (dk_at dksX4_about_3 6 rfl rfl)
theorem dX4_about_108 : decode cX4_about 108 = .ok (.iaload, 1) := dk_46 (dk_at dksX4_about_3 8 rfl rfl)
theorem dX4_about_109 : decode cX4_about 109 = .ok (.ireturn, 1) := dk_172 (dk_at dksX4_about_3 9 rfl rfl)
theorem dX4_about_110 : decode cX4_about 110 = .ok (.aload_n 0, 1) := dk_42 (dk_at dksX4_about_3 10 rfl rfl)
theorem dX4_about_111 : decode cX4_about 111 = .ok (.getfield 85, 3) := dk_180 0 85 (dk_at dksX4_about_3 11 rfl rfl)
theorem dX4_about_114 : decode cX4_about 114 = .ok (.bipush 58, 2) := dk_16 58 (dk_at dksX4_about_3 14 rfl rfl)
theorem dX4_about_116 : decode cX4_about 116 = .ok (.iaload, 1) := dk_46 (dk_at dksX4_about_3 16 rfl rfl)
theorem dX4_about_117 : decode cX4_about 117 = .ok (.ireturn, 1) := dk_172 (dk_at dksX4_about_3 17 rfl rfl)
theorem dX4_about_118 : decode cX4_about 118 = .ok (.aload_n 0, 1) := dk_42 (dk_at dksX4_about_3 18 rfl rfl)
theorem dX4_about_119 : decode cX4_about 119 = .ok (.getfield 363, 3) := dk_180 1 107 (dk_at dksX4_about_3 19 rfl rfl)
theorem dX4_about_122 : decode cX4_about 122 = .ok (.ireturn, 1) := dk_172 (dk_at dksX4_about_3 22 rfl rfl)
theorem dX4_about_123 : decode cX4_about 123 = .ok (.aload_n 0, 1) := dk_42 (dk_at dksX4_about_3 23 rfl rfl)
theorem dX4_about_124 : decode cX4_about 124 = .ok (.getfield 366, 3) := dk_180 1 110 (dk_at dksX4_about_4 0 rfl rfl)
theorem dX4_about_127 : decode cX4_about 127 = .ok (.ireturn, 1) := dk_172 (dk_at dksX4_about_4 3 rfl rfl)
theorem dX4_about_128 : decode cX4_about 128 = .ok (.aload_n 0, 1) := dk_42 (dk_at dksX4_about_4 4 rfl rfl)
theorem dX4_about_129 : decode cX4_about 129 = .ok (.getfield 369, 3) := dk_180 1 113 (dk_at dksX4_about_4 5 rfl rfl)
theorem dX4_about_132 : decode cX4_about 132 = .ok (.ireturn, 1) := dk_172 (dk_at dksX4_about_4 8 rfl rfl)
theorem dX4_about_133 : decode cX4_about 133 = .ok (.aload_n 0, 1) := dk_42 (dk_at dksX4_about_4 9 rfl rfl)
theorem dX4_about_134 : decode cX4_about 134 = .ok (.getfield 475, 3) := dk_180 1 219 (dk_at dksX4_about_4 10 rfl rfl)
theorem dX4_about_137 : decode cX4_about 137 = .ok (.ireturn, 1) := dk_172 (dk_at dksX4_about_4 13 rfl rfl)
theorem dX4_about_138 : decode cX4_about 138 = .ok (.aload_n 0, 1) := dk_42 (dk_at dksX4_about_4 14 rfl rfl)
theorem dX4_about_139 : decode cX4_about 139 = .ok (.getfield 241, 3) := dk_180 0 241 (dk_at dksX4_about_4 15 rfl rfl)
theorem dX4_about_142 : decode cX4_about 142 = .ok (.ireturn, 1) := dk_172 (dk_at dksX4_about_4 18 rfl rfl)
theorem dX4_about_143 : decode cX4_about 143 = .ok (.aload_n 0, 1) := dk_42 (dk_at dksX4_about_4 19 rfl rfl)
theorem dX4_about_144 : decode cX4_about 144 = .ok (.getfield 27, 3) := dk_180 0 27 (dk_at dksX4_about_4 20 rfl rfl)
theorem dX4_about_147 : decode cX4_about 147 = .ok (.aload_n 0, 1) := dk_42 (dk_at dksX4_about_4 23 rfl rfl)
theorem dX4_about_148 : decode cX4_about 148 = .ok (.getfield 244, 3) := dk_180 0 244 (dk_at dksX4_about_5 0 rfl rfl)
theorem dX4_about_151 : decode cX4_about 151 = .ok (.iaload, 1) := dk_46 (dk_at dksX4_about_5 3 rfl rfl)
theorem dX4_about_152 : decode cX4_about 152 = .ok (.ireturn, 1) := dk_172 (dk_at dksX4_about_5 4 rfl rfl)
theorem dX4_about_153 : decode cX4_about 153 = .ok (.aload_n 0, 1) := dk_42 (dk_at dksX4_about_5 5 rfl rfl)
theorem dX4_about_154 : decode cX4_about 154 = .ok (.getfield 372, 3) := dk_180 1 116 (dk_at dksX4_about_5 6 rfl rfl)
theorem dX4_about_157 : decode cX4_about 157 = .ok (.ireturn, 1) := dk_172 (dk_at dksX4_about_5 9 rfl rfl)
theorem dX4_about_158 : decode cX4_about 158 = .ok (.aload_n 0, 1) := dk_42 (dk_at dksX4_about_5 10 rfl rfl)
theorem dX4_about_159 : decode cX4_about 159 = .ok (.getfield 30, 3) := dk_180 0 30 (dk_at dksX4_about_5 11 rfl rfl)
theorem dX4_about_162 : decode cX4_about 162 = .ok (.aload_n 0, 1) := dk_42 (dk_at dksX4_about_5 14 rfl rfl)
theorem dX4_about_163 : decode cX4_about 163 = .ok (.getfield 244, 3) := dk_180 0 244 (dk_at dksX4_about_5 15 rfl rfl)
theorem dX4_about_166 : decode cX4_about 166 = .ok (.iaload, 1) := dk_46 (dk_at dksX4_about_5 18 rfl rfl)
theorem dX4_about_167 : decode cX4_about 167 = .ok (.ireturn, 1) := dk_172 (dk_at dksX4_about_5 19 rfl rfl)
theorem dX4_about_168 : decode cX4_about 168 = .ok (.aload_n 0, 1) := dk_42 (dk_at dksX4_about_5 20 rfl rfl)
theorem dX4_about_169 : decode cX4_about 169 = .ok (.getfield 24, 3) := dk_180 0 24 (dk_at dksX4_about_5 21 rfl rfl)
theorem dX4_about_172 : decode cX4_about 172 = .ok (.aload_n 0, 1) := dk_42 (dk_at dksX4_about_6 0 rfl rfl)
theorem dX4_about_173 : decode cX4_about 173 = .ok (.getfield 244, 3) := dk_180 0 244 (dk_at dksX4_about_6 1 rfl rfl)
theorem dX4_about_176 : decode cX4_about 176 = .ok (.iaload, 1) := dk_46 (dk_at dksX4_about_6 4 rfl rfl)
theorem dX4_about_177 : decode cX4_about 177 = .ok (.ireturn, 1) := dk_172 (dk_at dksX4_about_6 5 rfl rfl)
theorem dX4_about_178 : decode cX4_about 178 = .ok (.iconst (-1), 1) := dk_2 (dk_at dksX4_about_6 6 rfl rfl)
theorem dX4_about_179 : decode cX4_about 179 = .ok (.ireturn, 1) := dk_172 (dk_at dksX4_about_6 7 rfl rfl)
abbrev cX4_feed : ByteArray := prog_22_method_126_code
def yX4_feed : MethodName := ⟨RX4, "feed", "(IIIII)I"⟩
def dkwX4_feed_5 : List UInt8 := [180, 0, 241, 172]
abbrev dktX4_feed_5 : List UInt8 := dkwX4_feed_5 ++ []
def dkwX4_feed_4 : List UInt8 := [126, 104, 100, 122, 145, 84, 132, 6, 1, 167, 255, 172, 42, 89, 180, 0, 241, 16, 20, 96, 181, 0, 241, 42]
abbrev dktX4_feed_4 : List UInt8 := dkwX4_feed_4 ++ dktX4_feed_5
def dkwX4_feed_3 : List UInt8 := [21, 5, 54, 7, 42, 180, 0, 7, 42, 180, 0, 241, 21, 6, 96, 21, 7, 16, 24, 16, 8, 21, 6, 6]
abbrev dktX4_feed_3 : List UInt8 := dkwX4_feed_3 ++ dktX4_feed_4
def dkwX4_feed_2 : List UInt8 := [21, 6, 16, 12, 162, 0, 7, 29, 167, 0, 17, 21, 6, 16, 16, 162, 0, 8, 21, 4, 167, 0, 5]
abbrev dktX4_feed_2 : List UInt8 := dkwX4_feed_2 ++ dktX4_feed_3
def dkwX4_feed_1 : List UInt8 := [162, 0, 83, 21, 6, 7, 162, 0, 7, 27, 167, 0, 39, 21, 6, 16, 8, 162, 0, 7, 28, 167, 0, 28]
abbrev dktX4_feed_1 : List UInt8 := dkwX4_feed_1 ++ dktX4_feed_2
def dkwX4_feed_0 : List UInt8 := [42, 180, 0, 241, 16, 20, 96, 17, 6, 64, 164, 0, 5, 2, 172, 3, 54, 6, 21, 6, 16, 20]
abbrev dktX4_feed_0 : List UInt8 := dkwX4_feed_0 ++ dktX4_feed_1
theorem dksX4_feed_0 : cX4_feed.data.toList.drop 0 = dktX4_feed_0 := by decide +kernel
theorem dksX4_feed_1 : cX4_feed.data.toList.drop 22 = dktX4_feed_1 := dk_seg dksX4_feed_0 22 rfl rfl
theorem dksX4_feed_2 : cX4_feed.data.toList.drop 46 = dktX4_feed_2 := dk_seg dksX4_feed_1 24 rfl rfl
theorem dksX4_feed_3 : cX4_feed.data.toList.drop 69 = dktX4_feed_3 := dk_seg dksX4_feed_2 23 rfl rfl
theorem dksX4_feed_4 : cX4_feed.data.toList.drop 93 = dktX4_feed_4 := dk_seg dksX4_feed_3 24 rfl rfl
theorem dksX4_feed_5 : cX4_feed.data.toList.drop 117 = dktX4_feed_5 := dk_seg dksX4_feed_4 24 rfl rfl
theorem dX4_feed_0 : decode cX4_feed 0 = .ok (.aload_n 0, 1) := dk_42 (dk_at dksX4_feed_0 0 rfl rfl)
theorem dX4_feed_1 : decode cX4_feed 1 = .ok (.getfield 241, 3) := dk_180 0 241 (dk_at dksX4_feed_0 1 rfl rfl)
theorem dX4_feed_4 : decode cX4_feed 4 = .ok (.bipush 20, 2) := dk_16 20 (dk_at dksX4_feed_0 4 rfl rfl)
theorem dX4_feed_6 : decode cX4_feed 6 = .ok (.iadd, 1) := dk_96 (dk_at dksX4_feed_0 6 rfl rfl)
theorem dX4_feed_7 : decode cX4_feed 7 = .ok (.sipush 1600, 3) := dk_17 6 64 (dk_at dksX4_feed_0 7 rfl rfl)
theorem dX4_feed_10 : decode cX4_feed 10 = .ok (.if_icmp .le 5, 3) := dk_164 0 5 (dk_at dksX4_feed_0 10 rfl rfl)
theorem dX4_feed_13 : decode cX4_feed 13 = .ok (.iconst (-1), 1) := dk_2 (dk_at dksX4_feed_0 13 rfl rfl)
theorem dX4_feed_14 : decode cX4_feed 14 = .ok (.ireturn, 1) := dk_172 (dk_at dksX4_feed_0 14 rfl rfl)
theorem dX4_feed_15 : decode cX4_feed 15 = .ok (.iconst 0, 1) := dk_3 (dk_at dksX4_feed_0 15 rfl rfl)
theorem dX4_feed_16 : decode cX4_feed 16 = .ok (.istore 6, 2) := dk_54 6 (dk_at dksX4_feed_0 16 rfl rfl)
theorem dX4_feed_18 : decode cX4_feed 18 = .ok (.iload 6, 2) := dk_21 6 (dk_at dksX4_feed_0 18 rfl rfl)
theorem dX4_feed_20 : decode cX4_feed 20 = .ok (.bipush 20, 2) := dk_16 20 (dk_at dksX4_feed_0 20 rfl rfl)
theorem dX4_feed_22 : decode cX4_feed 22 = .ok (.if_icmp .ge 83, 3) := dk_162 0 83 (dk_at dksX4_feed_1 0 rfl rfl)
theorem dX4_feed_25 : decode cX4_feed 25 = .ok (.iload 6, 2) := dk_21 6 (dk_at dksX4_feed_1 3 rfl rfl)
theorem dX4_feed_27 : decode cX4_feed 27 = .ok (.iconst 4, 1) := dk_7 (dk_at dksX4_feed_1 5 rfl rfl)
theorem dX4_feed_28 : decode cX4_feed 28 = .ok (.if_icmp .ge 7, 3) := dk_162 0 7 (dk_at dksX4_feed_1 6 rfl rfl)
theorem dX4_feed_31 : decode cX4_feed 31 = .ok (.iload_n 1, 1) := dk_27 (dk_at dksX4_feed_1 9 rfl rfl)
theorem dX4_feed_32 : decode cX4_feed 32 = .ok (.goto 39, 3) := dk_167 0 39 (dk_at dksX4_feed_1 10 rfl rfl)
theorem dX4_feed_35 : decode cX4_feed 35 = .ok (.iload 6, 2) := dk_21 6 (dk_at dksX4_feed_1 13 rfl rfl)
theorem dX4_feed_37 : decode cX4_feed 37 = .ok (.bipush 8, 2) := dk_16 8 (dk_at dksX4_feed_1 15 rfl rfl)
theorem dX4_feed_39 : decode cX4_feed 39 = .ok (.if_icmp .ge 7, 3) := dk_162 0 7 (dk_at dksX4_feed_1 17 rfl rfl)
theorem dX4_feed_42 : decode cX4_feed 42 = .ok (.iload_n 2, 1) := dk_28 (dk_at dksX4_feed_1 20 rfl rfl)
theorem dX4_feed_43 : decode cX4_feed 43 = .ok (.goto 28, 3) := dk_167 0 28 (dk_at dksX4_feed_1 21 rfl rfl)
theorem dX4_feed_46 : decode cX4_feed 46 = .ok (.iload 6, 2) := dk_21 6 (dk_at dksX4_feed_2 0 rfl rfl)
theorem dX4_feed_48 : decode cX4_feed 48 = .ok (.bipush 12, 2) := dk_16 12 (dk_at dksX4_feed_2 2 rfl rfl)
theorem dX4_feed_50 : decode cX4_feed 50 = .ok (.if_icmp .ge 7, 3) := dk_162 0 7 (dk_at dksX4_feed_2 4 rfl rfl)
theorem dX4_feed_53 : decode cX4_feed 53 = .ok (.iload_n 3, 1) := dk_29 (dk_at dksX4_feed_2 7 rfl rfl)
theorem dX4_feed_54 : decode cX4_feed 54 = .ok (.goto 17, 3) := dk_167 0 17 (dk_at dksX4_feed_2 8 rfl rfl)
theorem dX4_feed_57 : decode cX4_feed 57 = .ok (.iload 6, 2) := dk_21 6 (dk_at dksX4_feed_2 11 rfl rfl)
theorem dX4_feed_59 : decode cX4_feed 59 = .ok (.bipush 16, 2) := dk_16 16 (dk_at dksX4_feed_2 13 rfl rfl)
theorem dX4_feed_61 : decode cX4_feed 61 = .ok (.if_icmp .ge 8, 3) := dk_162 0 8 (dk_at dksX4_feed_2 15 rfl rfl)
theorem dX4_feed_64 : decode cX4_feed 64 = .ok (.iload 4, 2) := dk_21 4 (dk_at dksX4_feed_2 18 rfl rfl)
theorem dX4_feed_66 : decode cX4_feed 66 = .ok (.goto 5, 3) := dk_167 0 5 (dk_at dksX4_feed_2 20 rfl rfl)
theorem dX4_feed_69 : decode cX4_feed 69 = .ok (.iload 5, 2) := dk_21 5 (dk_at dksX4_feed_3 0 rfl rfl)
theorem dX4_feed_71 : decode cX4_feed 71 = .ok (.istore 7, 2) := dk_54 7 (dk_at dksX4_feed_3 2 rfl rfl)
theorem dX4_feed_73 : decode cX4_feed 73 = .ok (.aload_n 0, 1) := dk_42 (dk_at dksX4_feed_3 4 rfl rfl)
theorem dX4_feed_74 : decode cX4_feed 74 = .ok (.getfield 7, 3) := dk_180 0 7 (dk_at dksX4_feed_3 5 rfl rfl)
theorem dX4_feed_77 : decode cX4_feed 77 = .ok (.aload_n 0, 1) := dk_42 (dk_at dksX4_feed_3 8 rfl rfl)
theorem dX4_feed_78 : decode cX4_feed 78 = .ok (.getfield 241, 3) := dk_180 0 241 (dk_at dksX4_feed_3 9 rfl rfl)
theorem dX4_feed_81 : decode cX4_feed 81 = .ok (.iload 6, 2) := dk_21 6 (dk_at dksX4_feed_3 12 rfl rfl)
theorem dX4_feed_83 : decode cX4_feed 83 = .ok (.iadd, 1) := dk_96 (dk_at dksX4_feed_3 14 rfl rfl)
theorem dX4_feed_84 : decode cX4_feed 84 = .ok (.iload 7, 2) := dk_21 7 (dk_at dksX4_feed_3 15 rfl rfl)
theorem dX4_feed_86 : decode cX4_feed 86 = .ok (.bipush 24, 2) := dk_16 24 (dk_at dksX4_feed_3 17 rfl rfl)
theorem dX4_feed_88 : decode cX4_feed 88 = .ok (.bipush 8, 2) := dk_16 8 (dk_at dksX4_feed_3 19 rfl rfl)
theorem dX4_feed_90 : decode cX4_feed 90 = .ok (.iload 6, 2) := dk_21 6 (dk_at dksX4_feed_3 21 rfl rfl)
theorem dX4_feed_92 : decode cX4_feed 92 = .ok (.iconst 3, 1) := dk_6 (dk_at dksX4_feed_3 23 rfl rfl)
theorem dX4_feed_93 : decode cX4_feed 93 = .ok (.iand, 1) := dk_126 (dk_at dksX4_feed_4 0 rfl rfl)
theorem dX4_feed_94 : decode cX4_feed 94 = .ok (.imul, 1) := dk_104 (dk_at dksX4_feed_4 1 rfl rfl)
theorem dX4_feed_95 : decode cX4_feed 95 = .ok (.isub, 1) := dk_100 (dk_at dksX4_feed_4 2 rfl rfl)
theorem dX4_feed_96 : decode cX4_feed 96 = .ok (.ishr, 1) := dk_122 (dk_at dksX4_feed_4 3 rfl rfl)
theorem dX4_feed_97 : decode cX4_feed 97 = .ok (.i2b, 1) := dk_145 (dk_at dksX4_feed_4 4 rfl rfl)
theorem dX4_feed_98 : decode cX4_feed 98 = .ok (.bastore, 1) := dk_84 (dk_at dksX4_feed_4 5 rfl rfl)
theorem dX4_feed_99 : decode cX4_feed 99 = .ok (.iinc 6 1, 3) := dk_132 6 1 (dk_at dksX4_feed_4 6 rfl rfl)
theorem dX4_feed_102 : decode cX4_feed 102 = .ok (.goto (-84), 3) := dk_167 255 172 (dk_at dksX4_feed_4 9 rfl rfl)
theorem dX4_feed_105 : decode cX4_feed 105 = .ok (.aload_n 0, 1) := dk_42 (dk_at dksX4_feed_4 12 rfl rfl)
theorem dX4_feed_106 : decode cX4_feed 106 = .ok (.dup, 1) := dk_89 (dk_at dksX4_feed_4 13 rfl rfl)
theorem dX4_feed_107 : decode cX4_feed 107 = .ok (.getfield 241, 3) := dk_180 0 241 (dk_at dksX4_feed_4 14 rfl rfl)
theorem dX4_feed_110 : decode cX4_feed 110 = .ok (.bipush 20, 2) := dk_16 20 (dk_at dksX4_feed_4 17 rfl rfl)
theorem dX4_feed_112 : decode cX4_feed 112 = .ok (.iadd, 1) := dk_96 (dk_at dksX4_feed_4 19 rfl rfl)
theorem dX4_feed_113 : decode cX4_feed 113 = .ok (.putfield 241, 3) := dk_181 0 241 (dk_at dksX4_feed_4 20 rfl rfl)
theorem dX4_feed_116 : decode cX4_feed 116 = .ok (.aload_n 0, 1) := dk_42 (dk_at dksX4_feed_4 23 rfl rfl)
theorem dX4_feed_117 : decode cX4_feed 117 = .ok (.getfield 241, 3) := dk_180 0 241 (dk_at dksX4_feed_5 0 rfl rfl)
theorem dX4_feed_120 : decode cX4_feed 120 = .ok (.ireturn, 1) := dk_172 (dk_at dksX4_feed_5 3 rfl rfl)
abbrev cX4_end : ByteArray := prog_22_method_127_code
def yX4_end : MethodName := ⟨RX4, "end", "(I)I"⟩
def dkwX4_end_0 : List UInt8 := [27, 155, 0, 11, 27, 42, 180, 0, 241, 164, 0, 5, 2, 172, 42, 27, 181, 0, 241, 27, 172]
abbrev dktX4_end_0 : List UInt8 := dkwX4_end_0 ++ []
theorem dksX4_end_0 : cX4_end.data.toList.drop 0 = dktX4_end_0 := by decide +kernel
theorem dX4_end_0 : decode cX4_end 0 = .ok (.iload_n 1, 1) := dk_27 (dk_at dksX4_end_0 0 rfl rfl)
theorem dX4_end_1 : decode cX4_end 1 = .ok (.ifCond .lt 11, 3) := dk_155 0 11 (dk_at dksX4_end_0 1 rfl rfl)
theorem dX4_end_4 : decode cX4_end 4 = .ok (.iload_n 1, 1) := dk_27 (dk_at dksX4_end_0 4 rfl rfl)
theorem dX4_end_5 : decode cX4_end 5 = .ok (.aload_n 0, 1) := dk_42 (dk_at dksX4_end_0 5 rfl rfl)
theorem dX4_end_6 : decode cX4_end 6 = .ok (.getfield 241, 3) := dk_180 0 241 (dk_at dksX4_end_0 6 rfl rfl)
theorem dX4_end_9 : decode cX4_end 9 = .ok (.if_icmp .le 5, 3) := dk_164 0 5 (dk_at dksX4_end_0 9 rfl rfl)
theorem dX4_end_12 : decode cX4_end 12 = .ok (.iconst (-1), 1) := dk_2 (dk_at dksX4_end_0 12 rfl rfl)
theorem dX4_end_13 : decode cX4_end 13 = .ok (.ireturn, 1) := dk_172 (dk_at dksX4_end_0 13 rfl rfl)
theorem dX4_end_14 : decode cX4_end 14 = .ok (.aload_n 0, 1) := dk_42 (dk_at dksX4_end_0 14 rfl rfl)
theorem dX4_end_15 : decode cX4_end 15 = .ok (.iload_n 1, 1) := dk_27 (dk_at dksX4_end_0 15 rfl rfl)
theorem dX4_end_16 : decode cX4_end 16 = .ok (.putfield 241, 3) := dk_181 0 241 (dk_at dksX4_end_0 16 rfl rfl)
theorem dX4_end_19 : decode cX4_end 19 = .ok (.iload_n 1, 1) := dk_27 (dk_at dksX4_end_0 19 rfl rfl)
theorem dX4_end_20 : decode cX4_end 20 = .ok (.ireturn, 1) := dk_172 (dk_at dksX4_end_0 20 rfl rfl)
theorem q132 : (Jvm.Cond.initialized "TrunkLittersModel") ∈ lw_all := lw_g (lw_at lw_m1 10 rfl) rfl
theorem q974 : (Jvm.Cond.selects "TrunkLittersModel" ({ cls := "java/lang/Object", name := "getClass", desc := "()Ljava/lang/Class;" } : Jvm.MethodName) ({ cls := "java/lang/Object", name := "getClass", desc := "()Ljava/lang/Class;" } : Jvm.MethodName)) ∈ lw_all := lw_g (lw_at lw_m4 132 rfl) rfl
theorem q1548 : (Jvm.Cond.instantiable "TrunkLittersModel" (60 : Nat)) ∈ lw_all := lw_g (lw_at lw_m6 226 rfl) rfl
theorem q1550 : (Jvm.Cond.instanceMethod ({ cls := "TrunkLittersModel", name := "<init>", desc := "()V" } : Jvm.MethodName)) ∈ lw_all := lw_g (lw_at lw_m6 228 rfl) rfl
theorem q1551 : (Jvm.Cond.code ({ cls := "TrunkLittersModel", name := "<init>", desc := "()V" } : Jvm.MethodName) prog_22_method_1_code (1 : Nat) (Option.none : Option Jvm.ClassFile.FieldType)) ∈ lw_all := lw_g (lw_at lw_m6 229 rfl) rfl
theorem q1552 : (Jvm.Cond.methodLink "TrunkLittersModel" (1 : Nat) ({ cls := "java/lang/Object", name := "<init>", desc := "()V" } : Jvm.MethodName)) ∈ lw_all := lw_g (lw_at lw_m6 230 rfl) rfl
theorem q1553 : (Jvm.Cond.methodLink "TrunkLittersModel" (128 : Nat) ({ cls := "TrunkLittersModel", name := "clearBank", desc := "()V" } : Jvm.MethodName)) ∈ lw_all := lw_g (lw_at lw_m6 231 rfl) rfl
theorem q1554 : (Jvm.Cond.privateMethod ({ cls := "TrunkLittersModel", name := "clearBank", desc := "()V" } : Jvm.MethodName)) ∈ lw_tbl := lw_at lw_m6 232 rfl
theorem q1555 : (Jvm.Cond.instanceMethod ({ cls := "TrunkLittersModel", name := "clearBank", desc := "()V" } : Jvm.MethodName)) ∈ lw_all := lw_g (lw_at lw_m6 233 rfl) rfl
theorem q1556 : (Jvm.Cond.code ({ cls := "TrunkLittersModel", name := "clearBank", desc := "()V" } : Jvm.MethodName) prog_22_method_16_code (1 : Nat) (Option.none : Option Jvm.ClassFile.FieldType)) ∈ lw_all := lw_g (lw_at lw_m6 234 rfl) rfl
theorem q1557 : (Jvm.Cond.methodLink "TrunkLittersModel" (131 : Nat) ({ cls := "TrunkLittersModel", name := "startAnew", desc := "()V" } : Jvm.MethodName)) ∈ lw_all := lw_g (lw_at lw_m6 235 rfl) rfl
theorem q1558 : (Jvm.Cond.privateMethod ({ cls := "TrunkLittersModel", name := "startAnew", desc := "()V" } : Jvm.MethodName)) ∈ lw_tbl := lw_at lw_m6 236 rfl
theorem q1559 : (Jvm.Cond.instanceMethod ({ cls := "TrunkLittersModel", name := "startAnew", desc := "()V" } : Jvm.MethodName)) ∈ lw_all := lw_g (lw_at lw_m6 237 rfl) rfl
theorem q1560 : (Jvm.Cond.code ({ cls := "TrunkLittersModel", name := "startAnew", desc := "()V" } : Jvm.MethodName) prog_22_method_51_code (3 : Nat) (Option.none : Option Jvm.ClassFile.FieldType)) ∈ lw_all := lw_g (lw_at lw_m6 238 rfl) rfl
theorem q1561 : (Jvm.Cond.methodLink "TrunkLittersModel" (359 : Nat) ({ cls := "TrunkLittersModel", name := "clearPlace", desc := "(I)V" } : Jvm.MethodName)) ∈ lw_all := lw_g (lw_at lw_m6 239 rfl) rfl
theorem q1562 : (Jvm.Cond.privateMethod ({ cls := "TrunkLittersModel", name := "clearPlace", desc := "(I)V" } : Jvm.MethodName)) ∈ lw_tbl := lw_at lw_m7 0 rfl
theorem q1563 : (Jvm.Cond.instanceMethod ({ cls := "TrunkLittersModel", name := "clearPlace", desc := "(I)V" } : Jvm.MethodName)) ∈ lw_all := lw_g (lw_at lw_m7 1 rfl) rfl
theorem q1564 : (Jvm.Cond.code ({ cls := "TrunkLittersModel", name := "clearPlace", desc := "(I)V" } : Jvm.MethodName) prog_22_method_52_code (2 : Nat) (Option.none : Option Jvm.ClassFile.FieldType)) ∈ lw_all := lw_g (lw_at lw_m7 2 rfl) rfl
theorem q1565 : (Jvm.Cond.fieldLink "TrunkLittersModel" (7 : Nat) "TrunkLittersModel" "tape" "[B") ∈ lw_all := lw_g (lw_at lw_m7 3 rfl) rfl
theorem q1566 : (Jvm.Cond.fieldLink "TrunkLittersModel" (13 : Nat) "TrunkLittersModel" "text" "[B") ∈ lw_all := lw_g (lw_at lw_m7 4 rfl) rfl
theorem q1567 : (Jvm.Cond.fieldLink "TrunkLittersModel" (241 : Nat) "TrunkLittersModel" "taped" "I") ∈ lw_all := lw_g (lw_at lw_m7 5 rfl) rfl
theorem q1568 : (Jvm.Cond.fieldLink "TrunkLittersModel" (134 : Nat) "TrunkLittersModel" "size" "I") ∈ lw_all := lw_g (lw_at lw_m7 6 rfl) rfl
theorem q1569 : (Jvm.Cond.fieldLink "TrunkLittersModel" (137 : Nat) "TrunkLittersModel" "faultKind" "I") ∈ lw_all := lw_g (lw_at lw_m7 7 rfl) rfl
theorem q1570 : (Jvm.Cond.fieldLink "TrunkLittersModel" (16 : Nat) "TrunkLittersModel" "faultPlace" "I") ∈ lw_all := lw_g (lw_at lw_m7 8 rfl) rfl
theorem q1571 : (Jvm.Cond.fieldLink "TrunkLittersModel" (179 : Nat) "TrunkLittersModel" "at" "I") ∈ lw_all := lw_g (lw_at lw_m7 9 rfl) rfl
theorem q1572 : (Jvm.Cond.fieldLink "TrunkLittersModel" (176 : Nat) "TrunkLittersModel" "end" "I") ∈ lw_all := lw_g (lw_at lw_m7 10 rfl) rfl
theorem q1573 : (Jvm.Cond.fieldLink "TrunkLittersModel" (186 : Nat) "TrunkLittersModel" "token" "I") ∈ lw_all := lw_g (lw_at lw_m7 11 rfl) rfl
theorem q1574 : (Jvm.Cond.fieldLink "TrunkLittersModel" (204 : Nat) "TrunkLittersModel" "number" "I") ∈ lw_all := lw_g (lw_at lw_m7 12 rfl) rfl
theorem q1575 : (Jvm.Cond.fieldLink "TrunkLittersModel" (193 : Nat) "TrunkLittersModel" "name" "J") ∈ lw_all := lw_g (lw_at lw_m7 13 rfl) rfl
theorem q1576 : (Jvm.Cond.fieldLink "TrunkLittersModel" (20 : Nat) "TrunkLittersModel" "rooms" "[I") ∈ lw_all := lw_g (lw_at lw_m7 14 rfl) rfl
theorem q1577 : (Jvm.Cond.fieldLink "TrunkLittersModel" (24 : Nat) "TrunkLittersModel" "trunks" "[I") ∈ lw_all := lw_g (lw_at lw_m7 15 rfl) rfl
theorem q1578 : (Jvm.Cond.fieldLink "TrunkLittersModel" (27 : Nat) "TrunkLittersModel" "units" "[I") ∈ lw_all := lw_g (lw_at lw_m7 16 rfl) rfl
theorem q1579 : (Jvm.Cond.fieldLink "TrunkLittersModel" (30 : Nat) "TrunkLittersModel" "pines" "[I") ∈ lw_all := lw_g (lw_at lw_m7 17 rfl) rfl
theorem q1580 : (Jvm.Cond.fieldLink "TrunkLittersModel" (33 : Nat) "TrunkLittersModel" "tales" "[I") ∈ lw_all := lw_g (lw_at lw_m7 18 rfl) rfl
theorem q1581 : (Jvm.Cond.fieldLink "TrunkLittersModel" (36 : Nat) "TrunkLittersModel" "draw" "[I") ∈ lw_all := lw_g (lw_at lw_m7 19 rfl) rfl
theorem q1582 : (Jvm.Cond.fieldLink "TrunkLittersModel" (39 : Nat) "TrunkLittersModel" "told" "[I") ∈ lw_all := lw_g (lw_at lw_m7 20 rfl) rfl
theorem q1583 : (Jvm.Cond.fieldLink "TrunkLittersModel" (42 : Nat) "TrunkLittersModel" "holds" "[I") ∈ lw_all := lw_g (lw_at lw_m7 21 rfl) rfl
theorem q1584 : (Jvm.Cond.fieldLink "TrunkLittersModel" (45 : Nat) "TrunkLittersModel" "bulkTold" "[I") ∈ lw_all := lw_g (lw_at lw_m7 22 rfl) rfl
theorem q1585 : (Jvm.Cond.fieldLink "TrunkLittersModel" (48 : Nat) "TrunkLittersModel" "roomTold" "[I") ∈ lw_all := lw_g (lw_at lw_m7 23 rfl) rfl
theorem q1586 : (Jvm.Cond.fieldLink "TrunkLittersModel" (51 : Nat) "TrunkLittersModel" "marksTold" "[I") ∈ lw_all := lw_g (lw_at lw_m7 24 rfl) rfl
theorem q1587 : (Jvm.Cond.fieldLink "TrunkLittersModel" (54 : Nat) "TrunkLittersModel" "hasTold" "[I") ∈ lw_all := lw_g (lw_at lw_m7 25 rfl) rfl
theorem q1588 : (Jvm.Cond.fieldLink "TrunkLittersModel" (57 : Nat) "TrunkLittersModel" "ruleFrom" "[I") ∈ lw_all := lw_g (lw_at lw_m7 26 rfl) rfl
theorem q1589 : (Jvm.Cond.fieldLink "TrunkLittersModel" (60 : Nat) "TrunkLittersModel" "ruleTo" "[I") ∈ lw_all := lw_g (lw_at lw_m7 27 rfl) rfl
theorem q1590 : (Jvm.Cond.fieldLink "TrunkLittersModel" (63 : Nat) "TrunkLittersModel" "rName" "[J") ∈ lw_all := lw_g (lw_at lw_m7 28 rfl) rfl
theorem q1591 : (Jvm.Cond.fieldLink "TrunkLittersModel" (67 : Nat) "TrunkLittersModel" "tName" "[J") ∈ lw_all := lw_g (lw_at lw_m7 29 rfl) rfl
theorem q1592 : (Jvm.Cond.fieldLink "TrunkLittersModel" (70 : Nat) "TrunkLittersModel" "code" "[I") ∈ lw_all := lw_g (lw_at lw_m7 30 rfl) rfl
theorem q1593 : (Jvm.Cond.fieldLink "TrunkLittersModel" (73 : Nat) "TrunkLittersModel" "codeNumber" "[I") ∈ lw_all := lw_g (lw_at lw_m7 31 rfl) rfl
theorem q1594 : (Jvm.Cond.fieldLink "TrunkLittersModel" (76 : Nat) "TrunkLittersModel" "eWhat" "[I") ∈ lw_all := lw_g (lw_at lw_m7 32 rfl) rfl
theorem q1595 : (Jvm.Cond.fieldLink "TrunkLittersModel" (79 : Nat) "TrunkLittersModel" "eSign" "[I") ∈ lw_all := lw_g (lw_at lw_m7 33 rfl) rfl
theorem q1596 : (Jvm.Cond.fieldLink "TrunkLittersModel" (82 : Nat) "TrunkLittersModel" "pile" "[I") ∈ lw_all := lw_g (lw_at lw_m7 34 rfl) rfl
theorem q1597 : (Jvm.Cond.fieldLink "TrunkLittersModel" (244 : Nat) "TrunkLittersModel" "bank" "I") ∈ lw_all := lw_g (lw_at lw_m7 35 rfl) rfl
theorem q1598 : (Jvm.Cond.fieldLink "TrunkLittersModel" (235 : Nat) "TrunkLittersModel" "rb" "I") ∈ lw_all := lw_g (lw_at lw_m7 36 rfl) rfl
theorem q1599 : (Jvm.Cond.fieldLink "TrunkLittersModel" (238 : Nat) "TrunkLittersModel" "codes" "I") ∈ lw_all := lw_g (lw_at lw_m7 37 rfl) rfl
theorem q1600 : (Jvm.Cond.fieldLink "TrunkLittersModel" (295 : Nat) "TrunkLittersModel" "within" "I") ∈ lw_all := lw_g (lw_at lw_m7 38 rfl) rfl
theorem q1601 : (Jvm.Cond.fieldLink "TrunkLittersModel" (292 : Nat) "TrunkLittersModel" "piled" "I") ∈ lw_all := lw_g (lw_at lw_m7 39 rfl) rfl
theorem q1602 : (Jvm.Cond.fieldLink "TrunkLittersModel" (286 : Nat) "TrunkLittersModel" "unitsInRule" "I") ∈ lw_all := lw_g (lw_at lw_m7 40 rfl) rfl
theorem q1603 : (Jvm.Cond.fieldLink "TrunkLittersModel" (319 : Nat) "TrunkLittersModel" "askOne" "I") ∈ lw_all := lw_g (lw_at lw_m7 41 rfl) rfl
theorem q1604 : (Jvm.Cond.fieldLink "TrunkLittersModel" (322 : Nat) "TrunkLittersModel" "askOther" "I") ∈ lw_all := lw_g (lw_at lw_m7 42 rfl) rfl
theorem q1605 : (Jvm.Cond.fieldLink "TrunkLittersModel" (85 : Nat) "TrunkLittersModel" "all" "[I") ∈ lw_all := lw_g (lw_at lw_m7 43 rfl) rfl
theorem q1606 : (Jvm.Cond.fieldLink "TrunkLittersModel" (88 : Nat) "TrunkLittersModel" "kept" "[I") ∈ lw_all := lw_g (lw_at lw_m7 44 rfl) rfl
theorem q1607 : (Jvm.Cond.fieldLink "TrunkLittersModel" (91 : Nat) "TrunkLittersModel" "thoughtPines" "I") ∈ lw_all := lw_g (lw_at lw_m7 45 rfl) rfl
theorem q1608 : (Jvm.Cond.fieldLink "TrunkLittersModel" (94 : Nat) "TrunkLittersModel" "was" "[I") ∈ lw_all := lw_g (lw_at lw_m7 46 rfl) rfl
theorem q1609 : (Jvm.Cond.fieldLink "TrunkLittersModel" (363 : Nat) "TrunkLittersModel" "acts" "I") ∈ lw_all := lw_g (lw_at lw_m7 47 rfl) rfl
theorem q1610 : (Jvm.Cond.fieldLink "TrunkLittersModel" (366 : Nat) "TrunkLittersModel" "undone" "I") ∈ lw_all := lw_g (lw_at lw_m7 48 rfl) rfl
theorem q1611 : (Jvm.Cond.fieldLink "TrunkLittersModel" (97 : Nat) "TrunkLittersModel" "laidRow" "[I") ∈ lw_all := lw_g (lw_at lw_m7 49 rfl) rfl
theorem q1612 : (Jvm.Cond.fieldLink "TrunkLittersModel" (372 : Nat) "TrunkLittersModel" "laid" "I") ∈ lw_all := lw_g (lw_at lw_m7 50 rfl) rfl
theorem q1613 : (Jvm.Cond.fieldLink "TrunkLittersModel" (100 : Nat) "TrunkLittersModel" "sOther" "[I") ∈ lw_all := lw_g (lw_at lw_m7 51 rfl) rfl
theorem q1614 : (Jvm.Cond.fieldLink "TrunkLittersModel" (103 : Nat) "TrunkLittersModel" "sMany" "[I") ∈ lw_all := lw_g (lw_at lw_m7 52 rfl) rfl
theorem q1615 : (Jvm.Cond.fieldLink "TrunkLittersModel" (106 : Nat) "TrunkLittersModel" "sIs" "[I") ∈ lw_all := lw_g (lw_at lw_m7 53 rfl) rfl
theorem q1616 : (Jvm.Cond.fieldLink "TrunkLittersModel" (109 : Nat) "TrunkLittersModel" "sTold" "[I") ∈ lw_all := lw_g (lw_at lw_m7 54 rfl) rfl
theorem q1617 : (Jvm.Cond.fieldLink "TrunkLittersModel" (112 : Nat) "TrunkLittersModel" "sUntold" "[I") ∈ lw_all := lw_g (lw_at lw_m7 55 rfl) rfl
theorem q1618 : (Jvm.Cond.fieldLink "TrunkLittersModel" (115 : Nat) "TrunkLittersModel" "parts" "[I") ∈ lw_all := lw_g (lw_at lw_m7 56 rfl) rfl
theorem q1619 : (Jvm.Cond.fieldLink "TrunkLittersModel" (118 : Nat) "TrunkLittersModel" "isFit" "[Z") ∈ lw_all := lw_g (lw_at lw_m7 57 rfl) rfl
theorem q1620 : (Jvm.Cond.fieldLink "TrunkLittersModel" (369 : Nat) "TrunkLittersModel" "helds" "I") ∈ lw_all := lw_g (lw_at lw_m7 58 rfl) rfl
theorem q1621 : (Jvm.Cond.fieldLink "TrunkLittersModel" (475 : Nat) "TrunkLittersModel" "time" "I") ∈ lw_all := lw_g (lw_at lw_m7 59 rfl) rfl
theorem q1622 : (Jvm.Cond.fieldLink "TrunkLittersModel" (482 : Nat) "TrunkLittersModel" "fitting" "I") ∈ lw_all := lw_g (lw_at lw_m7 60 rfl) rfl
theorem q1623 : (Jvm.Cond.fieldLink "TrunkLittersModel" (122 : Nat) "TrunkLittersModel" "boxAll" "[I") ∈ lw_all := lw_g (lw_at lw_m7 61 rfl) rfl
theorem q1624 : (Jvm.Cond.fieldLink "TrunkLittersModel" (125 : Nat) "TrunkLittersModel" "isBoxed" "[Z") ∈ lw_all := lw_g (lw_at lw_m7 62 rfl) rfl
theorem q1625 : (Jvm.Cond.laysFinal "TrunkLittersModel" "TrunkLittersModel" "tape" "[B") ∈ lw_all := lw_g (lw_at lw_m7 63 rfl) rfl
theorem q1626 : (Jvm.Cond.soleField "TrunkLittersModel" "tape") ∈ lw_all := lw_g (lw_at lw_m7 64 rfl) rfl
theorem q1627 : (Jvm.Cond.laysFinal "TrunkLittersModel" "TrunkLittersModel" "text" "[B") ∈ lw_all := lw_g (lw_at lw_m7 65 rfl) rfl
theorem q1628 : (Jvm.Cond.soleField "TrunkLittersModel" "text") ∈ lw_all := lw_g (lw_at lw_m7 66 rfl) rfl
theorem q1629 : (Jvm.Cond.lays "TrunkLittersModel" "TrunkLittersModel" "taped" "I") ∈ lw_all := lw_g (lw_at lw_m7 67 rfl) rfl
theorem q1630 : (Jvm.Cond.soleField "TrunkLittersModel" "taped") ∈ lw_all := lw_g (lw_at lw_m7 68 rfl) rfl
theorem q1631 : (Jvm.Cond.lays "TrunkLittersModel" "TrunkLittersModel" "size" "I") ∈ lw_all := lw_g (lw_at lw_m7 69 rfl) rfl
theorem q1632 : (Jvm.Cond.soleField "TrunkLittersModel" "size") ∈ lw_all := lw_g (lw_at lw_m7 70 rfl) rfl
theorem q1633 : (Jvm.Cond.lays "TrunkLittersModel" "TrunkLittersModel" "faultKind" "I") ∈ lw_all := lw_g (lw_at lw_m7 71 rfl) rfl
theorem q1634 : (Jvm.Cond.soleField "TrunkLittersModel" "faultKind") ∈ lw_all := lw_g (lw_at lw_m7 72 rfl) rfl
theorem q1635 : (Jvm.Cond.lays "TrunkLittersModel" "TrunkLittersModel" "faultPlace" "I") ∈ lw_all := lw_g (lw_at lw_m7 73 rfl) rfl
theorem q1636 : (Jvm.Cond.soleField "TrunkLittersModel" "faultPlace") ∈ lw_all := lw_g (lw_at lw_m7 74 rfl) rfl
theorem q1637 : (Jvm.Cond.lays "TrunkLittersModel" "TrunkLittersModel" "at" "I") ∈ lw_all := lw_g (lw_at lw_m7 75 rfl) rfl
theorem q1638 : (Jvm.Cond.soleField "TrunkLittersModel" "at") ∈ lw_all := lw_g (lw_at lw_m7 76 rfl) rfl
theorem q1639 : (Jvm.Cond.lays "TrunkLittersModel" "TrunkLittersModel" "end" "I") ∈ lw_all := lw_g (lw_at lw_m7 77 rfl) rfl
theorem q1640 : (Jvm.Cond.soleField "TrunkLittersModel" "end") ∈ lw_all := lw_g (lw_at lw_m7 78 rfl) rfl
theorem q1641 : (Jvm.Cond.lays "TrunkLittersModel" "TrunkLittersModel" "token" "I") ∈ lw_all := lw_g (lw_at lw_m7 79 rfl) rfl
theorem q1642 : (Jvm.Cond.soleField "TrunkLittersModel" "token") ∈ lw_all := lw_g (lw_at lw_m7 80 rfl) rfl
theorem q1643 : (Jvm.Cond.lays "TrunkLittersModel" "TrunkLittersModel" "number" "I") ∈ lw_all := lw_g (lw_at lw_m7 81 rfl) rfl
theorem q1644 : (Jvm.Cond.soleField "TrunkLittersModel" "number") ∈ lw_all := lw_g (lw_at lw_m7 82 rfl) rfl
theorem q1645 : (Jvm.Cond.lays "TrunkLittersModel" "TrunkLittersModel" "name" "J") ∈ lw_all := lw_g (lw_at lw_m7 83 rfl) rfl
theorem q1646 : (Jvm.Cond.soleField "TrunkLittersModel" "name") ∈ lw_all := lw_g (lw_at lw_m7 84 rfl) rfl
theorem q1647 : (Jvm.Cond.laysFinal "TrunkLittersModel" "TrunkLittersModel" "rooms" "[I") ∈ lw_all := lw_g (lw_at lw_m7 85 rfl) rfl
theorem q1648 : (Jvm.Cond.soleField "TrunkLittersModel" "rooms") ∈ lw_all := lw_g (lw_at lw_m7 86 rfl) rfl
theorem q1649 : (Jvm.Cond.laysFinal "TrunkLittersModel" "TrunkLittersModel" "trunks" "[I") ∈ lw_all := lw_g (lw_at lw_m7 87 rfl) rfl
theorem q1650 : (Jvm.Cond.soleField "TrunkLittersModel" "trunks") ∈ lw_all := lw_g (lw_at lw_m7 88 rfl) rfl
theorem q1651 : (Jvm.Cond.laysFinal "TrunkLittersModel" "TrunkLittersModel" "units" "[I") ∈ lw_all := lw_g (lw_at lw_m7 89 rfl) rfl
theorem q1652 : (Jvm.Cond.soleField "TrunkLittersModel" "units") ∈ lw_all := lw_g (lw_at lw_m7 90 rfl) rfl
theorem q1653 : (Jvm.Cond.laysFinal "TrunkLittersModel" "TrunkLittersModel" "pines" "[I") ∈ lw_all := lw_g (lw_at lw_m7 91 rfl) rfl
theorem q1654 : (Jvm.Cond.soleField "TrunkLittersModel" "pines") ∈ lw_all := lw_g (lw_at lw_m7 92 rfl) rfl
theorem q1655 : (Jvm.Cond.laysFinal "TrunkLittersModel" "TrunkLittersModel" "tales" "[I") ∈ lw_all := lw_g (lw_at lw_m7 93 rfl) rfl
theorem q1656 : (Jvm.Cond.soleField "TrunkLittersModel" "tales") ∈ lw_all := lw_g (lw_at lw_m7 94 rfl) rfl
theorem q1657 : (Jvm.Cond.laysFinal "TrunkLittersModel" "TrunkLittersModel" "draw" "[I") ∈ lw_all := lw_g (lw_at lw_m7 95 rfl) rfl
theorem q1658 : (Jvm.Cond.soleField "TrunkLittersModel" "draw") ∈ lw_all := lw_g (lw_at lw_m7 96 rfl) rfl
theorem q1659 : (Jvm.Cond.laysFinal "TrunkLittersModel" "TrunkLittersModel" "told" "[I") ∈ lw_all := lw_g (lw_at lw_m7 97 rfl) rfl
theorem q1660 : (Jvm.Cond.soleField "TrunkLittersModel" "told") ∈ lw_all := lw_g (lw_at lw_m7 98 rfl) rfl
theorem q1661 : (Jvm.Cond.laysFinal "TrunkLittersModel" "TrunkLittersModel" "holds" "[I") ∈ lw_all := lw_g (lw_at lw_m7 99 rfl) rfl
theorem q1662 : (Jvm.Cond.soleField "TrunkLittersModel" "holds") ∈ lw_all := lw_g (lw_at lw_m7 100 rfl) rfl
theorem q1663 : (Jvm.Cond.laysFinal "TrunkLittersModel" "TrunkLittersModel" "bulkTold" "[I") ∈ lw_all := lw_g (lw_at lw_m7 101 rfl) rfl
theorem q1664 : (Jvm.Cond.soleField "TrunkLittersModel" "bulkTold") ∈ lw_all := lw_g (lw_at lw_m7 102 rfl) rfl
theorem q1665 : (Jvm.Cond.laysFinal "TrunkLittersModel" "TrunkLittersModel" "roomTold" "[I") ∈ lw_all := lw_g (lw_at lw_m7 103 rfl) rfl
theorem q1666 : (Jvm.Cond.soleField "TrunkLittersModel" "roomTold") ∈ lw_all := lw_g (lw_at lw_m7 104 rfl) rfl
theorem q1667 : (Jvm.Cond.laysFinal "TrunkLittersModel" "TrunkLittersModel" "marksTold" "[I") ∈ lw_all := lw_g (lw_at lw_m7 105 rfl) rfl
theorem q1668 : (Jvm.Cond.soleField "TrunkLittersModel" "marksTold") ∈ lw_all := lw_g (lw_at lw_m7 106 rfl) rfl
theorem q1669 : (Jvm.Cond.laysFinal "TrunkLittersModel" "TrunkLittersModel" "hasTold" "[I") ∈ lw_all := lw_g (lw_at lw_m7 107 rfl) rfl
theorem q1670 : (Jvm.Cond.soleField "TrunkLittersModel" "hasTold") ∈ lw_all := lw_g (lw_at lw_m7 108 rfl) rfl
theorem q1671 : (Jvm.Cond.laysFinal "TrunkLittersModel" "TrunkLittersModel" "ruleFrom" "[I") ∈ lw_all := lw_g (lw_at lw_m7 109 rfl) rfl
theorem q1672 : (Jvm.Cond.soleField "TrunkLittersModel" "ruleFrom") ∈ lw_all := lw_g (lw_at lw_m7 110 rfl) rfl
theorem q1673 : (Jvm.Cond.laysFinal "TrunkLittersModel" "TrunkLittersModel" "ruleTo" "[I") ∈ lw_all := lw_g (lw_at lw_m7 111 rfl) rfl
theorem q1674 : (Jvm.Cond.soleField "TrunkLittersModel" "ruleTo") ∈ lw_all := lw_g (lw_at lw_m7 112 rfl) rfl
theorem q1675 : (Jvm.Cond.laysFinal "TrunkLittersModel" "TrunkLittersModel" "rName" "[J") ∈ lw_all := lw_g (lw_at lw_m7 113 rfl) rfl
theorem q1676 : (Jvm.Cond.soleField "TrunkLittersModel" "rName") ∈ lw_all := lw_g (lw_at lw_m7 114 rfl) rfl
theorem q1677 : (Jvm.Cond.laysFinal "TrunkLittersModel" "TrunkLittersModel" "tName" "[J") ∈ lw_all := lw_g (lw_at lw_m7 115 rfl) rfl
theorem q1678 : (Jvm.Cond.soleField "TrunkLittersModel" "tName") ∈ lw_all := lw_g (lw_at lw_m7 116 rfl) rfl
theorem q1679 : (Jvm.Cond.laysFinal "TrunkLittersModel" "TrunkLittersModel" "code" "[I") ∈ lw_all := lw_g (lw_at lw_m7 117 rfl) rfl
theorem q1680 : (Jvm.Cond.soleField "TrunkLittersModel" "code") ∈ lw_all := lw_g (lw_at lw_m7 118 rfl) rfl
theorem q1681 : (Jvm.Cond.laysFinal "TrunkLittersModel" "TrunkLittersModel" "codeNumber" "[I") ∈ lw_all := lw_g (lw_at lw_m7 119 rfl) rfl
theorem q1682 : (Jvm.Cond.soleField "TrunkLittersModel" "codeNumber") ∈ lw_all := lw_g (lw_at lw_m7 120 rfl) rfl
theorem q1683 : (Jvm.Cond.laysFinal "TrunkLittersModel" "TrunkLittersModel" "eWhat" "[I") ∈ lw_all := lw_g (lw_at lw_m7 121 rfl) rfl
theorem q1684 : (Jvm.Cond.soleField "TrunkLittersModel" "eWhat") ∈ lw_all := lw_g (lw_at lw_m7 122 rfl) rfl
theorem q1685 : (Jvm.Cond.laysFinal "TrunkLittersModel" "TrunkLittersModel" "eSign" "[I") ∈ lw_all := lw_g (lw_at lw_m7 123 rfl) rfl
theorem q1686 : (Jvm.Cond.soleField "TrunkLittersModel" "eSign") ∈ lw_all := lw_g (lw_at lw_m7 124 rfl) rfl
theorem q1687 : (Jvm.Cond.laysFinal "TrunkLittersModel" "TrunkLittersModel" "pile" "[I") ∈ lw_all := lw_g (lw_at lw_m7 125 rfl) rfl
theorem q1688 : (Jvm.Cond.soleField "TrunkLittersModel" "pile") ∈ lw_all := lw_g (lw_at lw_m7 126 rfl) rfl
theorem q1689 : (Jvm.Cond.lays "TrunkLittersModel" "TrunkLittersModel" "bank" "I") ∈ lw_all := lw_g (lw_at lw_m7 127 rfl) rfl
theorem q1690 : (Jvm.Cond.soleField "TrunkLittersModel" "bank") ∈ lw_all := lw_g (lw_at lw_m7 128 rfl) rfl
theorem q1691 : (Jvm.Cond.lays "TrunkLittersModel" "TrunkLittersModel" "rb" "I") ∈ lw_all := lw_g (lw_at lw_m7 129 rfl) rfl
theorem q1692 : (Jvm.Cond.soleField "TrunkLittersModel" "rb") ∈ lw_all := lw_g (lw_at lw_m7 130 rfl) rfl
theorem q1693 : (Jvm.Cond.lays "TrunkLittersModel" "TrunkLittersModel" "codes" "I") ∈ lw_all := lw_g (lw_at lw_m7 131 rfl) rfl
theorem q1694 : (Jvm.Cond.soleField "TrunkLittersModel" "codes") ∈ lw_all := lw_g (lw_at lw_m7 132 rfl) rfl
theorem q1695 : (Jvm.Cond.lays "TrunkLittersModel" "TrunkLittersModel" "within" "I") ∈ lw_all := lw_g (lw_at lw_m7 133 rfl) rfl
theorem q1696 : (Jvm.Cond.soleField "TrunkLittersModel" "within") ∈ lw_all := lw_g (lw_at lw_m7 134 rfl) rfl
theorem q1697 : (Jvm.Cond.lays "TrunkLittersModel" "TrunkLittersModel" "piled" "I") ∈ lw_all := lw_g (lw_at lw_m7 135 rfl) rfl
theorem q1698 : (Jvm.Cond.soleField "TrunkLittersModel" "piled") ∈ lw_all := lw_g (lw_at lw_m7 136 rfl) rfl
theorem q1699 : (Jvm.Cond.lays "TrunkLittersModel" "TrunkLittersModel" "unitsInRule" "I") ∈ lw_all := lw_g (lw_at lw_m7 137 rfl) rfl
theorem q1700 : (Jvm.Cond.soleField "TrunkLittersModel" "unitsInRule") ∈ lw_all := lw_g (lw_at lw_m7 138 rfl) rfl
theorem q1701 : (Jvm.Cond.lays "TrunkLittersModel" "TrunkLittersModel" "askOne" "I") ∈ lw_all := lw_g (lw_at lw_m7 139 rfl) rfl
theorem q1702 : (Jvm.Cond.soleField "TrunkLittersModel" "askOne") ∈ lw_all := lw_g (lw_at lw_m7 140 rfl) rfl
theorem q1703 : (Jvm.Cond.lays "TrunkLittersModel" "TrunkLittersModel" "askOther" "I") ∈ lw_all := lw_g (lw_at lw_m7 141 rfl) rfl
theorem q1704 : (Jvm.Cond.soleField "TrunkLittersModel" "askOther") ∈ lw_all := lw_g (lw_at lw_m7 142 rfl) rfl
theorem q1705 : (Jvm.Cond.laysFinal "TrunkLittersModel" "TrunkLittersModel" "all" "[I") ∈ lw_all := lw_g (lw_at lw_m7 143 rfl) rfl
theorem q1706 : (Jvm.Cond.soleField "TrunkLittersModel" "all") ∈ lw_all := lw_g (lw_at lw_m7 144 rfl) rfl
theorem q1707 : (Jvm.Cond.laysFinal "TrunkLittersModel" "TrunkLittersModel" "kept" "[I") ∈ lw_all := lw_g (lw_at lw_m7 145 rfl) rfl
theorem q1708 : (Jvm.Cond.soleField "TrunkLittersModel" "kept") ∈ lw_all := lw_g (lw_at lw_m7 146 rfl) rfl
theorem q1709 : (Jvm.Cond.lays "TrunkLittersModel" "TrunkLittersModel" "thoughtPines" "I") ∈ lw_all := lw_g (lw_at lw_m7 147 rfl) rfl
theorem q1710 : (Jvm.Cond.soleField "TrunkLittersModel" "thoughtPines") ∈ lw_all := lw_g (lw_at lw_m7 148 rfl) rfl
theorem q1711 : (Jvm.Cond.laysFinal "TrunkLittersModel" "TrunkLittersModel" "was" "[I") ∈ lw_all := lw_g (lw_at lw_m7 149 rfl) rfl
theorem q1712 : (Jvm.Cond.soleField "TrunkLittersModel" "was") ∈ lw_all := lw_g (lw_at lw_m7 150 rfl) rfl
theorem q1713 : (Jvm.Cond.lays "TrunkLittersModel" "TrunkLittersModel" "acts" "I") ∈ lw_all := lw_g (lw_at lw_m7 151 rfl) rfl
theorem q1714 : (Jvm.Cond.soleField "TrunkLittersModel" "acts") ∈ lw_all := lw_g (lw_at lw_m7 152 rfl) rfl
theorem q1715 : (Jvm.Cond.lays "TrunkLittersModel" "TrunkLittersModel" "undone" "I") ∈ lw_all := lw_g (lw_at lw_m7 153 rfl) rfl
theorem q1716 : (Jvm.Cond.soleField "TrunkLittersModel" "undone") ∈ lw_all := lw_g (lw_at lw_m7 154 rfl) rfl
theorem q1717 : (Jvm.Cond.laysFinal "TrunkLittersModel" "TrunkLittersModel" "laidRow" "[I") ∈ lw_all := lw_g (lw_at lw_m7 155 rfl) rfl
theorem q1718 : (Jvm.Cond.soleField "TrunkLittersModel" "laidRow") ∈ lw_all := lw_g (lw_at lw_m7 156 rfl) rfl
theorem q1719 : (Jvm.Cond.lays "TrunkLittersModel" "TrunkLittersModel" "laid" "I") ∈ lw_all := lw_g (lw_at lw_m7 157 rfl) rfl
theorem q1720 : (Jvm.Cond.soleField "TrunkLittersModel" "laid") ∈ lw_all := lw_g (lw_at lw_m7 158 rfl) rfl
theorem q1721 : (Jvm.Cond.laysFinal "TrunkLittersModel" "TrunkLittersModel" "sOther" "[I") ∈ lw_all := lw_g (lw_at lw_m7 159 rfl) rfl
theorem q1722 : (Jvm.Cond.soleField "TrunkLittersModel" "sOther") ∈ lw_all := lw_g (lw_at lw_m7 160 rfl) rfl
theorem q1723 : (Jvm.Cond.laysFinal "TrunkLittersModel" "TrunkLittersModel" "sMany" "[I") ∈ lw_all := lw_g (lw_at lw_m7 161 rfl) rfl
theorem q1724 : (Jvm.Cond.soleField "TrunkLittersModel" "sMany") ∈ lw_all := lw_g (lw_at lw_m7 162 rfl) rfl
theorem q1725 : (Jvm.Cond.laysFinal "TrunkLittersModel" "TrunkLittersModel" "sIs" "[I") ∈ lw_all := lw_g (lw_at lw_m7 163 rfl) rfl
theorem q1726 : (Jvm.Cond.soleField "TrunkLittersModel" "sIs") ∈ lw_all := lw_g (lw_at lw_m7 164 rfl) rfl
theorem q1727 : (Jvm.Cond.laysFinal "TrunkLittersModel" "TrunkLittersModel" "sTold" "[I") ∈ lw_all := lw_g (lw_at lw_m7 165 rfl) rfl
theorem q1728 : (Jvm.Cond.soleField "TrunkLittersModel" "sTold") ∈ lw_all := lw_g (lw_at lw_m7 166 rfl) rfl
theorem q1729 : (Jvm.Cond.laysFinal "TrunkLittersModel" "TrunkLittersModel" "sUntold" "[I") ∈ lw_all := lw_g (lw_at lw_m7 167 rfl) rfl
theorem q1730 : (Jvm.Cond.soleField "TrunkLittersModel" "sUntold") ∈ lw_all := lw_g (lw_at lw_m7 168 rfl) rfl
theorem q1731 : (Jvm.Cond.laysFinal "TrunkLittersModel" "TrunkLittersModel" "parts" "[I") ∈ lw_all := lw_g (lw_at lw_m7 169 rfl) rfl
theorem q1732 : (Jvm.Cond.soleField "TrunkLittersModel" "parts") ∈ lw_all := lw_g (lw_at lw_m7 170 rfl) rfl
theorem q1733 : (Jvm.Cond.laysFinal "TrunkLittersModel" "TrunkLittersModel" "isFit" "[Z") ∈ lw_all := lw_g (lw_at lw_m7 171 rfl) rfl
theorem q1734 : (Jvm.Cond.soleField "TrunkLittersModel" "isFit") ∈ lw_all := lw_g (lw_at lw_m7 172 rfl) rfl
theorem q1735 : (Jvm.Cond.lays "TrunkLittersModel" "TrunkLittersModel" "helds" "I") ∈ lw_all := lw_g (lw_at lw_m7 173 rfl) rfl
theorem q1736 : (Jvm.Cond.soleField "TrunkLittersModel" "helds") ∈ lw_all := lw_g (lw_at lw_m7 174 rfl) rfl
theorem q1737 : (Jvm.Cond.lays "TrunkLittersModel" "TrunkLittersModel" "time" "I") ∈ lw_all := lw_g (lw_at lw_m7 175 rfl) rfl
theorem q1738 : (Jvm.Cond.soleField "TrunkLittersModel" "time") ∈ lw_all := lw_g (lw_at lw_m7 176 rfl) rfl
theorem q1739 : (Jvm.Cond.lays "TrunkLittersModel" "TrunkLittersModel" "fitting" "I") ∈ lw_all := lw_g (lw_at lw_m7 177 rfl) rfl
theorem q1740 : (Jvm.Cond.soleField "TrunkLittersModel" "fitting") ∈ lw_all := lw_g (lw_at lw_m7 178 rfl) rfl
theorem q1741 : (Jvm.Cond.laysFinal "TrunkLittersModel" "TrunkLittersModel" "boxAll" "[I") ∈ lw_all := lw_g (lw_at lw_m7 179 rfl) rfl
theorem q1742 : (Jvm.Cond.soleField "TrunkLittersModel" "boxAll") ∈ lw_all := lw_g (lw_at lw_m7 180 rfl) rfl
theorem q1743 : (Jvm.Cond.laysFinal "TrunkLittersModel" "TrunkLittersModel" "isBoxed" "[Z") ∈ lw_all := lw_g (lw_at lw_m7 181 rfl) rfl
theorem q1744 : (Jvm.Cond.soleField "TrunkLittersModel" "isBoxed") ∈ lw_all := lw_g (lw_at lw_m7 182 rfl) rfl
theorem q1745 : (Jvm.Cond.superclass "TrunkLittersModel" "java/lang/Object") ∈ lw_all := lw_g (lw_at lw_m7 183 rfl) rfl
theorem q1748 : (Jvm.Cond.instanceMethod ({ cls := "TrunkLittersModel", name := "house", desc := "()I" } : Jvm.MethodName)) ∈ lw_all := lw_g (lw_at lw_m7 186 rfl) rfl
theorem q1749 : (Jvm.Cond.selects "TrunkLittersModel" ({ cls := "TrunkLittersModel", name := "house", desc := "()I" } : Jvm.MethodName) ({ cls := "TrunkLittersModel", name := "house", desc := "()I" } : Jvm.MethodName)) ∈ lw_all := lw_g (lw_at lw_m7 187 rfl) rfl
theorem q1750 : (Jvm.Cond.code ({ cls := "TrunkLittersModel", name := "house", desc := "()I" } : Jvm.MethodName) prog_22_method_17_code (2 : Nat) (Option.some Jvm.ClassFile.FieldType.int)) ∈ lw_all := lw_g (lw_at lw_m7 188 rfl) rfl
theorem q1751 : (Jvm.Cond.methodLink "TrunkLittersModel" (218 : Nat) ({ cls := "TrunkLittersModel", name := "goOn", desc := "()V" } : Jvm.MethodName)) ∈ lw_all := lw_g (lw_at lw_m7 189 rfl) rfl
theorem q1752 : (Jvm.Cond.privateMethod ({ cls := "TrunkLittersModel", name := "goOn", desc := "()V" } : Jvm.MethodName)) ∈ lw_tbl := lw_at lw_m7 190 rfl
theorem q1753 : (Jvm.Cond.instanceMethod ({ cls := "TrunkLittersModel", name := "goOn", desc := "()V" } : Jvm.MethodName)) ∈ lw_all := lw_g (lw_at lw_m7 191 rfl) rfl
theorem q1754 : (Jvm.Cond.code ({ cls := "TrunkLittersModel", name := "goOn", desc := "()V" } : Jvm.MethodName) prog_22_method_9_code (3 : Nat) (Option.none : Option Jvm.ClassFile.FieldType)) ∈ lw_all := lw_g (lw_at lw_m7 192 rfl) rfl
theorem q1755 : (Jvm.Cond.methodLink "TrunkLittersModel" (182 : Nat) ({ cls := "TrunkLittersModel", name := "sign", desc := "(I)I" } : Jvm.MethodName)) ∈ lw_all := lw_g (lw_at lw_m7 193 rfl) rfl
theorem q1756 : (Jvm.Cond.privateMethod ({ cls := "TrunkLittersModel", name := "sign", desc := "(I)I" } : Jvm.MethodName)) ∈ lw_tbl := lw_at lw_m7 194 rfl
theorem q1757 : (Jvm.Cond.instanceMethod ({ cls := "TrunkLittersModel", name := "sign", desc := "(I)I" } : Jvm.MethodName)) ∈ lw_all := lw_g (lw_at lw_m7 195 rfl) rfl
theorem q1758 : (Jvm.Cond.code ({ cls := "TrunkLittersModel", name := "sign", desc := "(I)I" } : Jvm.MethodName) prog_22_method_2_code (2 : Nat) (Option.some Jvm.ClassFile.FieldType.int)) ∈ lw_all := lw_g (lw_at lw_m7 196 rfl) rfl
theorem q1759 : (Jvm.Cond.methodLink "TrunkLittersModel" (189 : Nat) ({ cls := "TrunkLittersModel", name := "isLetter", desc := "(I)Z" } : Jvm.MethodName)) ∈ lw_all := lw_g (lw_at lw_m7 197 rfl) rfl
theorem q1760 : (Jvm.Cond.static ({ cls := "TrunkLittersModel", name := "isLetter", desc := "(I)Z" } : Jvm.MethodName)) ∈ lw_all := lw_g (lw_at lw_m7 198 rfl) rfl
theorem q1761 : (Jvm.Cond.code ({ cls := "TrunkLittersModel", name := "isLetter", desc := "(I)Z" } : Jvm.MethodName) prog_22_method_3_code (1 : Nat) (Option.some Jvm.ClassFile.FieldType.boolean)) ∈ lw_all := lw_g (lw_at lw_m7 199 rfl) rfl
theorem q1762 : (Jvm.Cond.methodLink "TrunkLittersModel" (197 : Nat) ({ cls := "TrunkLittersModel", name := "isKept", desc := "(J)Z" } : Jvm.MethodName)) ∈ lw_all := lw_g (lw_at lw_m7 200 rfl) rfl
theorem q1763 : (Jvm.Cond.static ({ cls := "TrunkLittersModel", name := "isKept", desc := "(J)Z" } : Jvm.MethodName)) ∈ lw_all := lw_g (lw_at lw_m7 201 rfl) rfl
theorem q1764 : (Jvm.Cond.code ({ cls := "TrunkLittersModel", name := "isKept", desc := "(J)Z" } : Jvm.MethodName) prog_22_method_7_code (3 : Nat) (Option.some Jvm.ClassFile.FieldType.boolean)) ∈ lw_all := lw_g (lw_at lw_m7 202 rfl) rfl
theorem q1765 : (Jvm.Cond.constantLong "TrunkLittersModel" (140 : Nat) (1919905645 : Int64)) ∈ lw_all := lw_g (lw_at lw_m7 203 rfl) rfl
theorem q1766 : (Jvm.Cond.constantLong "TrunkLittersModel" (142 : Nat) (448545973363 : Int64)) ∈ lw_all := lw_g (lw_at lw_m7 204 rfl) rfl
theorem q1767 : (Jvm.Cond.constantLong "TrunkLittersModel" (144 : Nat) (500136504939 : Int64)) ∈ lw_all := lw_g (lw_at lw_m7 205 rfl) rfl
theorem q1768 : (Jvm.Cond.constantLong "TrunkLittersModel" (146 : Nat) (1651862635 : Int64)) ∈ lw_all := lw_g (lw_at lw_m7 206 rfl) rfl
theorem q1769 : (Jvm.Cond.constantLong "TrunkLittersModel" (148 : Nat) (24948 : Int64)) ∈ lw_all := lw_g (lw_at lw_m7 207 rfl) rfl
theorem q1770 : (Jvm.Cond.constantLong "TrunkLittersModel" (150 : Nat) (469786323827 : Int64)) ∈ lw_all := lw_g (lw_at lw_m7 208 rfl) rfl
theorem q1771 : (Jvm.Cond.constantLong "TrunkLittersModel" (152 : Nat) (1953459300 : Int64)) ∈ lw_all := lw_g (lw_at lw_m7 209 rfl) rfl
theorem q1772 : (Jvm.Cond.constantLong "TrunkLittersModel" (154 : Nat) (422826700644 : Int64)) ∈ lw_all := lw_g (lw_at lw_m7 210 rfl) rfl
theorem q1773 : (Jvm.Cond.constantLong "TrunkLittersModel" (156 : Nat) (482805179763 : Int64)) ∈ lw_all := lw_g (lw_at lw_m7 211 rfl) rfl
theorem q1774 : (Jvm.Cond.constantLong "TrunkLittersModel" (158 : Nat) (499850700147 : Int64)) ∈ lw_all := lw_g (lw_at lw_m7 212 rfl) rfl
theorem q1775 : (Jvm.Cond.constantLong "TrunkLittersModel" (160 : Nat) (1685217655 : Int64)) ∈ lw_all := lw_g (lw_at lw_m7 213 rfl) rfl
theorem q1776 : (Jvm.Cond.constantLong "TrunkLittersModel" (162 : Nat) (418430675813 : Int64)) ∈ lw_all := lw_g (lw_at lw_m7 214 rfl) rfl
theorem q1777 : (Jvm.Cond.constantLong "TrunkLittersModel" (164 : Nat) (1818584692 : Int64)) ∈ lw_all := lw_g (lw_at lw_m7 215 rfl) rfl
theorem q1778 : (Jvm.Cond.constantLong "TrunkLittersModel" (166 : Nat) (1835101817 : Int64)) ∈ lw_all := lw_g (lw_at lw_m7 216 rfl) rfl
theorem q1779 : (Jvm.Cond.constantLong "TrunkLittersModel" (168 : Nat) (2036687218 : Int64)) ∈ lw_all := lw_g (lw_at lw_m7 217 rfl) rfl
theorem q1780 : (Jvm.Cond.constantLong "TrunkLittersModel" (170 : Nat) (28530 : Int64)) ∈ lw_all := lw_g (lw_at lw_m7 218 rfl) rfl
theorem q1781 : (Jvm.Cond.constantLong "TrunkLittersModel" (172 : Nat) (6385252 : Int64)) ∈ lw_all := lw_g (lw_at lw_m7 219 rfl) rfl
theorem q1782 : (Jvm.Cond.constantLong "TrunkLittersModel" (174 : Nat) (7237492 : Int64)) ∈ lw_all := lw_g (lw_at lw_m7 220 rfl) rfl
theorem q1783 : (Jvm.Cond.methodLink "TrunkLittersModel" (201 : Nat) ({ cls := "TrunkLittersModel", name := "isDigit", desc := "(I)Z" } : Jvm.MethodName)) ∈ lw_all := lw_g (lw_at lw_m7 221 rfl) rfl
theorem q1784 : (Jvm.Cond.static ({ cls := "TrunkLittersModel", name := "isDigit", desc := "(I)Z" } : Jvm.MethodName)) ∈ lw_all := lw_g (lw_at lw_m7 222 rfl) rfl
theorem q1785 : (Jvm.Cond.code ({ cls := "TrunkLittersModel", name := "isDigit", desc := "(I)Z" } : Jvm.MethodName) prog_22_method_4_code (1 : Nat) (Option.some Jvm.ClassFile.FieldType.boolean)) ∈ lw_all := lw_g (lw_at lw_m7 223 rfl) rfl
theorem q1786 : (Jvm.Cond.methodLink "TrunkLittersModel" (207 : Nat) ({ cls := "TrunkLittersModel", name := "isSign", desc := "(I)Z" } : Jvm.MethodName)) ∈ lw_all := lw_g (lw_at lw_m7 224 rfl) rfl
theorem q1787 : (Jvm.Cond.static ({ cls := "TrunkLittersModel", name := "isSign", desc := "(I)Z" } : Jvm.MethodName)) ∈ lw_all := lw_g (lw_at lw_m7 225 rfl) rfl
theorem q1788 : (Jvm.Cond.code ({ cls := "TrunkLittersModel", name := "isSign", desc := "(I)Z" } : Jvm.MethodName) prog_22_method_8_code (1 : Nat) (Option.some Jvm.ClassFile.FieldType.boolean)) ∈ lw_all := lw_g (lw_at lw_m7 226 rfl) rfl
theorem q1789 : (Jvm.Cond.methodLink "TrunkLittersModel" (214 : Nat) ({ cls := "TrunkLittersModel", name := "isGood", desc := "()Z" } : Jvm.MethodName)) ∈ lw_all := lw_g (lw_at lw_m7 227 rfl) rfl
theorem q1790 : (Jvm.Cond.privateMethod ({ cls := "TrunkLittersModel", name := "isGood", desc := "()Z" } : Jvm.MethodName)) ∈ lw_tbl := lw_at lw_m7 228 rfl
theorem q1791 : (Jvm.Cond.instanceMethod ({ cls := "TrunkLittersModel", name := "isGood", desc := "()Z" } : Jvm.MethodName)) ∈ lw_all := lw_g (lw_at lw_m7 229 rfl) rfl
theorem q1792 : (Jvm.Cond.code ({ cls := "TrunkLittersModel", name := "isGood", desc := "()Z" } : Jvm.MethodName) prog_22_method_6_code (1 : Nat) (Option.some Jvm.ClassFile.FieldType.boolean)) ∈ lw_all := lw_g (lw_at lw_m7 230 rfl) rfl
theorem q1793 : (Jvm.Cond.methodLink "TrunkLittersModel" (247 : Nat) ({ cls := "TrunkLittersModel", name := "readLine", desc := "()V" } : Jvm.MethodName)) ∈ lw_all := lw_g (lw_at lw_m7 231 rfl) rfl
theorem q1794 : (Jvm.Cond.privateMethod ({ cls := "TrunkLittersModel", name := "readLine", desc := "()V" } : Jvm.MethodName)) ∈ lw_tbl := lw_at lw_m7 232 rfl
theorem q1795 : (Jvm.Cond.instanceMethod ({ cls := "TrunkLittersModel", name := "readLine", desc := "()V" } : Jvm.MethodName)) ∈ lw_all := lw_g (lw_at lw_m7 233 rfl) rfl
theorem q1796 : (Jvm.Cond.code ({ cls := "TrunkLittersModel", name := "readLine", desc := "()V" } : Jvm.MethodName) prog_22_method_20_code (3 : Nat) (Option.none : Option Jvm.ClassFile.FieldType)) ∈ lw_all := lw_g (lw_at lw_m7 234 rfl) rfl
theorem q1797 : (Jvm.Cond.methodLink "TrunkLittersModel" (254 : Nat) ({ cls := "TrunkLittersModel", name := "isFull", desc := "()Z" } : Jvm.MethodName)) ∈ lw_all := lw_g (lw_at lw_m7 235 rfl) rfl
theorem q1798 : (Jvm.Cond.privateMethod ({ cls := "TrunkLittersModel", name := "isFull", desc := "()Z" } : Jvm.MethodName)) ∈ lw_tbl := lw_at lw_m7 236 rfl
theorem q1799 : (Jvm.Cond.instanceMethod ({ cls := "TrunkLittersModel", name := "isFull", desc := "()Z" } : Jvm.MethodName)) ∈ lw_all := lw_g (lw_at lw_m7 237 rfl) rfl
theorem q1800 : (Jvm.Cond.code ({ cls := "TrunkLittersModel", name := "isFull", desc := "()Z" } : Jvm.MethodName) prog_22_method_18_code (1 : Nat) (Option.some Jvm.ClassFile.FieldType.boolean)) ∈ lw_all := lw_g (lw_at lw_m7 238 rfl) rfl
theorem q1801 : (Jvm.Cond.methodLink "TrunkLittersModel" (224 : Nat) ({ cls := "TrunkLittersModel", name := "isWord", desc := "(J)Z" } : Jvm.MethodName)) ∈ lw_all := lw_g (lw_at lw_m7 239 rfl) rfl
theorem q1802 : (Jvm.Cond.privateMethod ({ cls := "TrunkLittersModel", name := "isWord", desc := "(J)Z" } : Jvm.MethodName)) ∈ lw_tbl := lw_at lw_m8 0 rfl
theorem q1803 : (Jvm.Cond.instanceMethod ({ cls := "TrunkLittersModel", name := "isWord", desc := "(J)Z" } : Jvm.MethodName)) ∈ lw_all := lw_g (lw_at lw_m8 1 rfl) rfl
theorem q1804 : (Jvm.Cond.code ({ cls := "TrunkLittersModel", name := "isWord", desc := "(J)Z" } : Jvm.MethodName) prog_22_method_11_code (3 : Nat) (Option.some Jvm.ClassFile.FieldType.boolean)) ∈ lw_all := lw_g (lw_at lw_m8 2 rfl) rfl
theorem q1805 : (Jvm.Cond.methodLink "TrunkLittersModel" (250 : Nat) ({ cls := "TrunkLittersModel", name := "bit", desc := "(II)Z" } : Jvm.MethodName)) ∈ lw_all := lw_g (lw_at lw_m8 3 rfl) rfl
theorem q1806 : (Jvm.Cond.static ({ cls := "TrunkLittersModel", name := "bit", desc := "(II)Z" } : Jvm.MethodName)) ∈ lw_all := lw_g (lw_at lw_m8 4 rfl) rfl
theorem q1807 : (Jvm.Cond.code ({ cls := "TrunkLittersModel", name := "bit", desc := "(II)Z" } : Jvm.MethodName) prog_22_method_39_code (2 : Nat) (Option.some Jvm.ClassFile.FieldType.boolean)) ∈ lw_all := lw_g (lw_at lw_m8 5 rfl) rfl
theorem q1808 : (Jvm.Cond.methodLink "TrunkLittersModel" (221 : Nat) ({ cls := "TrunkLittersModel", name := "misplaced", desc := "()V" } : Jvm.MethodName)) ∈ lw_all := lw_g (lw_at lw_m8 6 rfl) rfl
theorem q1809 : (Jvm.Cond.privateMethod ({ cls := "TrunkLittersModel", name := "misplaced", desc := "()V" } : Jvm.MethodName)) ∈ lw_tbl := lw_at lw_m8 7 rfl
theorem q1810 : (Jvm.Cond.instanceMethod ({ cls := "TrunkLittersModel", name := "misplaced", desc := "()V" } : Jvm.MethodName)) ∈ lw_all := lw_g (lw_at lw_m8 8 rfl) rfl
theorem q1811 : (Jvm.Cond.code ({ cls := "TrunkLittersModel", name := "misplaced", desc := "()V" } : Jvm.MethodName) prog_22_method_12_code (1 : Nat) (Option.none : Option Jvm.ClassFile.FieldType)) ∈ lw_all := lw_g (lw_at lw_m8 9 rfl) rfl
theorem q1812 : (Jvm.Cond.methodLink "TrunkLittersModel" (210 : Nat) ({ cls := "TrunkLittersModel", name := "fails", desc := "(II)V" } : Jvm.MethodName)) ∈ lw_all := lw_g (lw_at lw_m8 10 rfl) rfl
theorem q1813 : (Jvm.Cond.privateMethod ({ cls := "TrunkLittersModel", name := "fails", desc := "(II)V" } : Jvm.MethodName)) ∈ lw_tbl := lw_at lw_m8 11 rfl
theorem q1814 : (Jvm.Cond.instanceMethod ({ cls := "TrunkLittersModel", name := "fails", desc := "(II)V" } : Jvm.MethodName)) ∈ lw_all := lw_g (lw_at lw_m8 12 rfl) rfl
theorem q1815 : (Jvm.Cond.code ({ cls := "TrunkLittersModel", name := "fails", desc := "(II)V" } : Jvm.MethodName) prog_22_method_5_code (3 : Nat) (Option.none : Option Jvm.ClassFile.FieldType)) ∈ lw_all := lw_g (lw_at lw_m8 13 rfl) rfl
theorem q1816 : (Jvm.Cond.methodLink "TrunkLittersModel" (257 : Nat) ({ cls := "TrunkLittersModel", name := "roomHere", desc := "()I" } : Jvm.MethodName)) ∈ lw_all := lw_g (lw_at lw_m8 14 rfl) rfl
theorem q1817 : (Jvm.Cond.privateMethod ({ cls := "TrunkLittersModel", name := "roomHere", desc := "()I" } : Jvm.MethodName)) ∈ lw_tbl := lw_at lw_m8 15 rfl
theorem q1818 : (Jvm.Cond.instanceMethod ({ cls := "TrunkLittersModel", name := "roomHere", desc := "()I" } : Jvm.MethodName)) ∈ lw_all := lw_g (lw_at lw_m8 16 rfl) rfl
theorem q1819 : (Jvm.Cond.code ({ cls := "TrunkLittersModel", name := "roomHere", desc := "()I" } : Jvm.MethodName) prog_22_method_22_code (1 : Nat) (Option.some Jvm.ClassFile.FieldType.int)) ∈ lw_all := lw_g (lw_at lw_m8 17 rfl) rfl
theorem q1820 : (Jvm.Cond.methodLink "TrunkLittersModel" (282 : Nat) ({ cls := "TrunkLittersModel", name := "here", desc := "([JII)I" } : Jvm.MethodName)) ∈ lw_all := lw_g (lw_at lw_m8 18 rfl) rfl
theorem q1821 : (Jvm.Cond.privateMethod ({ cls := "TrunkLittersModel", name := "here", desc := "([JII)I" } : Jvm.MethodName)) ∈ lw_tbl := lw_at lw_m8 19 rfl
theorem q1822 : (Jvm.Cond.instanceMethod ({ cls := "TrunkLittersModel", name := "here", desc := "([JII)I" } : Jvm.MethodName)) ∈ lw_all := lw_g (lw_at lw_m8 20 rfl) rfl
theorem q1823 : (Jvm.Cond.code ({ cls := "TrunkLittersModel", name := "here", desc := "([JII)I" } : Jvm.MethodName) prog_22_method_21_code (5 : Nat) (Option.some Jvm.ClassFile.FieldType.int)) ∈ lw_all := lw_g (lw_at lw_m8 21 rfl) rfl
theorem q1824 : (Jvm.Cond.methodLink "TrunkLittersModel" (261 : Nat) ({ cls := "TrunkLittersModel", name := "fresh", desc := "(I)J" } : Jvm.MethodName)) ∈ lw_all := lw_g (lw_at lw_m8 22 rfl) rfl
theorem q1825 : (Jvm.Cond.privateMethod ({ cls := "TrunkLittersModel", name := "fresh", desc := "(I)J" } : Jvm.MethodName)) ∈ lw_tbl := lw_at lw_m8 23 rfl
theorem q1826 : (Jvm.Cond.instanceMethod ({ cls := "TrunkLittersModel", name := "fresh", desc := "(I)J" } : Jvm.MethodName)) ∈ lw_all := lw_g (lw_at lw_m8 24 rfl) rfl
theorem q1827 : (Jvm.Cond.code ({ cls := "TrunkLittersModel", name := "fresh", desc := "(I)J" } : Jvm.MethodName) prog_22_method_23_code (4 : Nat) (Option.some Jvm.ClassFile.FieldType.long)) ∈ lw_all := lw_g (lw_at lw_m8 25 rfl) rfl
theorem q1828 : (Jvm.Cond.methodLink "TrunkLittersModel" (265 : Nat) ({ cls := "TrunkLittersModel", name := "after", desc := "(JII)I" } : Jvm.MethodName)) ∈ lw_all := lw_g (lw_at lw_m8 26 rfl) rfl
theorem q1829 : (Jvm.Cond.privateMethod ({ cls := "TrunkLittersModel", name := "after", desc := "(JII)I" } : Jvm.MethodName)) ∈ lw_tbl := lw_at lw_m8 27 rfl
theorem q1830 : (Jvm.Cond.instanceMethod ({ cls := "TrunkLittersModel", name := "after", desc := "(JII)I" } : Jvm.MethodName)) ∈ lw_all := lw_g (lw_at lw_m8 28 rfl) rfl
theorem q1831 : (Jvm.Cond.code ({ cls := "TrunkLittersModel", name := "after", desc := "(JII)I" } : Jvm.MethodName) prog_22_method_15_code (5 : Nat) (Option.some Jvm.ClassFile.FieldType.int)) ∈ lw_all := lw_g (lw_at lw_m8 29 rfl) rfl
theorem q1832 : (Jvm.Cond.methodLink "TrunkLittersModel" (227 : Nat) ({ cls := "TrunkLittersModel", name := "must", desc := "(Z)V" } : Jvm.MethodName)) ∈ lw_all := lw_g (lw_at lw_m8 30 rfl) rfl
theorem q1833 : (Jvm.Cond.privateMethod ({ cls := "TrunkLittersModel", name := "must", desc := "(Z)V" } : Jvm.MethodName)) ∈ lw_tbl := lw_at lw_m8 31 rfl
theorem q1834 : (Jvm.Cond.instanceMethod ({ cls := "TrunkLittersModel", name := "must", desc := "(Z)V" } : Jvm.MethodName)) ∈ lw_all := lw_g (lw_at lw_m8 32 rfl) rfl
theorem q1835 : (Jvm.Cond.code ({ cls := "TrunkLittersModel", name := "must", desc := "(Z)V" } : Jvm.MethodName) prog_22_method_13_code (2 : Nat) (Option.none : Option Jvm.ClassFile.FieldType)) ∈ lw_all := lw_g (lw_at lw_m8 33 rfl) rfl
theorem q1836 : (Jvm.Cond.methodLink "TrunkLittersModel" (231 : Nat) ({ cls := "TrunkLittersModel", name := "numeral", desc := "(II)I" } : Jvm.MethodName)) ∈ lw_all := lw_g (lw_at lw_m8 34 rfl) rfl
theorem q1837 : (Jvm.Cond.privateMethod ({ cls := "TrunkLittersModel", name := "numeral", desc := "(II)I" } : Jvm.MethodName)) ∈ lw_tbl := lw_at lw_m8 35 rfl
theorem q1838 : (Jvm.Cond.instanceMethod ({ cls := "TrunkLittersModel", name := "numeral", desc := "(II)I" } : Jvm.MethodName)) ∈ lw_all := lw_g (lw_at lw_m8 36 rfl) rfl
theorem q1839 : (Jvm.Cond.code ({ cls := "TrunkLittersModel", name := "numeral", desc := "(II)I" } : Jvm.MethodName) prog_22_method_14_code (4 : Nat) (Option.some Jvm.ClassFile.FieldType.int)) ∈ lw_all := lw_g (lw_at lw_m8 37 rfl) rfl
theorem q1840 : (Jvm.Cond.methodLink "TrunkLittersModel" (269 : Nat) ({ cls := "TrunkLittersModel", name := "readTrunk", desc := "()V" } : Jvm.MethodName)) ∈ lw_all := lw_g (lw_at lw_m8 38 rfl) rfl
theorem q1841 : (Jvm.Cond.privateMethod ({ cls := "TrunkLittersModel", name := "readTrunk", desc := "()V" } : Jvm.MethodName)) ∈ lw_tbl := lw_at lw_m8 39 rfl
theorem q1842 : (Jvm.Cond.instanceMethod ({ cls := "TrunkLittersModel", name := "readTrunk", desc := "()V" } : Jvm.MethodName)) ∈ lw_all := lw_g (lw_at lw_m8 40 rfl) rfl
theorem q1843 : (Jvm.Cond.code ({ cls := "TrunkLittersModel", name := "readTrunk", desc := "()V" } : Jvm.MethodName) prog_22_method_24_code (5 : Nat) (Option.none : Option Jvm.ClassFile.FieldType)) ∈ lw_all := lw_g (lw_at lw_m8 41 rfl) rfl
theorem q1844 : (Jvm.Cond.methodLink "TrunkLittersModel" (272 : Nat) ({ cls := "TrunkLittersModel", name := "readRule", desc := "()V" } : Jvm.MethodName)) ∈ lw_all := lw_g (lw_at lw_m8 42 rfl) rfl
theorem q1845 : (Jvm.Cond.privateMethod ({ cls := "TrunkLittersModel", name := "readRule", desc := "()V" } : Jvm.MethodName)) ∈ lw_tbl := lw_at lw_m8 43 rfl
theorem q1846 : (Jvm.Cond.instanceMethod ({ cls := "TrunkLittersModel", name := "readRule", desc := "()V" } : Jvm.MethodName)) ∈ lw_all := lw_g (lw_at lw_m8 44 rfl) rfl
theorem q1847 : (Jvm.Cond.code ({ cls := "TrunkLittersModel", name := "readRule", desc := "()V" } : Jvm.MethodName) prog_22_method_25_code (1 : Nat) (Option.none : Option Jvm.ClassFile.FieldType)) ∈ lw_all := lw_g (lw_at lw_m8 45 rfl) rfl
theorem q1848 : (Jvm.Cond.methodLink "TrunkLittersModel" (289 : Nat) ({ cls := "TrunkLittersModel", name := "e", desc := "()V" } : Jvm.MethodName)) ∈ lw_all := lw_g (lw_at lw_m8 46 rfl) rfl
theorem q1849 : (Jvm.Cond.privateMethod ({ cls := "TrunkLittersModel", name := "e", desc := "()V" } : Jvm.MethodName)) ∈ lw_tbl := lw_at lw_m8 47 rfl
theorem q1850 : (Jvm.Cond.instanceMethod ({ cls := "TrunkLittersModel", name := "e", desc := "()V" } : Jvm.MethodName)) ∈ lw_all := lw_g (lw_at lw_m8 48 rfl) rfl
theorem q1851 : (Jvm.Cond.code ({ cls := "TrunkLittersModel", name := "e", desc := "()V" } : Jvm.MethodName) prog_22_method_28_code (2 : Nat) (Option.none : Option Jvm.ClassFile.FieldType)) ∈ lw_all := lw_g (lw_at lw_m8 49 rfl) rfl
theorem q1852 : (Jvm.Cond.methodLink "TrunkLittersModel" (298 : Nat) ({ cls := "TrunkLittersModel", name := "pushE", desc := "(II)V" } : Jvm.MethodName)) ∈ lw_all := lw_g (lw_at lw_m8 50 rfl) rfl
theorem q1853 : (Jvm.Cond.privateMethod ({ cls := "TrunkLittersModel", name := "pushE", desc := "(II)V" } : Jvm.MethodName)) ∈ lw_tbl := lw_at lw_m8 51 rfl
theorem q1854 : (Jvm.Cond.instanceMethod ({ cls := "TrunkLittersModel", name := "pushE", desc := "(II)V" } : Jvm.MethodName)) ∈ lw_all := lw_g (lw_at lw_m8 52 rfl) rfl
theorem q1855 : (Jvm.Cond.code ({ cls := "TrunkLittersModel", name := "pushE", desc := "(II)V" } : Jvm.MethodName) prog_22_method_27_code (3 : Nat) (Option.none : Option Jvm.ClassFile.FieldType)) ∈ lw_all := lw_g (lw_at lw_m8 53 rfl) rfl
theorem q1856 : (Jvm.Cond.methodLink "TrunkLittersModel" (301 : Nat) ({ cls := "TrunkLittersModel", name := "unit", desc := "()Z" } : Jvm.MethodName)) ∈ lw_all := lw_g (lw_at lw_m8 54 rfl) rfl
theorem q1857 : (Jvm.Cond.privateMethod ({ cls := "TrunkLittersModel", name := "unit", desc := "()Z" } : Jvm.MethodName)) ∈ lw_tbl := lw_at lw_m8 55 rfl
theorem q1858 : (Jvm.Cond.instanceMethod ({ cls := "TrunkLittersModel", name := "unit", desc := "()Z" } : Jvm.MethodName)) ∈ lw_all := lw_g (lw_at lw_m8 56 rfl) rfl
theorem q1859 : (Jvm.Cond.code ({ cls := "TrunkLittersModel", name := "unit", desc := "()Z" } : Jvm.MethodName) prog_22_method_30_code (7 : Nat) (Option.some Jvm.ClassFile.FieldType.boolean)) ∈ lw_all := lw_g (lw_at lw_m8 57 rfl) rfl
theorem q1860 : (Jvm.Cond.methodLink "TrunkLittersModel" (279 : Nat) ({ cls := "TrunkLittersModel", name := "isSignHere", desc := "(I)Z" } : Jvm.MethodName)) ∈ lw_all := lw_g (lw_at lw_m8 58 rfl) rfl
theorem q1861 : (Jvm.Cond.privateMethod ({ cls := "TrunkLittersModel", name := "isSignHere", desc := "(I)Z" } : Jvm.MethodName)) ∈ lw_tbl := lw_at lw_m8 59 rfl
theorem q1862 : (Jvm.Cond.instanceMethod ({ cls := "TrunkLittersModel", name := "isSignHere", desc := "(I)Z" } : Jvm.MethodName)) ∈ lw_all := lw_g (lw_at lw_m8 60 rfl) rfl
theorem q1863 : (Jvm.Cond.code ({ cls := "TrunkLittersModel", name := "isSignHere", desc := "(I)Z" } : Jvm.MethodName) prog_22_method_10_code (2 : Nat) (Option.some Jvm.ClassFile.FieldType.boolean)) ∈ lw_all := lw_g (lw_at lw_m8 61 rfl) rfl
theorem q1864 : (Jvm.Cond.methodLink "TrunkLittersModel" (307 : Nat) ({ cls := "TrunkLittersModel", name := "wordHere", desc := "()I" } : Jvm.MethodName)) ∈ lw_all := lw_g (lw_at lw_m8 62 rfl) rfl
theorem q1865 : (Jvm.Cond.privateMethod ({ cls := "TrunkLittersModel", name := "wordHere", desc := "()I" } : Jvm.MethodName)) ∈ lw_tbl := lw_at lw_m8 63 rfl
theorem q1866 : (Jvm.Cond.instanceMethod ({ cls := "TrunkLittersModel", name := "wordHere", desc := "()I" } : Jvm.MethodName)) ∈ lw_all := lw_g (lw_at lw_m8 64 rfl) rfl
theorem q1867 : (Jvm.Cond.code ({ cls := "TrunkLittersModel", name := "wordHere", desc := "()I" } : Jvm.MethodName) prog_22_method_29_code (1 : Nat) (Option.some Jvm.ClassFile.FieldType.int)) ∈ lw_all := lw_g (lw_at lw_m8 65 rfl) rfl
theorem q1868 : (Jvm.Cond.methodLink "TrunkLittersModel" (310 : Nat) ({ cls := "TrunkLittersModel", name := "emit", desc := "(II)V" } : Jvm.MethodName)) ∈ lw_all := lw_g (lw_at lw_m8 66 rfl) rfl
theorem q1869 : (Jvm.Cond.privateMethod ({ cls := "TrunkLittersModel", name := "emit", desc := "(II)V" } : Jvm.MethodName)) ∈ lw_tbl := lw_at lw_m8 67 rfl
theorem q1870 : (Jvm.Cond.instanceMethod ({ cls := "TrunkLittersModel", name := "emit", desc := "(II)V" } : Jvm.MethodName)) ∈ lw_all := lw_g (lw_at lw_m8 68 rfl) rfl
theorem q1871 : (Jvm.Cond.code ({ cls := "TrunkLittersModel", name := "emit", desc := "(II)V" } : Jvm.MethodName) prog_22_method_26_code (3 : Nat) (Option.none : Option Jvm.ClassFile.FieldType)) ∈ lw_all := lw_g (lw_at lw_m8 69 rfl) rfl
theorem q1872 : (Jvm.Cond.methodLink "TrunkLittersModel" (304 : Nat) ({ cls := "TrunkLittersModel", name := "behindUnit", desc := "()Z" } : Jvm.MethodName)) ∈ lw_all := lw_g (lw_at lw_m8 70 rfl) rfl
theorem q1873 : (Jvm.Cond.privateMethod ({ cls := "TrunkLittersModel", name := "behindUnit", desc := "()Z" } : Jvm.MethodName)) ∈ lw_tbl := lw_at lw_m8 71 rfl
theorem q1874 : (Jvm.Cond.instanceMethod ({ cls := "TrunkLittersModel", name := "behindUnit", desc := "()Z" } : Jvm.MethodName)) ∈ lw_all := lw_g (lw_at lw_m8 72 rfl) rfl
theorem q1875 : (Jvm.Cond.code ({ cls := "TrunkLittersModel", name := "behindUnit", desc := "()Z" } : Jvm.MethodName) prog_22_method_33_code (2 : Nat) (Option.some Jvm.ClassFile.FieldType.boolean)) ∈ lw_all := lw_g (lw_at lw_m8 73 rfl) rfl
theorem q1876 : (Jvm.Cond.methodLink "TrunkLittersModel" (313 : Nat) ({ cls := "TrunkLittersModel", name := "rankHere", desc := "()I" } : Jvm.MethodName)) ∈ lw_all := lw_g (lw_at lw_m8 74 rfl) rfl
theorem q1877 : (Jvm.Cond.privateMethod ({ cls := "TrunkLittersModel", name := "rankHere", desc := "()I" } : Jvm.MethodName)) ∈ lw_tbl := lw_at lw_m8 75 rfl
theorem q1878 : (Jvm.Cond.instanceMethod ({ cls := "TrunkLittersModel", name := "rankHere", desc := "()I" } : Jvm.MethodName)) ∈ lw_all := lw_g (lw_at lw_m8 76 rfl) rfl
theorem q1879 : (Jvm.Cond.code ({ cls := "TrunkLittersModel", name := "rankHere", desc := "()I" } : Jvm.MethodName) prog_22_method_31_code (1 : Nat) (Option.some Jvm.ClassFile.FieldType.int)) ∈ lw_all := lw_g (lw_at lw_m8 77 rfl) rfl
theorem q1880 : (Jvm.Cond.methodLink "TrunkLittersModel" (316 : Nat) ({ cls := "TrunkLittersModel", name := "isCompared", desc := "()Z" } : Jvm.MethodName)) ∈ lw_all := lw_g (lw_at lw_m8 78 rfl) rfl
theorem q1881 : (Jvm.Cond.privateMethod ({ cls := "TrunkLittersModel", name := "isCompared", desc := "()Z" } : Jvm.MethodName)) ∈ lw_tbl := lw_at lw_m8 79 rfl
theorem q1882 : (Jvm.Cond.instanceMethod ({ cls := "TrunkLittersModel", name := "isCompared", desc := "()Z" } : Jvm.MethodName)) ∈ lw_all := lw_g (lw_at lw_m8 80 rfl) rfl
theorem q1883 : (Jvm.Cond.code ({ cls := "TrunkLittersModel", name := "isCompared", desc := "()Z" } : Jvm.MethodName) prog_22_method_32_code (2 : Nat) (Option.some Jvm.ClassFile.FieldType.boolean)) ∈ lw_all := lw_g (lw_at lw_m8 81 rfl) rfl
theorem q1884 : (Jvm.Cond.methodLink "TrunkLittersModel" (275 : Nat) ({ cls := "TrunkLittersModel", name := "once", desc := "(III)I" } : Jvm.MethodName)) ∈ lw_all := lw_g (lw_at lw_m8 82 rfl) rfl
theorem q1885 : (Jvm.Cond.privateMethod ({ cls := "TrunkLittersModel", name := "once", desc := "(III)I" } : Jvm.MethodName)) ∈ lw_tbl := lw_at lw_m8 83 rfl
theorem q1886 : (Jvm.Cond.instanceMethod ({ cls := "TrunkLittersModel", name := "once", desc := "(III)I" } : Jvm.MethodName)) ∈ lw_all := lw_g (lw_at lw_m8 84 rfl) rfl
theorem q1887 : (Jvm.Cond.code ({ cls := "TrunkLittersModel", name := "once", desc := "(III)I" } : Jvm.MethodName) prog_22_method_19_code (4 : Nat) (Option.some Jvm.ClassFile.FieldType.int)) ∈ lw_all := lw_g (lw_at lw_m8 85 rfl) rfl
theorem q1889 : (Jvm.Cond.instanceMethod ({ cls := "TrunkLittersModel", name := "fault", desc := "(I)I" } : Jvm.MethodName)) ∈ lw_all := lw_g (lw_at lw_m8 87 rfl) rfl
theorem q1890 : (Jvm.Cond.selects "TrunkLittersModel" ({ cls := "TrunkLittersModel", name := "fault", desc := "(I)I" } : Jvm.MethodName) ({ cls := "TrunkLittersModel", name := "fault", desc := "(I)I" } : Jvm.MethodName)) ∈ lw_all := lw_g (lw_at lw_m8 88 rfl) rfl
theorem q1891 : (Jvm.Cond.code ({ cls := "TrunkLittersModel", name := "fault", desc := "(I)I" } : Jvm.MethodName) prog_22_method_37_code (2 : Nat) (Option.some Jvm.ClassFile.FieldType.int)) ∈ lw_all := lw_g (lw_at lw_m8 89 rfl) rfl
theorem q1893 : (Jvm.Cond.instanceMethod ({ cls := "TrunkLittersModel", name := "room", desc := "(II)I" } : Jvm.MethodName)) ∈ lw_all := lw_g (lw_at lw_m8 91 rfl) rfl
theorem q1894 : (Jvm.Cond.selects "TrunkLittersModel" ({ cls := "TrunkLittersModel", name := "room", desc := "(II)I" } : Jvm.MethodName) ({ cls := "TrunkLittersModel", name := "room", desc := "(II)I" } : Jvm.MethodName)) ∈ lw_all := lw_g (lw_at lw_m8 92 rfl) rfl
theorem q1895 : (Jvm.Cond.code ({ cls := "TrunkLittersModel", name := "room", desc := "(II)I" } : Jvm.MethodName) prog_22_method_66_code (3 : Nat) (Option.some Jvm.ClassFile.FieldType.int)) ∈ lw_all := lw_g (lw_at lw_m8 93 rfl) rfl
theorem q1896 : (Jvm.Cond.methodLink "TrunkLittersModel" (408 : Nat) ({ cls := "TrunkLittersModel", name := "isRoom", desc := "(I)Z" } : Jvm.MethodName)) ∈ lw_all := lw_g (lw_at lw_m8 94 rfl) rfl
theorem q1897 : (Jvm.Cond.privateMethod ({ cls := "TrunkLittersModel", name := "isRoom", desc := "(I)Z" } : Jvm.MethodName)) ∈ lw_tbl := lw_at lw_m8 95 rfl
theorem q1898 : (Jvm.Cond.instanceMethod ({ cls := "TrunkLittersModel", name := "isRoom", desc := "(I)Z" } : Jvm.MethodName)) ∈ lw_all := lw_g (lw_at lw_m8 96 rfl) rfl
theorem q1899 : (Jvm.Cond.code ({ cls := "TrunkLittersModel", name := "isRoom", desc := "(I)Z" } : Jvm.MethodName) prog_22_method_43_code (2 : Nat) (Option.some Jvm.ClassFile.FieldType.boolean)) ∈ lw_all := lw_g (lw_at lw_m8 97 rfl) rfl
theorem q1900 : (Jvm.Cond.methodLink "TrunkLittersModel" (343 : Nat) ({ cls := "TrunkLittersModel", name := "chambers", desc := "()I" } : Jvm.MethodName)) ∈ lw_all := lw_g (lw_at lw_m8 98 rfl) rfl
theorem q1901 : (Jvm.Cond.privateMethod ({ cls := "TrunkLittersModel", name := "chambers", desc := "()I" } : Jvm.MethodName)) ∈ lw_tbl := lw_at lw_m8 99 rfl
theorem q1902 : (Jvm.Cond.instanceMethod ({ cls := "TrunkLittersModel", name := "chambers", desc := "()I" } : Jvm.MethodName)) ∈ lw_all := lw_g (lw_at lw_m8 100 rfl) rfl
theorem q1903 : (Jvm.Cond.code ({ cls := "TrunkLittersModel", name := "chambers", desc := "()I" } : Jvm.MethodName) prog_22_method_42_code (1 : Nat) (Option.some Jvm.ClassFile.FieldType.int)) ∈ lw_all := lw_g (lw_at lw_m8 101 rfl) rfl
theorem q1904 : (Jvm.Cond.methodLink "TrunkLittersModel" (346 : Nat) ({ cls := "TrunkLittersModel", name := "isIn", desc := "(III)Z" } : Jvm.MethodName)) ∈ lw_all := lw_g (lw_at lw_m8 102 rfl) rfl
theorem q1905 : (Jvm.Cond.static ({ cls := "TrunkLittersModel", name := "isIn", desc := "(III)Z" } : Jvm.MethodName)) ∈ lw_all := lw_g (lw_at lw_m8 103 rfl) rfl
theorem q1906 : (Jvm.Cond.code ({ cls := "TrunkLittersModel", name := "isIn", desc := "(III)Z" } : Jvm.MethodName) prog_22_method_38_code (3 : Nat) (Option.some Jvm.ClassFile.FieldType.boolean)) ∈ lw_all := lw_g (lw_at lw_m8 104 rfl) rfl
theorem q1907 : (Jvm.Cond.methodLink "TrunkLittersModel" (350 : Nat) ({ cls := "TrunkLittersModel", name := "holdsOf", desc := "(I)I" } : Jvm.MethodName)) ∈ lw_all := lw_g (lw_at lw_m8 105 rfl) rfl
theorem q1908 : (Jvm.Cond.privateMethod ({ cls := "TrunkLittersModel", name := "holdsOf", desc := "(I)I" } : Jvm.MethodName)) ∈ lw_tbl := lw_at lw_m8 106 rfl
theorem q1909 : (Jvm.Cond.instanceMethod ({ cls := "TrunkLittersModel", name := "holdsOf", desc := "(I)I" } : Jvm.MethodName)) ∈ lw_all := lw_g (lw_at lw_m8 107 rfl) rfl
theorem q1910 : (Jvm.Cond.code ({ cls := "TrunkLittersModel", name := "holdsOf", desc := "(I)I" } : Jvm.MethodName) prog_22_method_45_code (2 : Nat) (Option.some Jvm.ClassFile.FieldType.int)) ∈ lw_all := lw_g (lw_at lw_m8 108 rfl) rfl
theorem q1911 : (Jvm.Cond.methodLink "TrunkLittersModel" (328 : Nat) ({ cls := "TrunkLittersModel", name := "leftIn", desc := "(I)I" } : Jvm.MethodName)) ∈ lw_all := lw_g (lw_at lw_m8 109 rfl) rfl
theorem q1912 : (Jvm.Cond.privateMethod ({ cls := "TrunkLittersModel", name := "leftIn", desc := "(I)I" } : Jvm.MethodName)) ∈ lw_tbl := lw_at lw_m8 110 rfl
theorem q1913 : (Jvm.Cond.instanceMethod ({ cls := "TrunkLittersModel", name := "leftIn", desc := "(I)I" } : Jvm.MethodName)) ∈ lw_all := lw_g (lw_at lw_m8 111 rfl) rfl
theorem q1914 : (Jvm.Cond.code ({ cls := "TrunkLittersModel", name := "leftIn", desc := "(I)I" } : Jvm.MethodName) prog_22_method_49_code (2 : Nat) (Option.some Jvm.ClassFile.FieldType.int)) ∈ lw_all := lw_g (lw_at lw_m8 112 rfl) rfl
theorem q1915 : (Jvm.Cond.methodLink "TrunkLittersModel" (353 : Nat) ({ cls := "TrunkLittersModel", name := "thoseIn", desc := "(I)I" } : Jvm.MethodName)) ∈ lw_all := lw_g (lw_at lw_m8 113 rfl) rfl
theorem q1916 : (Jvm.Cond.privateMethod ({ cls := "TrunkLittersModel", name := "thoseIn", desc := "(I)I" } : Jvm.MethodName)) ∈ lw_tbl := lw_at lw_m8 114 rfl
theorem q1917 : (Jvm.Cond.instanceMethod ({ cls := "TrunkLittersModel", name := "thoseIn", desc := "(I)I" } : Jvm.MethodName)) ∈ lw_all := lw_g (lw_at lw_m8 115 rfl) rfl
theorem q1918 : (Jvm.Cond.code ({ cls := "TrunkLittersModel", name := "thoseIn", desc := "(I)I" } : Jvm.MethodName) prog_22_method_47_code (4 : Nat) (Option.some Jvm.ClassFile.FieldType.int)) ∈ lw_all := lw_g (lw_at lw_m8 116 rfl) rfl
theorem q1919 : (Jvm.Cond.methodLink "TrunkLittersModel" (356 : Nat) ({ cls := "TrunkLittersModel", name := "bulkOf", desc := "(I)I" } : Jvm.MethodName)) ∈ lw_all := lw_g (lw_at lw_m8 117 rfl) rfl
theorem q1920 : (Jvm.Cond.privateMethod ({ cls := "TrunkLittersModel", name := "bulkOf", desc := "(I)I" } : Jvm.MethodName)) ∈ lw_tbl := lw_at lw_m8 118 rfl
theorem q1921 : (Jvm.Cond.instanceMethod ({ cls := "TrunkLittersModel", name := "bulkOf", desc := "(I)I" } : Jvm.MethodName)) ∈ lw_all := lw_g (lw_at lw_m8 119 rfl) rfl
theorem q1922 : (Jvm.Cond.code ({ cls := "TrunkLittersModel", name := "bulkOf", desc := "(I)I" } : Jvm.MethodName) prog_22_method_48_code (4 : Nat) (Option.some Jvm.ClassFile.FieldType.int)) ∈ lw_all := lw_g (lw_at lw_m8 120 rfl) rfl
theorem q1924 : (Jvm.Cond.instanceMethod ({ cls := "TrunkLittersModel", name := "trunk", desc := "(II)I" } : Jvm.MethodName)) ∈ lw_all := lw_g (lw_at lw_m8 122 rfl) rfl
theorem q1925 : (Jvm.Cond.selects "TrunkLittersModel" ({ cls := "TrunkLittersModel", name := "trunk", desc := "(II)I" } : Jvm.MethodName) ({ cls := "TrunkLittersModel", name := "trunk", desc := "(II)I" } : Jvm.MethodName)) ∈ lw_all := lw_g (lw_at lw_m8 123 rfl) rfl
theorem q1926 : (Jvm.Cond.code ({ cls := "TrunkLittersModel", name := "trunk", desc := "(II)I" } : Jvm.MethodName) prog_22_method_67_code (3 : Nat) (Option.some Jvm.ClassFile.FieldType.int)) ∈ lw_all := lw_g (lw_at lw_m8 124 rfl) rfl
theorem q1927 : (Jvm.Cond.methodLink "TrunkLittersModel" (411 : Nat) ({ cls := "TrunkLittersModel", name := "isThere", desc := "(I)Z" } : Jvm.MethodName)) ∈ lw_all := lw_g (lw_at lw_m8 125 rfl) rfl
theorem q1928 : (Jvm.Cond.privateMethod ({ cls := "TrunkLittersModel", name := "isThere", desc := "(I)Z" } : Jvm.MethodName)) ∈ lw_tbl := lw_at lw_m8 126 rfl
theorem q1929 : (Jvm.Cond.instanceMethod ({ cls := "TrunkLittersModel", name := "isThere", desc := "(I)Z" } : Jvm.MethodName)) ∈ lw_all := lw_g (lw_at lw_m8 127 rfl) rfl
theorem q1930 : (Jvm.Cond.code ({ cls := "TrunkLittersModel", name := "isThere", desc := "(I)Z" } : Jvm.MethodName) prog_22_method_44_code (2 : Nat) (Option.some Jvm.ClassFile.FieldType.boolean)) ∈ lw_all := lw_g (lw_at lw_m8 128 rfl) rfl
theorem q1932 : (Jvm.Cond.instanceMethod ({ cls := "TrunkLittersModel", name := "brood", desc := "(II)I" } : Jvm.MethodName)) ∈ lw_all := lw_g (lw_at lw_m8 130 rfl) rfl
theorem q1933 : (Jvm.Cond.selects "TrunkLittersModel" ({ cls := "TrunkLittersModel", name := "brood", desc := "(II)I" } : Jvm.MethodName) ({ cls := "TrunkLittersModel", name := "brood", desc := "(II)I" } : Jvm.MethodName)) ∈ lw_all := lw_g (lw_at lw_m8 131 rfl) rfl
theorem q1934 : (Jvm.Cond.code ({ cls := "TrunkLittersModel", name := "brood", desc := "(II)I" } : Jvm.MethodName) prog_22_method_68_code (3 : Nat) (Option.some Jvm.ClassFile.FieldType.int)) ∈ lw_all := lw_g (lw_at lw_m8 132 rfl) rfl
theorem q1935 : (Jvm.Cond.methodLink "TrunkLittersModel" (387 : Nat) ({ cls := "TrunkLittersModel", name := "broodOf", desc := "(II)I" } : Jvm.MethodName)) ∈ lw_all := lw_g (lw_at lw_m8 133 rfl) rfl
theorem q1936 : (Jvm.Cond.privateMethod ({ cls := "TrunkLittersModel", name := "broodOf", desc := "(II)I" } : Jvm.MethodName)) ∈ lw_tbl := lw_at lw_m8 134 rfl
theorem q1937 : (Jvm.Cond.instanceMethod ({ cls := "TrunkLittersModel", name := "broodOf", desc := "(II)I" } : Jvm.MethodName)) ∈ lw_all := lw_g (lw_at lw_m8 135 rfl) rfl
theorem q1938 : (Jvm.Cond.code ({ cls := "TrunkLittersModel", name := "broodOf", desc := "(II)I" } : Jvm.MethodName) prog_22_method_56_code (3 : Nat) (Option.some Jvm.ClassFile.FieldType.int)) ∈ lw_all := lw_g (lw_at lw_m8 136 rfl) rfl
theorem q1939 : (Jvm.Cond.methodLink "TrunkLittersModel" (375 : Nat) ({ cls := "TrunkLittersModel", name := "comes", desc := "()I" } : Jvm.MethodName)) ∈ lw_all := lw_g (lw_at lw_m8 137 rfl) rfl
theorem q1940 : (Jvm.Cond.privateMethod ({ cls := "TrunkLittersModel", name := "comes", desc := "()I" } : Jvm.MethodName)) ∈ lw_tbl := lw_at lw_m8 138 rfl
theorem q1941 : (Jvm.Cond.instanceMethod ({ cls := "TrunkLittersModel", name := "comes", desc := "()I" } : Jvm.MethodName)) ∈ lw_all := lw_g (lw_at lw_m8 139 rfl) rfl
theorem q1942 : (Jvm.Cond.code ({ cls := "TrunkLittersModel", name := "comes", desc := "()I" } : Jvm.MethodName) prog_22_method_36_code (4 : Nat) (Option.some Jvm.ClassFile.FieldType.int)) ∈ lw_all := lw_g (lw_at lw_m8 140 rfl) rfl
theorem q1943 : (Jvm.Cond.methodLink "TrunkLittersModel" (337 : Nat) ({ cls := "TrunkLittersModel", name := "asked", desc := "(II)I" } : Jvm.MethodName)) ∈ lw_all := lw_g (lw_at lw_m8 141 rfl) rfl
theorem q1944 : (Jvm.Cond.privateMethod ({ cls := "TrunkLittersModel", name := "asked", desc := "(II)I" } : Jvm.MethodName)) ∈ lw_tbl := lw_at lw_m8 142 rfl
theorem q1945 : (Jvm.Cond.instanceMethod ({ cls := "TrunkLittersModel", name := "asked", desc := "(II)I" } : Jvm.MethodName)) ∈ lw_all := lw_g (lw_at lw_m8 143 rfl) rfl
theorem q1946 : (Jvm.Cond.code ({ cls := "TrunkLittersModel", name := "asked", desc := "(II)I" } : Jvm.MethodName) prog_22_method_35_code (3 : Nat) (Option.some Jvm.ClassFile.FieldType.int)) ∈ lw_all := lw_g (lw_at lw_m8 144 rfl) rfl
theorem q1947 : (Jvm.Cond.methodLink "TrunkLittersModel" (325 : Nat) ({ cls := "TrunkLittersModel", name := "sharedBy", desc := "(II)I" } : Jvm.MethodName)) ∈ lw_all := lw_g (lw_at lw_m8 145 rfl) rfl
theorem q1948 : (Jvm.Cond.static ({ cls := "TrunkLittersModel", name := "sharedBy", desc := "(II)I" } : Jvm.MethodName)) ∈ lw_all := lw_g (lw_at lw_m8 146 rfl) rfl
theorem q1949 : (Jvm.Cond.code ({ cls := "TrunkLittersModel", name := "sharedBy", desc := "(II)I" } : Jvm.MethodName) prog_22_method_41_code (2 : Nat) (Option.some Jvm.ClassFile.FieldType.int)) ∈ lw_all := lw_g (lw_at lw_m8 147 rfl) rfl
theorem q1950 : (Jvm.Cond.methodLink "TrunkLittersModel" (334 : Nat) ({ cls := "TrunkLittersModel", name := "bitsOf", desc := "(I)I" } : Jvm.MethodName)) ∈ lw_all := lw_g (lw_at lw_m8 148 rfl) rfl
theorem q1951 : (Jvm.Cond.static ({ cls := "TrunkLittersModel", name := "bitsOf", desc := "(I)I" } : Jvm.MethodName)) ∈ lw_all := lw_g (lw_at lw_m8 149 rfl) rfl
theorem q1952 : (Jvm.Cond.code ({ cls := "TrunkLittersModel", name := "bitsOf", desc := "(I)I" } : Jvm.MethodName) prog_22_method_40_code (3 : Nat) (Option.some Jvm.ClassFile.FieldType.int)) ∈ lw_all := lw_g (lw_at lw_m8 150 rfl) rfl
theorem q1953 : (Jvm.Cond.methodLink "TrunkLittersModel" (331 : Nat) ({ cls := "TrunkLittersModel", name := "those", desc := "()I" } : Jvm.MethodName)) ∈ lw_all := lw_g (lw_at lw_m8 151 rfl) rfl
theorem q1954 : (Jvm.Cond.privateMethod ({ cls := "TrunkLittersModel", name := "those", desc := "()I" } : Jvm.MethodName)) ∈ lw_tbl := lw_at lw_m8 152 rfl
theorem q1955 : (Jvm.Cond.instanceMethod ({ cls := "TrunkLittersModel", name := "those", desc := "()I" } : Jvm.MethodName)) ∈ lw_all := lw_g (lw_at lw_m8 153 rfl) rfl
theorem q1956 : (Jvm.Cond.code ({ cls := "TrunkLittersModel", name := "those", desc := "()I" } : Jvm.MethodName) prog_22_method_46_code (3 : Nat) (Option.some Jvm.ClassFile.FieldType.int)) ∈ lw_all := lw_g (lw_at lw_m8 154 rfl) rfl
theorem q1957 : (Jvm.Cond.methodLink "TrunkLittersModel" (340 : Nat) ({ cls := "TrunkLittersModel", name := "two", desc := "(III)I" } : Jvm.MethodName)) ∈ lw_all := lw_g (lw_at lw_m8 155 rfl) rfl
theorem q1958 : (Jvm.Cond.static ({ cls := "TrunkLittersModel", name := "two", desc := "(III)I" } : Jvm.MethodName)) ∈ lw_all := lw_g (lw_at lw_m8 156 rfl) rfl
theorem q1959 : (Jvm.Cond.code ({ cls := "TrunkLittersModel", name := "two", desc := "(III)I" } : Jvm.MethodName) prog_22_method_34_code (3 : Nat) (Option.some Jvm.ClassFile.FieldType.int)) ∈ lw_all := lw_g (lw_at lw_m8 157 rfl) rfl
theorem q1960 : (Jvm.Cond.constant "TrunkLittersModel" (414 : Nat) (-1000000000 : Int32)) ∈ lw_all := lw_g (lw_at lw_m8 158 rfl) rfl
theorem q1962 : (Jvm.Cond.instanceMethod ({ cls := "TrunkLittersModel", name := "couple", desc := "(I)I" } : Jvm.MethodName)) ∈ lw_all := lw_g (lw_at lw_m8 160 rfl) rfl
theorem q1963 : (Jvm.Cond.selects "TrunkLittersModel" ({ cls := "TrunkLittersModel", name := "couple", desc := "(I)I" } : Jvm.MethodName) ({ cls := "TrunkLittersModel", name := "couple", desc := "(I)I" } : Jvm.MethodName)) ∈ lw_all := lw_g (lw_at lw_m8 161 rfl) rfl
theorem q1964 : (Jvm.Cond.code ({ cls := "TrunkLittersModel", name := "couple", desc := "(I)I" } : Jvm.MethodName) prog_22_method_69_code (2 : Nat) (Option.some Jvm.ClassFile.FieldType.int)) ∈ lw_all := lw_g (lw_at lw_m8 162 rfl) rfl
theorem q1965 : (Jvm.Cond.methodLink "TrunkLittersModel" (381 : Nat) ({ cls := "TrunkLittersModel", name := "coupleOf", desc := "(I)I" } : Jvm.MethodName)) ∈ lw_all := lw_g (lw_at lw_m8 163 rfl) rfl
theorem q1966 : (Jvm.Cond.privateMethod ({ cls := "TrunkLittersModel", name := "coupleOf", desc := "(I)I" } : Jvm.MethodName)) ∈ lw_tbl := lw_at lw_m8 164 rfl
theorem q1967 : (Jvm.Cond.instanceMethod ({ cls := "TrunkLittersModel", name := "coupleOf", desc := "(I)I" } : Jvm.MethodName)) ∈ lw_all := lw_g (lw_at lw_m8 165 rfl) rfl
theorem q1968 : (Jvm.Cond.code ({ cls := "TrunkLittersModel", name := "coupleOf", desc := "(I)I" } : Jvm.MethodName) prog_22_method_58_code (4 : Nat) (Option.some Jvm.ClassFile.FieldType.int)) ∈ lw_all := lw_g (lw_at lw_m8 166 rfl) rfl
theorem q1969 : (Jvm.Cond.methodLink "TrunkLittersModel" (378 : Nat) ({ cls := "TrunkLittersModel", name := "biggestOf", desc := "(I)I" } : Jvm.MethodName)) ∈ lw_all := lw_g (lw_at lw_m8 167 rfl) rfl
theorem q1970 : (Jvm.Cond.privateMethod ({ cls := "TrunkLittersModel", name := "biggestOf", desc := "(I)I" } : Jvm.MethodName)) ∈ lw_tbl := lw_at lw_m8 168 rfl
theorem q1971 : (Jvm.Cond.instanceMethod ({ cls := "TrunkLittersModel", name := "biggestOf", desc := "(I)I" } : Jvm.MethodName)) ∈ lw_all := lw_g (lw_at lw_m8 169 rfl) rfl
theorem q1972 : (Jvm.Cond.code ({ cls := "TrunkLittersModel", name := "biggestOf", desc := "(I)I" } : Jvm.MethodName) prog_22_method_57_code (4 : Nat) (Option.some Jvm.ClassFile.FieldType.int)) ∈ lw_all := lw_g (lw_at lw_m8 170 rfl) rfl
theorem q1974 : (Jvm.Cond.instanceMethod ({ cls := "TrunkLittersModel", name := "ripe", desc := "()I" } : Jvm.MethodName)) ∈ lw_all := lw_g (lw_at lw_m8 172 rfl) rfl
theorem q1975 : (Jvm.Cond.selects "TrunkLittersModel" ({ cls := "TrunkLittersModel", name := "ripe", desc := "()I" } : Jvm.MethodName) ({ cls := "TrunkLittersModel", name := "ripe", desc := "()I" } : Jvm.MethodName)) ∈ lw_all := lw_g (lw_at lw_m8 173 rfl) rfl
theorem q1976 : (Jvm.Cond.code ({ cls := "TrunkLittersModel", name := "ripe", desc := "()I" } : Jvm.MethodName) prog_22_method_70_code (3 : Nat) (Option.some Jvm.ClassFile.FieldType.int)) ∈ lw_all := lw_g (lw_at lw_m8 174 rfl) rfl
theorem q1977 : (Jvm.Cond.methodLink "TrunkLittersModel" (399 : Nat) ({ cls := "TrunkLittersModel", name := "isRipe", desc := "(I)Z" } : Jvm.MethodName)) ∈ lw_all := lw_g (lw_at lw_m8 175 rfl) rfl
theorem q1978 : (Jvm.Cond.privateMethod ({ cls := "TrunkLittersModel", name := "isRipe", desc := "(I)Z" } : Jvm.MethodName)) ∈ lw_tbl := lw_at lw_m8 176 rfl
theorem q1979 : (Jvm.Cond.instanceMethod ({ cls := "TrunkLittersModel", name := "isRipe", desc := "(I)Z" } : Jvm.MethodName)) ∈ lw_all := lw_g (lw_at lw_m8 177 rfl) rfl
theorem q1980 : (Jvm.Cond.code ({ cls := "TrunkLittersModel", name := "isRipe", desc := "(I)Z" } : Jvm.MethodName) prog_22_method_61_code (3 : Nat) (Option.some Jvm.ClassFile.FieldType.boolean)) ∈ lw_all := lw_g (lw_at lw_m8 178 rfl) rfl
theorem q1981 : (Jvm.Cond.methodLink "TrunkLittersModel" (384 : Nat) ({ cls := "TrunkLittersModel", name := "freePlace", desc := "()I" } : Jvm.MethodName)) ∈ lw_all := lw_g (lw_at lw_m8 179 rfl) rfl
theorem q1982 : (Jvm.Cond.privateMethod ({ cls := "TrunkLittersModel", name := "freePlace", desc := "()I" } : Jvm.MethodName)) ∈ lw_tbl := lw_at lw_m8 180 rfl
theorem q1983 : (Jvm.Cond.instanceMethod ({ cls := "TrunkLittersModel", name := "freePlace", desc := "()I" } : Jvm.MethodName)) ∈ lw_all := lw_g (lw_at lw_m8 181 rfl) rfl
theorem q1984 : (Jvm.Cond.code ({ cls := "TrunkLittersModel", name := "freePlace", desc := "()I" } : Jvm.MethodName) prog_22_method_60_code (2 : Nat) (Option.some Jvm.ClassFile.FieldType.int)) ∈ lw_all := lw_g (lw_at lw_m8 182 rfl) rfl
theorem q1985 : (Jvm.Cond.methodLink "TrunkLittersModel" (390 : Nat) ({ cls := "TrunkLittersModel", name := "youngOf", desc := "(I)I" } : Jvm.MethodName)) ∈ lw_all := lw_g (lw_at lw_m8 183 rfl) rfl
theorem q1986 : (Jvm.Cond.privateMethod ({ cls := "TrunkLittersModel", name := "youngOf", desc := "(I)I" } : Jvm.MethodName)) ∈ lw_tbl := lw_at lw_m8 184 rfl
theorem q1987 : (Jvm.Cond.instanceMethod ({ cls := "TrunkLittersModel", name := "youngOf", desc := "(I)I" } : Jvm.MethodName)) ∈ lw_all := lw_g (lw_at lw_m8 185 rfl) rfl
theorem q1988 : (Jvm.Cond.code ({ cls := "TrunkLittersModel", name := "youngOf", desc := "(I)I" } : Jvm.MethodName) prog_22_method_59_code (3 : Nat) (Option.some Jvm.ClassFile.FieldType.int)) ∈ lw_all := lw_g (lw_at lw_m8 186 rfl) rfl
theorem q1990 : (Jvm.Cond.instanceMethod ({ cls := "TrunkLittersModel", name := "pining", desc := "()I" } : Jvm.MethodName)) ∈ lw_all := lw_g (lw_at lw_m8 188 rfl) rfl
theorem q1991 : (Jvm.Cond.selects "TrunkLittersModel" ({ cls := "TrunkLittersModel", name := "pining", desc := "()I" } : Jvm.MethodName) ({ cls := "TrunkLittersModel", name := "pining", desc := "()I" } : Jvm.MethodName)) ∈ lw_all := lw_g (lw_at lw_m8 189 rfl) rfl
theorem q1992 : (Jvm.Cond.code ({ cls := "TrunkLittersModel", name := "pining", desc := "()I" } : Jvm.MethodName) prog_22_method_71_code (3 : Nat) (Option.some Jvm.ClassFile.FieldType.int)) ∈ lw_all := lw_g (lw_at lw_m8 190 rfl) rfl
theorem q1994 : (Jvm.Cond.instanceMethod ({ cls := "TrunkLittersModel", name := "alike", desc := "(II)I" } : Jvm.MethodName)) ∈ lw_all := lw_g (lw_at lw_m8 192 rfl) rfl
theorem q1995 : (Jvm.Cond.selects "TrunkLittersModel" ({ cls := "TrunkLittersModel", name := "alike", desc := "(II)I" } : Jvm.MethodName) ({ cls := "TrunkLittersModel", name := "alike", desc := "(II)I" } : Jvm.MethodName)) ∈ lw_all := lw_g (lw_at lw_m8 193 rfl) rfl
theorem q1996 : (Jvm.Cond.code ({ cls := "TrunkLittersModel", name := "alike", desc := "(II)I" } : Jvm.MethodName) prog_22_method_72_code (3 : Nat) (Option.some Jvm.ClassFile.FieldType.int)) ∈ lw_all := lw_g (lw_at lw_m8 194 rfl) rfl
theorem q1998 : (Jvm.Cond.instanceMethod ({ cls := "TrunkLittersModel", name := "like", desc := "(I)I" } : Jvm.MethodName)) ∈ lw_all := lw_g (lw_at lw_m8 196 rfl) rfl
theorem q1999 : (Jvm.Cond.selects "TrunkLittersModel" ({ cls := "TrunkLittersModel", name := "like", desc := "(I)I" } : Jvm.MethodName) ({ cls := "TrunkLittersModel", name := "like", desc := "(I)I" } : Jvm.MethodName)) ∈ lw_all := lw_g (lw_at lw_m8 197 rfl) rfl
theorem q2000 : (Jvm.Cond.code ({ cls := "TrunkLittersModel", name := "like", desc := "(I)I" } : Jvm.MethodName) prog_22_method_73_code (4 : Nat) (Option.some Jvm.ClassFile.FieldType.int)) ∈ lw_all := lw_g (lw_at lw_m8 198 rfl) rfl
theorem q2001 : (Jvm.Cond.methodLink "TrunkLittersModel" (415 : Nat) ({ cls := "TrunkLittersModel", name := "alike", desc := "(II)I" } : Jvm.MethodName)) ∈ lw_all := lw_g (lw_at lw_m8 199 rfl) rfl
theorem q2003 : (Jvm.Cond.instanceMethod ({ cls := "TrunkLittersModel", name := "odd", desc := "()I" } : Jvm.MethodName)) ∈ lw_all := lw_g (lw_at lw_m8 201 rfl) rfl
theorem q2004 : (Jvm.Cond.selects "TrunkLittersModel" ({ cls := "TrunkLittersModel", name := "odd", desc := "()I" } : Jvm.MethodName) ({ cls := "TrunkLittersModel", name := "odd", desc := "()I" } : Jvm.MethodName)) ∈ lw_all := lw_g (lw_at lw_m8 202 rfl) rfl
theorem q2005 : (Jvm.Cond.code ({ cls := "TrunkLittersModel", name := "odd", desc := "()I" } : Jvm.MethodName) prog_22_method_75_code (3 : Nat) (Option.some Jvm.ClassFile.FieldType.int)) ∈ lw_all := lw_g (lw_at lw_m8 203 rfl) rfl
theorem q2006 : (Jvm.Cond.methodLink "TrunkLittersModel" (418 : Nat) ({ cls := "TrunkLittersModel", name := "sharesAll", desc := "(I)I" } : Jvm.MethodName)) ∈ lw_all := lw_g (lw_at lw_m8 204 rfl) rfl
theorem q2007 : (Jvm.Cond.privateMethod ({ cls := "TrunkLittersModel", name := "sharesAll", desc := "(I)I" } : Jvm.MethodName)) ∈ lw_tbl := lw_at lw_m8 205 rfl
theorem q2008 : (Jvm.Cond.instanceMethod ({ cls := "TrunkLittersModel", name := "sharesAll", desc := "(I)I" } : Jvm.MethodName)) ∈ lw_all := lw_g (lw_at lw_m8 206 rfl) rfl
theorem q2009 : (Jvm.Cond.code ({ cls := "TrunkLittersModel", name := "sharesAll", desc := "(I)I" } : Jvm.MethodName) prog_22_method_74_code (4 : Nat) (Option.some Jvm.ClassFile.FieldType.int)) ∈ lw_all := lw_g (lw_at lw_m8 207 rfl) rfl
theorem q2011 : (Jvm.Cond.instanceMethod ({ cls := "TrunkLittersModel", name := "bearers", desc := "(I)I" } : Jvm.MethodName)) ∈ lw_all := lw_g (lw_at lw_m8 209 rfl) rfl
theorem q2012 : (Jvm.Cond.selects "TrunkLittersModel" ({ cls := "TrunkLittersModel", name := "bearers", desc := "(I)I" } : Jvm.MethodName) ({ cls := "TrunkLittersModel", name := "bearers", desc := "(I)I" } : Jvm.MethodName)) ∈ lw_all := lw_g (lw_at lw_m8 210 rfl) rfl
theorem q2013 : (Jvm.Cond.code ({ cls := "TrunkLittersModel", name := "bearers", desc := "(I)I" } : Jvm.MethodName) prog_22_method_76_code (4 : Nat) (Option.some Jvm.ClassFile.FieldType.int)) ∈ lw_all := lw_g (lw_at lw_m8 211 rfl) rfl
theorem q2015 : (Jvm.Cond.instanceMethod ({ cls := "TrunkLittersModel", name := "roomiest", desc := "()I" } : Jvm.MethodName)) ∈ lw_all := lw_g (lw_at lw_m8 213 rfl) rfl
theorem q2016 : (Jvm.Cond.selects "TrunkLittersModel" ({ cls := "TrunkLittersModel", name := "roomiest", desc := "()I" } : Jvm.MethodName) ({ cls := "TrunkLittersModel", name := "roomiest", desc := "()I" } : Jvm.MethodName)) ∈ lw_all := lw_g (lw_at lw_m8 214 rfl) rfl
theorem q2017 : (Jvm.Cond.code ({ cls := "TrunkLittersModel", name := "roomiest", desc := "()I" } : Jvm.MethodName) prog_22_method_77_code (3 : Nat) (Option.some Jvm.ClassFile.FieldType.int)) ∈ lw_all := lw_g (lw_at lw_m8 215 rfl) rfl
theorem q2019 : (Jvm.Cond.instanceMethod ({ cls := "TrunkLittersModel", name := "year", desc := "()I" } : Jvm.MethodName)) ∈ lw_all := lw_g (lw_at lw_m8 217 rfl) rfl
theorem q2020 : (Jvm.Cond.selects "TrunkLittersModel" ({ cls := "TrunkLittersModel", name := "year", desc := "()I" } : Jvm.MethodName) ({ cls := "TrunkLittersModel", name := "year", desc := "()I" } : Jvm.MethodName)) ∈ lw_all := lw_g (lw_at lw_m8 218 rfl) rfl
theorem q2021 : (Jvm.Cond.code ({ cls := "TrunkLittersModel", name := "year", desc := "()I" } : Jvm.MethodName) prog_22_method_80_code (1 : Nat) (Option.some Jvm.ClassFile.FieldType.int)) ∈ lw_all := lw_g (lw_at lw_m8 219 rfl) rfl
theorem q2022 : (Jvm.Cond.methodLink "TrunkLittersModel" (421 : Nat) ({ cls := "TrunkLittersModel", name := "keepAct", desc := "()V" } : Jvm.MethodName)) ∈ lw_all := lw_g (lw_at lw_m8 220 rfl) rfl
theorem q2023 : (Jvm.Cond.privateMethod ({ cls := "TrunkLittersModel", name := "keepAct", desc := "()V" } : Jvm.MethodName)) ∈ lw_tbl := lw_at lw_m8 221 rfl
theorem q2024 : (Jvm.Cond.instanceMethod ({ cls := "TrunkLittersModel", name := "keepAct", desc := "()V" } : Jvm.MethodName)) ∈ lw_all := lw_g (lw_at lw_m8 222 rfl) rfl
theorem q2025 : (Jvm.Cond.code ({ cls := "TrunkLittersModel", name := "keepAct", desc := "()V" } : Jvm.MethodName) prog_22_method_78_code (2 : Nat) (Option.none : Option Jvm.ClassFile.FieldType)) ∈ lw_all := lw_g (lw_at lw_m8 223 rfl) rfl
theorem q2026 : (Jvm.Cond.methodLink "TrunkLittersModel" (405 : Nat) ({ cls := "TrunkLittersModel", name := "goYear", desc := "()I" } : Jvm.MethodName)) ∈ lw_all := lw_g (lw_at lw_m8 224 rfl) rfl
theorem q2027 : (Jvm.Cond.privateMethod ({ cls := "TrunkLittersModel", name := "goYear", desc := "()I" } : Jvm.MethodName)) ∈ lw_tbl := lw_at lw_m8 225 rfl
theorem q2028 : (Jvm.Cond.instanceMethod ({ cls := "TrunkLittersModel", name := "goYear", desc := "()I" } : Jvm.MethodName)) ∈ lw_all := lw_g (lw_at lw_m8 226 rfl) rfl
theorem q2029 : (Jvm.Cond.code ({ cls := "TrunkLittersModel", name := "goYear", desc := "()I" } : Jvm.MethodName) prog_22_method_64_code (3 : Nat) (Option.some Jvm.ClassFile.FieldType.int)) ∈ lw_all := lw_g (lw_at lw_m8 227 rfl) rfl
theorem q2030 : (Jvm.Cond.methodLink "TrunkLittersModel" (396 : Nat) ({ cls := "TrunkLittersModel", name := "listen", desc := "(I)V" } : Jvm.MethodName)) ∈ lw_all := lw_g (lw_at lw_m8 228 rfl) rfl
theorem q2031 : (Jvm.Cond.privateMethod ({ cls := "TrunkLittersModel", name := "listen", desc := "(I)V" } : Jvm.MethodName)) ∈ lw_tbl := lw_at lw_m8 229 rfl
theorem q2032 : (Jvm.Cond.instanceMethod ({ cls := "TrunkLittersModel", name := "listen", desc := "(I)V" } : Jvm.MethodName)) ∈ lw_all := lw_g (lw_at lw_m8 230 rfl) rfl
theorem q2033 : (Jvm.Cond.code ({ cls := "TrunkLittersModel", name := "listen", desc := "(I)V" } : Jvm.MethodName) prog_22_method_63_code (2 : Nat) (Option.none : Option Jvm.ClassFile.FieldType)) ∈ lw_all := lw_g (lw_at lw_m8 231 rfl) rfl
theorem q2034 : (Jvm.Cond.methodLink "TrunkLittersModel" (393 : Nat) ({ cls := "TrunkLittersModel", name := "loseOne", desc := "(I)V" } : Jvm.MethodName)) ∈ lw_all := lw_g (lw_at lw_m8 232 rfl) rfl
theorem q2035 : (Jvm.Cond.privateMethod ({ cls := "TrunkLittersModel", name := "loseOne", desc := "(I)V" } : Jvm.MethodName)) ∈ lw_tbl := lw_at lw_m8 233 rfl
theorem q2036 : (Jvm.Cond.instanceMethod ({ cls := "TrunkLittersModel", name := "loseOne", desc := "(I)V" } : Jvm.MethodName)) ∈ lw_all := lw_g (lw_at lw_m8 234 rfl) rfl
theorem q2037 : (Jvm.Cond.code ({ cls := "TrunkLittersModel", name := "loseOne", desc := "(I)V" } : Jvm.MethodName) prog_22_method_53_code (3 : Nat) (Option.none : Option Jvm.ClassFile.FieldType)) ∈ lw_all := lw_g (lw_at lw_m8 235 rfl) rfl
theorem q2038 : (Jvm.Cond.methodLink "TrunkLittersModel" (402 : Nat) ({ cls := "TrunkLittersModel", name := "bringForth", desc := "(I)V" } : Jvm.MethodName)) ∈ lw_all := lw_g (lw_at lw_m8 236 rfl) rfl
theorem q2039 : (Jvm.Cond.privateMethod ({ cls := "TrunkLittersModel", name := "bringForth", desc := "(I)V" } : Jvm.MethodName)) ∈ lw_tbl := lw_at lw_m8 237 rfl
theorem q2040 : (Jvm.Cond.instanceMethod ({ cls := "TrunkLittersModel", name := "bringForth", desc := "(I)V" } : Jvm.MethodName)) ∈ lw_all := lw_g (lw_at lw_m8 238 rfl) rfl
theorem q2041 : (Jvm.Cond.code ({ cls := "TrunkLittersModel", name := "bringForth", desc := "(I)V" } : Jvm.MethodName) prog_22_method_62_code (8 : Nat) (Option.none : Option Jvm.ClassFile.FieldType)) ∈ lw_all := lw_g (lw_at lw_m8 239 rfl) rfl
theorem q2043 : (Jvm.Cond.instanceMethod ({ cls := "TrunkLittersModel", name := "carry", desc := "(II)I" } : Jvm.MethodName)) ∈ lw_all := lw_g (lw_at lw_m9 1 rfl) rfl
theorem q2044 : (Jvm.Cond.selects "TrunkLittersModel" ({ cls := "TrunkLittersModel", name := "carry", desc := "(II)I" } : Jvm.MethodName) ({ cls := "TrunkLittersModel", name := "carry", desc := "(II)I" } : Jvm.MethodName)) ∈ lw_all := lw_g (lw_at lw_m9 2 rfl) rfl
theorem q2045 : (Jvm.Cond.code ({ cls := "TrunkLittersModel", name := "carry", desc := "(II)I" } : Jvm.MethodName) prog_22_method_82_code (4 : Nat) (Option.some Jvm.ClassFile.FieldType.int)) ∈ lw_all := lw_g (lw_at lw_m9 3 rfl) rfl
theorem q2046 : (Jvm.Cond.methodLink "TrunkLittersModel" (424 : Nat) ({ cls := "TrunkLittersModel", name := "canCarry", desc := "(II)Z" } : Jvm.MethodName)) ∈ lw_all := lw_g (lw_at lw_m9 4 rfl) rfl
theorem q2047 : (Jvm.Cond.privateMethod ({ cls := "TrunkLittersModel", name := "canCarry", desc := "(II)Z" } : Jvm.MethodName)) ∈ lw_tbl := lw_at lw_m9 5 rfl
theorem q2048 : (Jvm.Cond.instanceMethod ({ cls := "TrunkLittersModel", name := "canCarry", desc := "(II)Z" } : Jvm.MethodName)) ∈ lw_all := lw_g (lw_at lw_m9 6 rfl) rfl
theorem q2049 : (Jvm.Cond.code ({ cls := "TrunkLittersModel", name := "canCarry", desc := "(II)Z" } : Jvm.MethodName) prog_22_method_81_code (3 : Nat) (Option.some Jvm.ClassFile.FieldType.boolean)) ∈ lw_all := lw_g (lw_at lw_m9 7 rfl) rfl
theorem q2051 : (Jvm.Cond.instanceMethod ({ cls := "TrunkLittersModel", name := "tell", desc := "(I)I" } : Jvm.MethodName)) ∈ lw_all := lw_g (lw_at lw_m9 9 rfl) rfl
theorem q2052 : (Jvm.Cond.selects "TrunkLittersModel" ({ cls := "TrunkLittersModel", name := "tell", desc := "(I)I" } : Jvm.MethodName) ({ cls := "TrunkLittersModel", name := "tell", desc := "(I)I" } : Jvm.MethodName)) ∈ lw_all := lw_g (lw_at lw_m9 10 rfl) rfl
theorem q2053 : (Jvm.Cond.code ({ cls := "TrunkLittersModel", name := "tell", desc := "(I)I" } : Jvm.MethodName) prog_22_method_83_code (2 : Nat) (Option.some Jvm.ClassFile.FieldType.int)) ∈ lw_all := lw_g (lw_at lw_m9 11 rfl) rfl
theorem q2055 : (Jvm.Cond.instanceMethod ({ cls := "TrunkLittersModel", name := "lose", desc := "(I)I" } : Jvm.MethodName)) ∈ lw_all := lw_g (lw_at lw_m9 13 rfl) rfl
theorem q2056 : (Jvm.Cond.selects "TrunkLittersModel" ({ cls := "TrunkLittersModel", name := "lose", desc := "(I)I" } : Jvm.MethodName) ({ cls := "TrunkLittersModel", name := "lose", desc := "(I)I" } : Jvm.MethodName)) ∈ lw_all := lw_g (lw_at lw_m9 14 rfl) rfl
theorem q2057 : (Jvm.Cond.code ({ cls := "TrunkLittersModel", name := "lose", desc := "(I)I" } : Jvm.MethodName) prog_22_method_84_code (3 : Nat) (Option.some Jvm.ClassFile.FieldType.int)) ∈ lw_all := lw_g (lw_at lw_m9 15 rfl) rfl
theorem q2059 : (Jvm.Cond.instanceMethod ({ cls := "TrunkLittersModel", name := "undo", desc := "()Z" } : Jvm.MethodName)) ∈ lw_all := lw_g (lw_at lw_m9 17 rfl) rfl
theorem q2060 : (Jvm.Cond.selects "TrunkLittersModel" ({ cls := "TrunkLittersModel", name := "undo", desc := "()Z" } : Jvm.MethodName) ({ cls := "TrunkLittersModel", name := "undo", desc := "()Z" } : Jvm.MethodName)) ∈ lw_all := lw_g (lw_at lw_m9 18 rfl) rfl
theorem q2061 : (Jvm.Cond.code ({ cls := "TrunkLittersModel", name := "undo", desc := "()Z" } : Jvm.MethodName) prog_22_method_85_code (1 : Nat) (Option.some Jvm.ClassFile.FieldType.boolean)) ∈ lw_all := lw_g (lw_at lw_m9 19 rfl) rfl
theorem q2062 : (Jvm.Cond.methodLink "TrunkLittersModel" (427 : Nat) ({ cls := "TrunkLittersModel", name := "swapAll", desc := "()V" } : Jvm.MethodName)) ∈ lw_all := lw_g (lw_at lw_m9 20 rfl) rfl
theorem q2063 : (Jvm.Cond.privateMethod ({ cls := "TrunkLittersModel", name := "swapAll", desc := "()V" } : Jvm.MethodName)) ∈ lw_tbl := lw_at lw_m9 21 rfl
theorem q2064 : (Jvm.Cond.instanceMethod ({ cls := "TrunkLittersModel", name := "swapAll", desc := "()V" } : Jvm.MethodName)) ∈ lw_all := lw_g (lw_at lw_m9 22 rfl) rfl
theorem q2065 : (Jvm.Cond.code ({ cls := "TrunkLittersModel", name := "swapAll", desc := "()V" } : Jvm.MethodName) prog_22_method_79_code (3 : Nat) (Option.none : Option Jvm.ClassFile.FieldType)) ∈ lw_all := lw_g (lw_at lw_m9 23 rfl) rfl
theorem q2067 : (Jvm.Cond.instanceMethod ({ cls := "TrunkLittersModel", name := "redo", desc := "()Z" } : Jvm.MethodName)) ∈ lw_all := lw_g (lw_at lw_m9 25 rfl) rfl
theorem q2068 : (Jvm.Cond.selects "TrunkLittersModel" ({ cls := "TrunkLittersModel", name := "redo", desc := "()Z" } : Jvm.MethodName) ({ cls := "TrunkLittersModel", name := "redo", desc := "()Z" } : Jvm.MethodName)) ∈ lw_all := lw_g (lw_at lw_m9 26 rfl) rfl
theorem q2069 : (Jvm.Cond.code ({ cls := "TrunkLittersModel", name := "redo", desc := "()Z" } : Jvm.MethodName) prog_22_method_86_code (1 : Nat) (Option.some Jvm.ClassFile.FieldType.boolean)) ∈ lw_all := lw_g (lw_at lw_m9 27 rfl) rfl
theorem q2071 : (Jvm.Cond.instanceMethod ({ cls := "TrunkLittersModel", name := "will", desc := "(III)I" } : Jvm.MethodName)) ∈ lw_all := lw_g (lw_at lw_m9 29 rfl) rfl
theorem q2072 : (Jvm.Cond.selects "TrunkLittersModel" ({ cls := "TrunkLittersModel", name := "will", desc := "(III)I" } : Jvm.MethodName) ({ cls := "TrunkLittersModel", name := "will", desc := "(III)I" } : Jvm.MethodName)) ∈ lw_all := lw_g (lw_at lw_m9 30 rfl) rfl
theorem q2073 : (Jvm.Cond.code ({ cls := "TrunkLittersModel", name := "will", desc := "(III)I" } : Jvm.MethodName) prog_22_method_87_code (6 : Nat) (Option.some Jvm.ClassFile.FieldType.int)) ∈ lw_all := lw_g (lw_at lw_m9 31 rfl) rfl
theorem q2074 : (Jvm.Cond.methodLink "TrunkLittersModel" (430 : Nat) ({ cls := "TrunkLittersModel", name := "keepNow", desc := "()V" } : Jvm.MethodName)) ∈ lw_all := lw_g (lw_at lw_m9 32 rfl) rfl
theorem q2075 : (Jvm.Cond.privateMethod ({ cls := "TrunkLittersModel", name := "keepNow", desc := "()V" } : Jvm.MethodName)) ∈ lw_tbl := lw_at lw_m9 33 rfl
theorem q2076 : (Jvm.Cond.instanceMethod ({ cls := "TrunkLittersModel", name := "keepNow", desc := "()V" } : Jvm.MethodName)) ∈ lw_all := lw_g (lw_at lw_m9 34 rfl) rfl
theorem q2077 : (Jvm.Cond.code ({ cls := "TrunkLittersModel", name := "keepNow", desc := "()V" } : Jvm.MethodName) prog_22_method_54_code (2 : Nat) (Option.none : Option Jvm.ClassFile.FieldType)) ∈ lw_all := lw_g (lw_at lw_m9 35 rfl) rfl
theorem q2078 : (Jvm.Cond.methodLink "TrunkLittersModel" (433 : Nat) ({ cls := "TrunkLittersModel", name := "goYears", desc := "(I)I" } : Jvm.MethodName)) ∈ lw_all := lw_g (lw_at lw_m9 36 rfl) rfl
theorem q2079 : (Jvm.Cond.privateMethod ({ cls := "TrunkLittersModel", name := "goYears", desc := "(I)I" } : Jvm.MethodName)) ∈ lw_tbl := lw_at lw_m9 37 rfl
theorem q2080 : (Jvm.Cond.instanceMethod ({ cls := "TrunkLittersModel", name := "goYears", desc := "(I)I" } : Jvm.MethodName)) ∈ lw_all := lw_g (lw_at lw_m9 38 rfl) rfl
theorem q2081 : (Jvm.Cond.code ({ cls := "TrunkLittersModel", name := "goYears", desc := "(I)I" } : Jvm.MethodName) prog_22_method_65_code (4 : Nat) (Option.some Jvm.ClassFile.FieldType.int)) ∈ lw_all := lw_g (lw_at lw_m9 39 rfl) rfl
theorem q2082 : (Jvm.Cond.methodLink "TrunkLittersModel" (436 : Nat) ({ cls := "TrunkLittersModel", name := "bringBack", desc := "()V" } : Jvm.MethodName)) ∈ lw_all := lw_g (lw_at lw_m9 40 rfl) rfl
theorem q2083 : (Jvm.Cond.privateMethod ({ cls := "TrunkLittersModel", name := "bringBack", desc := "()V" } : Jvm.MethodName)) ∈ lw_tbl := lw_at lw_m9 41 rfl
theorem q2084 : (Jvm.Cond.instanceMethod ({ cls := "TrunkLittersModel", name := "bringBack", desc := "()V" } : Jvm.MethodName)) ∈ lw_all := lw_g (lw_at lw_m9 42 rfl) rfl
theorem q2085 : (Jvm.Cond.code ({ cls := "TrunkLittersModel", name := "bringBack", desc := "()V" } : Jvm.MethodName) prog_22_method_55_code (2 : Nat) (Option.none : Option Jvm.ClassFile.FieldType)) ∈ lw_all := lw_g (lw_at lw_m9 43 rfl) rfl
theorem q2087 : (Jvm.Cond.instanceMethod ({ cls := "TrunkLittersModel", name := "alive", desc := "(I)I" } : Jvm.MethodName)) ∈ lw_all := lw_g (lw_at lw_m9 45 rfl) rfl
theorem q2088 : (Jvm.Cond.selects "TrunkLittersModel" ({ cls := "TrunkLittersModel", name := "alive", desc := "(I)I" } : Jvm.MethodName) ({ cls := "TrunkLittersModel", name := "alive", desc := "(I)I" } : Jvm.MethodName)) ∈ lw_all := lw_g (lw_at lw_m9 46 rfl) rfl
theorem q2089 : (Jvm.Cond.code ({ cls := "TrunkLittersModel", name := "alive", desc := "(I)I" } : Jvm.MethodName) prog_22_method_88_code (4 : Nat) (Option.some Jvm.ClassFile.FieldType.int)) ∈ lw_all := lw_g (lw_at lw_m9 47 rfl) rfl
theorem q2091 : (Jvm.Cond.instanceMethod ({ cls := "TrunkLittersModel", name := "fading", desc := "(I)I" } : Jvm.MethodName)) ∈ lw_all := lw_g (lw_at lw_m9 49 rfl) rfl
theorem q2092 : (Jvm.Cond.selects "TrunkLittersModel" ({ cls := "TrunkLittersModel", name := "fading", desc := "(I)I" } : Jvm.MethodName) ({ cls := "TrunkLittersModel", name := "fading", desc := "(I)I" } : Jvm.MethodName)) ∈ lw_all := lw_g (lw_at lw_m9 50 rfl) rfl
theorem q2093 : (Jvm.Cond.code ({ cls := "TrunkLittersModel", name := "fading", desc := "(I)I" } : Jvm.MethodName) prog_22_method_89_code (5 : Nat) (Option.some Jvm.ClassFile.FieldType.int)) ∈ lw_all := lw_g (lw_at lw_m9 51 rfl) rfl
theorem q2094 : (Jvm.Cond.methodLink "TrunkLittersModel" (439 : Nat) ({ cls := "TrunkLittersModel", name := "marksAll", desc := "()I" } : Jvm.MethodName)) ∈ lw_all := lw_g (lw_at lw_m9 52 rfl) rfl
theorem q2095 : (Jvm.Cond.privateMethod ({ cls := "TrunkLittersModel", name := "marksAll", desc := "()I" } : Jvm.MethodName)) ∈ lw_tbl := lw_at lw_m9 53 rfl
theorem q2096 : (Jvm.Cond.instanceMethod ({ cls := "TrunkLittersModel", name := "marksAll", desc := "()I" } : Jvm.MethodName)) ∈ lw_all := lw_g (lw_at lw_m9 54 rfl) rfl
theorem q2097 : (Jvm.Cond.code ({ cls := "TrunkLittersModel", name := "marksAll", desc := "()I" } : Jvm.MethodName) prog_22_method_50_code (3 : Nat) (Option.some Jvm.ClassFile.FieldType.int)) ∈ lw_all := lw_g (lw_at lw_m9 55 rfl) rfl
theorem q2099 : (Jvm.Cond.instanceMethod ({ cls := "TrunkLittersModel", name := "law", desc := "(II)I" } : Jvm.MethodName)) ∈ lw_all := lw_g (lw_at lw_m9 57 rfl) rfl
theorem q2100 : (Jvm.Cond.selects "TrunkLittersModel" ({ cls := "TrunkLittersModel", name := "law", desc := "(II)I" } : Jvm.MethodName) ({ cls := "TrunkLittersModel", name := "law", desc := "(II)I" } : Jvm.MethodName)) ∈ lw_all := lw_g (lw_at lw_m9 58 rfl) rfl
theorem q2101 : (Jvm.Cond.code ({ cls := "TrunkLittersModel", name := "law", desc := "(II)I" } : Jvm.MethodName) prog_22_method_90_code (5 : Nat) (Option.some Jvm.ClassFile.FieldType.int)) ∈ lw_all := lw_g (lw_at lw_m9 59 rfl) rfl
theorem q2103 : (Jvm.Cond.instanceMethod ({ cls := "TrunkLittersModel", name := "gone", desc := "(I)I" } : Jvm.MethodName)) ∈ lw_all := lw_g (lw_at lw_m9 61 rfl) rfl
theorem q2104 : (Jvm.Cond.selects "TrunkLittersModel" ({ cls := "TrunkLittersModel", name := "gone", desc := "(I)I" } : Jvm.MethodName) ({ cls := "TrunkLittersModel", name := "gone", desc := "(I)I" } : Jvm.MethodName)) ∈ lw_all := lw_g (lw_at lw_m9 62 rfl) rfl
theorem q2105 : (Jvm.Cond.code ({ cls := "TrunkLittersModel", name := "gone", desc := "(I)I" } : Jvm.MethodName) prog_22_method_91_code (5 : Nat) (Option.some Jvm.ClassFile.FieldType.int)) ∈ lw_all := lw_g (lw_at lw_m9 63 rfl) rfl
theorem q2107 : (Jvm.Cond.instanceMethod ({ cls := "TrunkLittersModel", name := "need", desc := "(I)I" } : Jvm.MethodName)) ∈ lw_all := lw_g (lw_at lw_m9 65 rfl) rfl
theorem q2108 : (Jvm.Cond.selects "TrunkLittersModel" ({ cls := "TrunkLittersModel", name := "need", desc := "(I)I" } : Jvm.MethodName) ({ cls := "TrunkLittersModel", name := "need", desc := "(I)I" } : Jvm.MethodName)) ∈ lw_all := lw_g (lw_at lw_m9 66 rfl) rfl
theorem q2109 : (Jvm.Cond.code ({ cls := "TrunkLittersModel", name := "need", desc := "(I)I" } : Jvm.MethodName) prog_22_method_92_code (4 : Nat) (Option.some Jvm.ClassFile.FieldType.int)) ∈ lw_all := lw_g (lw_at lw_m9 67 rfl) rfl
theorem q2111 : (Jvm.Cond.instanceMethod ({ cls := "TrunkLittersModel", name := "best", desc := "(II)I" } : Jvm.MethodName)) ∈ lw_all := lw_g (lw_at lw_m9 69 rfl) rfl
theorem q2112 : (Jvm.Cond.selects "TrunkLittersModel" ({ cls := "TrunkLittersModel", name := "best", desc := "(II)I" } : Jvm.MethodName) ({ cls := "TrunkLittersModel", name := "best", desc := "(II)I" } : Jvm.MethodName)) ∈ lw_all := lw_g (lw_at lw_m9 70 rfl) rfl
theorem q2113 : (Jvm.Cond.code ({ cls := "TrunkLittersModel", name := "best", desc := "(II)I" } : Jvm.MethodName) prog_22_method_93_code (8 : Nat) (Option.some Jvm.ClassFile.FieldType.int)) ∈ lw_all := lw_g (lw_at lw_m9 71 rfl) rfl
theorem q2115 : (Jvm.Cond.instanceMethod ({ cls := "TrunkLittersModel", name := "lies", desc := "(I)I" } : Jvm.MethodName)) ∈ lw_all := lw_g (lw_at lw_m9 73 rfl) rfl
theorem q2116 : (Jvm.Cond.selects "TrunkLittersModel" ({ cls := "TrunkLittersModel", name := "lies", desc := "(I)I" } : Jvm.MethodName) ({ cls := "TrunkLittersModel", name := "lies", desc := "(I)I" } : Jvm.MethodName)) ∈ lw_all := lw_g (lw_at lw_m9 74 rfl) rfl
theorem q2117 : (Jvm.Cond.code ({ cls := "TrunkLittersModel", name := "lies", desc := "(I)I" } : Jvm.MethodName) prog_22_method_94_code (2 : Nat) (Option.some Jvm.ClassFile.FieldType.int)) ∈ lw_all := lw_g (lw_at lw_m9 75 rfl) rfl
theorem q2119 : (Jvm.Cond.instanceMethod ({ cls := "TrunkLittersModel", name := "pack", desc := "()I" } : Jvm.MethodName)) ∈ lw_all := lw_g (lw_at lw_m9 77 rfl) rfl
theorem q2120 : (Jvm.Cond.selects "TrunkLittersModel" ({ cls := "TrunkLittersModel", name := "pack", desc := "()I" } : Jvm.MethodName) ({ cls := "TrunkLittersModel", name := "pack", desc := "()I" } : Jvm.MethodName)) ∈ lw_all := lw_g (lw_at lw_m9 78 rfl) rfl
theorem q2121 : (Jvm.Cond.code ({ cls := "TrunkLittersModel", name := "pack", desc := "()I" } : Jvm.MethodName) prog_22_method_97_code (6 : Nat) (Option.some Jvm.ClassFile.FieldType.int)) ∈ lw_all := lw_g (lw_at lw_m9 79 rfl) rfl
theorem q2122 : (Jvm.Cond.constant "TrunkLittersModel" (445 : Nat) (65536 : Int32)) ∈ lw_all := lw_g (lw_at lw_m9 80 rfl) rfl
theorem q2123 : (Jvm.Cond.methodLink "TrunkLittersModel" (446 : Nat) ({ cls := "TrunkLittersModel", name := "roomsIn", desc := "(I)I" } : Jvm.MethodName)) ∈ lw_all := lw_g (lw_at lw_m9 81 rfl) rfl
theorem q2124 : (Jvm.Cond.privateMethod ({ cls := "TrunkLittersModel", name := "roomsIn", desc := "(I)I" } : Jvm.MethodName)) ∈ lw_tbl := lw_at lw_m9 82 rfl
theorem q2125 : (Jvm.Cond.instanceMethod ({ cls := "TrunkLittersModel", name := "roomsIn", desc := "(I)I" } : Jvm.MethodName)) ∈ lw_all := lw_g (lw_at lw_m9 83 rfl) rfl
theorem q2126 : (Jvm.Cond.code ({ cls := "TrunkLittersModel", name := "roomsIn", desc := "(I)I" } : Jvm.MethodName) prog_22_method_96_code (7 : Nat) (Option.some Jvm.ClassFile.FieldType.int)) ∈ lw_all := lw_g (lw_at lw_m9 84 rfl) rfl
theorem q2127 : (Jvm.Cond.methodLink "TrunkLittersModel" (442 : Nat) ({ cls := "TrunkLittersModel", name := "twoBits", desc := "(II)I" } : Jvm.MethodName)) ∈ lw_all := lw_g (lw_at lw_m9 85 rfl) rfl
theorem q2128 : (Jvm.Cond.static ({ cls := "TrunkLittersModel", name := "twoBits", desc := "(II)I" } : Jvm.MethodName)) ∈ lw_all := lw_g (lw_at lw_m9 86 rfl) rfl
theorem q2129 : (Jvm.Cond.code ({ cls := "TrunkLittersModel", name := "twoBits", desc := "(II)I" } : Jvm.MethodName) prog_22_method_95_code (2 : Nat) (Option.some Jvm.ClassFile.FieldType.int)) ∈ lw_all := lw_g (lw_at lw_m9 87 rfl) rfl
theorem q2131 : (Jvm.Cond.instanceMethod ({ cls := "TrunkLittersModel", name := "fill", desc := "(II)I" } : Jvm.MethodName)) ∈ lw_all := lw_g (lw_at lw_m9 89 rfl) rfl
theorem q2132 : (Jvm.Cond.selects "TrunkLittersModel" ({ cls := "TrunkLittersModel", name := "fill", desc := "(II)I" } : Jvm.MethodName) ({ cls := "TrunkLittersModel", name := "fill", desc := "(II)I" } : Jvm.MethodName)) ∈ lw_all := lw_g (lw_at lw_m9 90 rfl) rfl
theorem q2133 : (Jvm.Cond.code ({ cls := "TrunkLittersModel", name := "fill", desc := "(II)I" } : Jvm.MethodName) prog_22_method_98_code (6 : Nat) (Option.some Jvm.ClassFile.FieldType.int)) ∈ lw_all := lw_g (lw_at lw_m9 91 rfl) rfl
theorem q2135 : (Jvm.Cond.instanceMethod ({ cls := "TrunkLittersModel", name := "rivals", desc := "(II)I" } : Jvm.MethodName)) ∈ lw_all := lw_g (lw_at lw_m9 93 rfl) rfl
theorem q2136 : (Jvm.Cond.selects "TrunkLittersModel" ({ cls := "TrunkLittersModel", name := "rivals", desc := "(II)I" } : Jvm.MethodName) ({ cls := "TrunkLittersModel", name := "rivals", desc := "(II)I" } : Jvm.MethodName)) ∈ lw_all := lw_g (lw_at lw_m9 94 rfl) rfl
theorem q2137 : (Jvm.Cond.code ({ cls := "TrunkLittersModel", name := "rivals", desc := "(II)I" } : Jvm.MethodName) prog_22_method_103_code (7 : Nat) (Option.some Jvm.ClassFile.FieldType.int)) ∈ lw_all := lw_g (lw_at lw_m9 95 rfl) rfl
theorem q2138 : (Jvm.Cond.methodLink "TrunkLittersModel" (452 : Nat) ({ cls := "TrunkLittersModel", name := "canChoose", desc := "(III)Z" } : Jvm.MethodName)) ∈ lw_all := lw_g (lw_at lw_m9 96 rfl) rfl
theorem q2139 : (Jvm.Cond.privateMethod ({ cls := "TrunkLittersModel", name := "canChoose", desc := "(III)Z" } : Jvm.MethodName)) ∈ lw_tbl := lw_at lw_m9 97 rfl
theorem q2140 : (Jvm.Cond.instanceMethod ({ cls := "TrunkLittersModel", name := "canChoose", desc := "(III)Z" } : Jvm.MethodName)) ∈ lw_all := lw_g (lw_at lw_m9 98 rfl) rfl
theorem q2141 : (Jvm.Cond.code ({ cls := "TrunkLittersModel", name := "canChoose", desc := "(III)Z" } : Jvm.MethodName) prog_22_method_101_code (4 : Nat) (Option.some Jvm.ClassFile.FieldType.boolean)) ∈ lw_all := lw_g (lw_at lw_m9 99 rfl) rfl
theorem q2142 : (Jvm.Cond.methodLink "TrunkLittersModel" (449 : Nat) ({ cls := "TrunkLittersModel", name := "leftBut", desc := "(III)I" } : Jvm.MethodName)) ∈ lw_all := lw_g (lw_at lw_m9 100 rfl) rfl
theorem q2143 : (Jvm.Cond.privateMethod ({ cls := "TrunkLittersModel", name := "leftBut", desc := "(III)I" } : Jvm.MethodName)) ∈ lw_tbl := lw_at lw_m9 101 rfl
theorem q2144 : (Jvm.Cond.instanceMethod ({ cls := "TrunkLittersModel", name := "leftBut", desc := "(III)I" } : Jvm.MethodName)) ∈ lw_all := lw_g (lw_at lw_m9 102 rfl) rfl
theorem q2145 : (Jvm.Cond.code ({ cls := "TrunkLittersModel", name := "leftBut", desc := "(III)I" } : Jvm.MethodName) prog_22_method_99_code (4 : Nat) (Option.some Jvm.ClassFile.FieldType.int)) ∈ lw_all := lw_g (lw_at lw_m9 103 rfl) rfl
theorem q2146 : (Jvm.Cond.methodLink "TrunkLittersModel" (459 : Nat) ({ cls := "TrunkLittersModel", name := "isRest", desc := "(IIII)Z" } : Jvm.MethodName)) ∈ lw_all := lw_g (lw_at lw_m9 104 rfl) rfl
theorem q2147 : (Jvm.Cond.privateMethod ({ cls := "TrunkLittersModel", name := "isRest", desc := "(IIII)Z" } : Jvm.MethodName)) ∈ lw_tbl := lw_at lw_m9 105 rfl
theorem q2148 : (Jvm.Cond.instanceMethod ({ cls := "TrunkLittersModel", name := "isRest", desc := "(IIII)Z" } : Jvm.MethodName)) ∈ lw_all := lw_g (lw_at lw_m9 106 rfl) rfl
theorem q2149 : (Jvm.Cond.code ({ cls := "TrunkLittersModel", name := "isRest", desc := "(IIII)Z" } : Jvm.MethodName) prog_22_method_102_code (6 : Nat) (Option.some Jvm.ClassFile.FieldType.boolean)) ∈ lw_all := lw_g (lw_at lw_m9 107 rfl) rfl
theorem q2150 : (Jvm.Cond.methodLink "TrunkLittersModel" (455 : Nat) ({ cls := "TrunkLittersModel", name := "gainOf", desc := "(IIII)I" } : Jvm.MethodName)) ∈ lw_all := lw_g (lw_at lw_m9 108 rfl) rfl
theorem q2151 : (Jvm.Cond.privateMethod ({ cls := "TrunkLittersModel", name := "gainOf", desc := "(IIII)I" } : Jvm.MethodName)) ∈ lw_tbl := lw_at lw_m9 109 rfl
theorem q2152 : (Jvm.Cond.instanceMethod ({ cls := "TrunkLittersModel", name := "gainOf", desc := "(IIII)I" } : Jvm.MethodName)) ∈ lw_all := lw_g (lw_at lw_m9 110 rfl) rfl
theorem q2153 : (Jvm.Cond.code ({ cls := "TrunkLittersModel", name := "gainOf", desc := "(IIII)I" } : Jvm.MethodName) prog_22_method_100_code (6 : Nat) (Option.some Jvm.ClassFile.FieldType.int)) ∈ lw_all := lw_g (lw_at lw_m9 111 rfl) rfl
theorem q2155 : (Jvm.Cond.instanceMethod ({ cls := "TrunkLittersModel", name := "sires", desc := "(II)I" } : Jvm.MethodName)) ∈ lw_all := lw_g (lw_at lw_m9 113 rfl) rfl
theorem q2156 : (Jvm.Cond.selects "TrunkLittersModel" ({ cls := "TrunkLittersModel", name := "sires", desc := "(II)I" } : Jvm.MethodName) ({ cls := "TrunkLittersModel", name := "sires", desc := "(II)I" } : Jvm.MethodName)) ∈ lw_all := lw_g (lw_at lw_m9 114 rfl) rfl
theorem q2157 : (Jvm.Cond.code ({ cls := "TrunkLittersModel", name := "sires", desc := "(II)I" } : Jvm.MethodName) prog_22_method_104_code (9 : Nat) (Option.some Jvm.ClassFile.FieldType.int)) ∈ lw_all := lw_g (lw_at lw_m9 115 rfl) rfl
theorem q2159 : (Jvm.Cond.instanceMethod ({ cls := "TrunkLittersModel", name := "quartet", desc := "(IIIII)I" } : Jvm.MethodName)) ∈ lw_all := lw_g (lw_at lw_m9 117 rfl) rfl
theorem q2160 : (Jvm.Cond.selects "TrunkLittersModel" ({ cls := "TrunkLittersModel", name := "quartet", desc := "(IIIII)I" } : Jvm.MethodName) ({ cls := "TrunkLittersModel", name := "quartet", desc := "(IIIII)I" } : Jvm.MethodName)) ∈ lw_all := lw_g (lw_at lw_m9 118 rfl) rfl
theorem q2161 : (Jvm.Cond.code ({ cls := "TrunkLittersModel", name := "quartet", desc := "(IIIII)I" } : Jvm.MethodName) prog_22_method_106_code (10 : Nat) (Option.some Jvm.ClassFile.FieldType.int)) ∈ lw_all := lw_g (lw_at lw_m9 119 rfl) rfl
theorem q2162 : (Jvm.Cond.methodLink "TrunkLittersModel" (463 : Nat) ({ cls := "TrunkLittersModel", name := "changesOf", desc := "(IIII)I" } : Jvm.MethodName)) ∈ lw_all := lw_g (lw_at lw_m9 120 rfl) rfl
theorem q2163 : (Jvm.Cond.privateMethod ({ cls := "TrunkLittersModel", name := "changesOf", desc := "(IIII)I" } : Jvm.MethodName)) ∈ lw_tbl := lw_at lw_m9 121 rfl
theorem q2164 : (Jvm.Cond.instanceMethod ({ cls := "TrunkLittersModel", name := "changesOf", desc := "(IIII)I" } : Jvm.MethodName)) ∈ lw_all := lw_g (lw_at lw_m9 122 rfl) rfl
theorem q2165 : (Jvm.Cond.code ({ cls := "TrunkLittersModel", name := "changesOf", desc := "(IIII)I" } : Jvm.MethodName) prog_22_method_105_code (12 : Nat) (Option.some Jvm.ClassFile.FieldType.int)) ∈ lw_all := lw_g (lw_at lw_m9 123 rfl) rfl
theorem q2167 : (Jvm.Cond.instanceMethod ({ cls := "TrunkLittersModel", name := "span", desc := "()I" } : Jvm.MethodName)) ∈ lw_all := lw_g (lw_at lw_m9 125 rfl) rfl
theorem q2168 : (Jvm.Cond.selects "TrunkLittersModel" ({ cls := "TrunkLittersModel", name := "span", desc := "()I" } : Jvm.MethodName) ({ cls := "TrunkLittersModel", name := "span", desc := "()I" } : Jvm.MethodName)) ∈ lw_all := lw_g (lw_at lw_m9 126 rfl) rfl
theorem q2169 : (Jvm.Cond.code ({ cls := "TrunkLittersModel", name := "span", desc := "()I" } : Jvm.MethodName) prog_22_method_107_code (9 : Nat) (Option.some Jvm.ClassFile.FieldType.int)) ∈ lw_all := lw_g (lw_at lw_m9 127 rfl) rfl
theorem q2171 : (Jvm.Cond.instanceMethod ({ cls := "TrunkLittersModel", name := "line", desc := "(I)I" } : Jvm.MethodName)) ∈ lw_all := lw_g (lw_at lw_m9 129 rfl) rfl
theorem q2172 : (Jvm.Cond.selects "TrunkLittersModel" ({ cls := "TrunkLittersModel", name := "line", desc := "(I)I" } : Jvm.MethodName) ({ cls := "TrunkLittersModel", name := "line", desc := "(I)I" } : Jvm.MethodName)) ∈ lw_all := lw_g (lw_at lw_m9 130 rfl) rfl
theorem q2173 : (Jvm.Cond.code ({ cls := "TrunkLittersModel", name := "line", desc := "(I)I" } : Jvm.MethodName) prog_22_method_109_code (4 : Nat) (Option.some Jvm.ClassFile.FieldType.int)) ∈ lw_all := lw_g (lw_at lw_m9 131 rfl) rfl
theorem q2174 : (Jvm.Cond.methodLink "TrunkLittersModel" (466 : Nat) ({ cls := "TrunkLittersModel", name := "parentsOf", desc := "(I)I" } : Jvm.MethodName)) ∈ lw_all := lw_g (lw_at lw_m9 132 rfl) rfl
theorem q2175 : (Jvm.Cond.privateMethod ({ cls := "TrunkLittersModel", name := "parentsOf", desc := "(I)I" } : Jvm.MethodName)) ∈ lw_tbl := lw_at lw_m9 133 rfl
theorem q2176 : (Jvm.Cond.instanceMethod ({ cls := "TrunkLittersModel", name := "parentsOf", desc := "(I)I" } : Jvm.MethodName)) ∈ lw_all := lw_g (lw_at lw_m9 134 rfl) rfl
theorem q2177 : (Jvm.Cond.code ({ cls := "TrunkLittersModel", name := "parentsOf", desc := "(I)I" } : Jvm.MethodName) prog_22_method_108_code (4 : Nat) (Option.some Jvm.ClassFile.FieldType.int)) ∈ lw_all := lw_g (lw_at lw_m9 135 rfl) rfl
theorem q2179 : (Jvm.Cond.instanceMethod ({ cls := "TrunkLittersModel", name := "litter", desc := "(I)I" } : Jvm.MethodName)) ∈ lw_all := lw_g (lw_at lw_m9 137 rfl) rfl
theorem q2180 : (Jvm.Cond.selects "TrunkLittersModel" ({ cls := "TrunkLittersModel", name := "litter", desc := "(I)I" } : Jvm.MethodName) ({ cls := "TrunkLittersModel", name := "litter", desc := "(I)I" } : Jvm.MethodName)) ∈ lw_all := lw_g (lw_at lw_m9 138 rfl) rfl
theorem q2181 : (Jvm.Cond.code ({ cls := "TrunkLittersModel", name := "litter", desc := "(I)I" } : Jvm.MethodName) prog_22_method_110_code (4 : Nat) (Option.some Jvm.ClassFile.FieldType.int)) ∈ lw_all := lw_g (lw_at lw_m9 139 rfl) rfl
theorem q2183 : (Jvm.Cond.instanceMethod ({ cls := "TrunkLittersModel", name := "kin", desc := "(II)I" } : Jvm.MethodName)) ∈ lw_all := lw_g (lw_at lw_m9 141 rfl) rfl
theorem q2184 : (Jvm.Cond.selects "TrunkLittersModel" ({ cls := "TrunkLittersModel", name := "kin", desc := "(II)I" } : Jvm.MethodName) ({ cls := "TrunkLittersModel", name := "kin", desc := "(II)I" } : Jvm.MethodName)) ∈ lw_all := lw_g (lw_at lw_m9 142 rfl) rfl
theorem q2185 : (Jvm.Cond.code ({ cls := "TrunkLittersModel", name := "kin", desc := "(II)I" } : Jvm.MethodName) prog_22_method_112_code (6 : Nat) (Option.some Jvm.ClassFile.FieldType.int)) ∈ lw_all := lw_g (lw_at lw_m9 143 rfl) rfl
theorem q2186 : (Jvm.Cond.methodLink "TrunkLittersModel" (469 : Nat) ({ cls := "TrunkLittersModel", name := "stepsUp", desc := "(II)I" } : Jvm.MethodName)) ∈ lw_all := lw_g (lw_at lw_m9 144 rfl) rfl
theorem q2187 : (Jvm.Cond.privateMethod ({ cls := "TrunkLittersModel", name := "stepsUp", desc := "(II)I" } : Jvm.MethodName)) ∈ lw_tbl := lw_at lw_m9 145 rfl
theorem q2188 : (Jvm.Cond.instanceMethod ({ cls := "TrunkLittersModel", name := "stepsUp", desc := "(II)I" } : Jvm.MethodName)) ∈ lw_all := lw_g (lw_at lw_m9 146 rfl) rfl
theorem q2189 : (Jvm.Cond.code ({ cls := "TrunkLittersModel", name := "stepsUp", desc := "(II)I" } : Jvm.MethodName) prog_22_method_111_code (5 : Nat) (Option.some Jvm.ClassFile.FieldType.int)) ∈ lw_all := lw_g (lw_at lw_m9 147 rfl) rfl
theorem q2191 : (Jvm.Cond.instanceMethod ({ cls := "TrunkLittersModel", name := "held", desc := "(IIZ)I" } : Jvm.MethodName)) ∈ lw_all := lw_g (lw_at lw_m9 149 rfl) rfl
theorem q2192 : (Jvm.Cond.selects "TrunkLittersModel" ({ cls := "TrunkLittersModel", name := "held", desc := "(IIZ)I" } : Jvm.MethodName) ({ cls := "TrunkLittersModel", name := "held", desc := "(IIZ)I" } : Jvm.MethodName)) ∈ lw_all := lw_g (lw_at lw_m9 150 rfl) rfl
theorem q2193 : (Jvm.Cond.code ({ cls := "TrunkLittersModel", name := "held", desc := "(IIZ)I" } : Jvm.MethodName) prog_22_method_115_code (4 : Nat) (Option.some Jvm.ClassFile.FieldType.int)) ∈ lw_all := lw_g (lw_at lw_m9 151 rfl) rfl
theorem q2194 : (Jvm.Cond.methodLink "TrunkLittersModel" (472 : Nat) ({ cls := "TrunkLittersModel", name := "isOther", desc := "(I)Z" } : Jvm.MethodName)) ∈ lw_all := lw_g (lw_at lw_m9 152 rfl) rfl
theorem q2195 : (Jvm.Cond.privateMethod ({ cls := "TrunkLittersModel", name := "isOther", desc := "(I)Z" } : Jvm.MethodName)) ∈ lw_tbl := lw_at lw_m9 153 rfl
theorem q2196 : (Jvm.Cond.instanceMethod ({ cls := "TrunkLittersModel", name := "isOther", desc := "(I)Z" } : Jvm.MethodName)) ∈ lw_all := lw_g (lw_at lw_m9 154 rfl) rfl
theorem q2197 : (Jvm.Cond.code ({ cls := "TrunkLittersModel", name := "isOther", desc := "(I)Z" } : Jvm.MethodName) prog_22_method_113_code (2 : Nat) (Option.some Jvm.ClassFile.FieldType.boolean)) ∈ lw_all := lw_g (lw_at lw_m9 155 rfl) rfl
theorem q2199 : (Jvm.Cond.instanceMethod ({ cls := "TrunkLittersModel", name := "untell", desc := "(I)Z" } : Jvm.MethodName)) ∈ lw_all := lw_g (lw_at lw_m9 157 rfl) rfl
theorem q2200 : (Jvm.Cond.selects "TrunkLittersModel" ({ cls := "TrunkLittersModel", name := "untell", desc := "(I)Z" } : Jvm.MethodName) ({ cls := "TrunkLittersModel", name := "untell", desc := "(I)Z" } : Jvm.MethodName)) ∈ lw_all := lw_g (lw_at lw_m9 158 rfl) rfl
theorem q2201 : (Jvm.Cond.code ({ cls := "TrunkLittersModel", name := "untell", desc := "(I)Z" } : Jvm.MethodName) prog_22_method_116_code (2 : Nat) (Option.some Jvm.ClassFile.FieldType.boolean)) ∈ lw_all := lw_g (lw_at lw_m9 159 rfl) rfl
theorem q2203 : (Jvm.Cond.instanceMethod ({ cls := "TrunkLittersModel", name := "later", desc := "(I)I" } : Jvm.MethodName)) ∈ lw_all := lw_g (lw_at lw_m9 161 rfl) rfl
theorem q2204 : (Jvm.Cond.selects "TrunkLittersModel" ({ cls := "TrunkLittersModel", name := "later", desc := "(I)I" } : Jvm.MethodName) ({ cls := "TrunkLittersModel", name := "later", desc := "(I)I" } : Jvm.MethodName)) ∈ lw_all := lw_g (lw_at lw_m9 162 rfl) rfl
theorem q2205 : (Jvm.Cond.code ({ cls := "TrunkLittersModel", name := "later", desc := "(I)I" } : Jvm.MethodName) prog_22_method_117_code (2 : Nat) (Option.some Jvm.ClassFile.FieldType.int)) ∈ lw_all := lw_g (lw_at lw_m9 163 rfl) rfl
theorem q2206 : (Jvm.Cond.constant "TrunkLittersModel" (478 : Nat) (100000 : Int32)) ∈ lw_all := lw_g (lw_at lw_m9 164 rfl) rfl
theorem q2208 : (Jvm.Cond.instanceMethod ({ cls := "TrunkLittersModel", name := "fits", desc := "(I)I" } : Jvm.MethodName)) ∈ lw_all := lw_g (lw_at lw_m9 166 rfl) rfl
theorem q2209 : (Jvm.Cond.selects "TrunkLittersModel" ({ cls := "TrunkLittersModel", name := "fits", desc := "(I)I" } : Jvm.MethodName) ({ cls := "TrunkLittersModel", name := "fits", desc := "(I)I" } : Jvm.MethodName)) ∈ lw_all := lw_g (lw_at lw_m9 167 rfl) rfl
theorem q2210 : (Jvm.Cond.code ({ cls := "TrunkLittersModel", name := "fits", desc := "(I)I" } : Jvm.MethodName) prog_22_method_119_code (3 : Nat) (Option.some Jvm.ClassFile.FieldType.int)) ∈ lw_all := lw_g (lw_at lw_m9 168 rfl) rfl
theorem q2211 : (Jvm.Cond.methodLink "TrunkLittersModel" (485 : Nat) ({ cls := "TrunkLittersModel", name := "doesFit", desc := "(II)Z" } : Jvm.MethodName)) ∈ lw_all := lw_g (lw_at lw_m9 169 rfl) rfl
theorem q2212 : (Jvm.Cond.privateMethod ({ cls := "TrunkLittersModel", name := "doesFit", desc := "(II)Z" } : Jvm.MethodName)) ∈ lw_tbl := lw_at lw_m9 170 rfl
theorem q2213 : (Jvm.Cond.instanceMethod ({ cls := "TrunkLittersModel", name := "doesFit", desc := "(II)Z" } : Jvm.MethodName)) ∈ lw_all := lw_g (lw_at lw_m9 171 rfl) rfl
theorem q2214 : (Jvm.Cond.code ({ cls := "TrunkLittersModel", name := "doesFit", desc := "(II)Z" } : Jvm.MethodName) prog_22_method_118_code (5 : Nat) (Option.some Jvm.ClassFile.FieldType.boolean)) ∈ lw_all := lw_g (lw_at lw_m9 172 rfl) rfl
theorem q2215 : (Jvm.Cond.methodLink "TrunkLittersModel" (479 : Nat) ({ cls := "TrunkLittersModel", name := "sharedIf", desc := "(II)I" } : Jvm.MethodName)) ∈ lw_all := lw_g (lw_at lw_m9 173 rfl) rfl
theorem q2216 : (Jvm.Cond.privateMethod ({ cls := "TrunkLittersModel", name := "sharedIf", desc := "(II)I" } : Jvm.MethodName)) ∈ lw_tbl := lw_at lw_m9 174 rfl
theorem q2217 : (Jvm.Cond.instanceMethod ({ cls := "TrunkLittersModel", name := "sharedIf", desc := "(II)I" } : Jvm.MethodName)) ∈ lw_all := lw_g (lw_at lw_m9 175 rfl) rfl
theorem q2218 : (Jvm.Cond.code ({ cls := "TrunkLittersModel", name := "sharedIf", desc := "(II)I" } : Jvm.MethodName) prog_22_method_114_code (3 : Nat) (Option.some Jvm.ClassFile.FieldType.int)) ∈ lw_all := lw_g (lw_at lw_m9 176 rfl) rfl
theorem q2220 : (Jvm.Cond.instanceMethod ({ cls := "TrunkLittersModel", name := "sure", desc := "(II)I" } : Jvm.MethodName)) ∈ lw_all := lw_g (lw_at lw_m9 178 rfl) rfl
theorem q2221 : (Jvm.Cond.selects "TrunkLittersModel" ({ cls := "TrunkLittersModel", name := "sure", desc := "(II)I" } : Jvm.MethodName) ({ cls := "TrunkLittersModel", name := "sure", desc := "(II)I" } : Jvm.MethodName)) ∈ lw_all := lw_g (lw_at lw_m9 179 rfl) rfl
theorem q2222 : (Jvm.Cond.code ({ cls := "TrunkLittersModel", name := "sure", desc := "(II)I" } : Jvm.MethodName) prog_22_method_120_code (6 : Nat) (Option.some Jvm.ClassFile.FieldType.int)) ∈ lw_all := lw_g (lw_at lw_m9 180 rfl) rfl
theorem q2223 : (Jvm.Cond.methodLink "TrunkLittersModel" (488 : Nat) ({ cls := "TrunkLittersModel", name := "fits", desc := "(I)I" } : Jvm.MethodName)) ∈ lw_all := lw_g (lw_at lw_m9 181 rfl) rfl
theorem q2225 : (Jvm.Cond.instanceMethod ({ cls := "TrunkLittersModel", name := "ask", desc := "(II)I" } : Jvm.MethodName)) ∈ lw_all := lw_g (lw_at lw_m9 183 rfl) rfl
theorem q2226 : (Jvm.Cond.selects "TrunkLittersModel" ({ cls := "TrunkLittersModel", name := "ask", desc := "(II)I" } : Jvm.MethodName) ({ cls := "TrunkLittersModel", name := "ask", desc := "(II)I" } : Jvm.MethodName)) ∈ lw_all := lw_g (lw_at lw_m9 184 rfl) rfl
theorem q2227 : (Jvm.Cond.code ({ cls := "TrunkLittersModel", name := "ask", desc := "(II)I" } : Jvm.MethodName) prog_22_method_122_code (6 : Nat) (Option.some Jvm.ClassFile.FieldType.int)) ∈ lw_all := lw_g (lw_at lw_m9 185 rfl) rfl
theorem q2228 : (Jvm.Cond.methodLink "TrunkLittersModel" (491 : Nat) ({ cls := "TrunkLittersModel", name := "mostBy", desc := "(I)I" } : Jvm.MethodName)) ∈ lw_all := lw_g (lw_at lw_m9 186 rfl) rfl
theorem q2229 : (Jvm.Cond.privateMethod ({ cls := "TrunkLittersModel", name := "mostBy", desc := "(I)I" } : Jvm.MethodName)) ∈ lw_tbl := lw_at lw_m9 187 rfl
theorem q2230 : (Jvm.Cond.instanceMethod ({ cls := "TrunkLittersModel", name := "mostBy", desc := "(I)I" } : Jvm.MethodName)) ∈ lw_all := lw_g (lw_at lw_m9 188 rfl) rfl
theorem q2231 : (Jvm.Cond.code ({ cls := "TrunkLittersModel", name := "mostBy", desc := "(I)I" } : Jvm.MethodName) prog_22_method_121_code (5 : Nat) (Option.some Jvm.ClassFile.FieldType.int)) ∈ lw_all := lw_g (lw_at lw_m9 189 rfl) rfl
theorem q2233 : (Jvm.Cond.instanceMethod ({ cls := "TrunkLittersModel", name := "image", desc := "(I)I" } : Jvm.MethodName)) ∈ lw_all := lw_g (lw_at lw_m9 191 rfl) rfl
theorem q2234 : (Jvm.Cond.selects "TrunkLittersModel" ({ cls := "TrunkLittersModel", name := "image", desc := "(I)I" } : Jvm.MethodName) ({ cls := "TrunkLittersModel", name := "image", desc := "(I)I" } : Jvm.MethodName)) ∈ lw_all := lw_g (lw_at lw_m9 192 rfl) rfl
theorem q2235 : (Jvm.Cond.code ({ cls := "TrunkLittersModel", name := "image", desc := "(I)I" } : Jvm.MethodName) prog_22_method_123_code (3 : Nat) (Option.some Jvm.ClassFile.FieldType.int)) ∈ lw_all := lw_g (lw_at lw_m9 193 rfl) rfl
theorem q2237 : (Jvm.Cond.instanceMethod ({ cls := "TrunkLittersModel", name := "back", desc := "(I)I" } : Jvm.MethodName)) ∈ lw_all := lw_g (lw_at lw_m9 195 rfl) rfl
theorem q2238 : (Jvm.Cond.selects "TrunkLittersModel" ({ cls := "TrunkLittersModel", name := "back", desc := "(I)I" } : Jvm.MethodName) ({ cls := "TrunkLittersModel", name := "back", desc := "(I)I" } : Jvm.MethodName)) ∈ lw_all := lw_g (lw_at lw_m9 196 rfl) rfl
theorem q2239 : (Jvm.Cond.code ({ cls := "TrunkLittersModel", name := "back", desc := "(I)I" } : Jvm.MethodName) prog_22_method_124_code (3 : Nat) (Option.some Jvm.ClassFile.FieldType.int)) ∈ lw_all := lw_g (lw_at lw_m9 197 rfl) rfl
theorem q2241 : (Jvm.Cond.instanceMethod ({ cls := "TrunkLittersModel", name := "about", desc := "(I)I" } : Jvm.MethodName)) ∈ lw_all := lw_g (lw_at lw_m9 199 rfl) rfl
theorem q2242 : (Jvm.Cond.selects "TrunkLittersModel" ({ cls := "TrunkLittersModel", name := "about", desc := "(I)I" } : Jvm.MethodName) ({ cls := "TrunkLittersModel", name := "about", desc := "(I)I" } : Jvm.MethodName)) ∈ lw_all := lw_g (lw_at lw_m9 200 rfl) rfl
theorem q2243 : (Jvm.Cond.code ({ cls := "TrunkLittersModel", name := "about", desc := "(I)I" } : Jvm.MethodName) prog_22_method_125_code (2 : Nat) (Option.some Jvm.ClassFile.FieldType.int)) ∈ lw_all := lw_g (lw_at lw_m9 201 rfl) rfl
theorem q2245 : (Jvm.Cond.instanceMethod ({ cls := "TrunkLittersModel", name := "feed", desc := "(IIIII)I" } : Jvm.MethodName)) ∈ lw_all := lw_g (lw_at lw_m9 203 rfl) rfl
theorem q2246 : (Jvm.Cond.selects "TrunkLittersModel" ({ cls := "TrunkLittersModel", name := "feed", desc := "(IIIII)I" } : Jvm.MethodName) ({ cls := "TrunkLittersModel", name := "feed", desc := "(IIIII)I" } : Jvm.MethodName)) ∈ lw_all := lw_g (lw_at lw_m9 204 rfl) rfl
theorem q2247 : (Jvm.Cond.code ({ cls := "TrunkLittersModel", name := "feed", desc := "(IIIII)I" } : Jvm.MethodName) prog_22_method_126_code (8 : Nat) (Option.some Jvm.ClassFile.FieldType.int)) ∈ lw_all := lw_g (lw_at lw_m9 205 rfl) rfl
theorem q2249 : (Jvm.Cond.instanceMethod ({ cls := "TrunkLittersModel", name := "end", desc := "(I)I" } : Jvm.MethodName)) ∈ lw_all := lw_g (lw_at lw_m9 207 rfl) rfl
theorem q2250 : (Jvm.Cond.selects "TrunkLittersModel" ({ cls := "TrunkLittersModel", name := "end", desc := "(I)I" } : Jvm.MethodName) ({ cls := "TrunkLittersModel", name := "end", desc := "(I)I" } : Jvm.MethodName)) ∈ lw_all := lw_g (lw_at lw_m9 208 rfl) rfl
theorem q2251 : (Jvm.Cond.code ({ cls := "TrunkLittersModel", name := "end", desc := "(I)I" } : Jvm.MethodName) prog_22_method_127_code (2 : Nat) (Option.some Jvm.ClassFile.FieldType.int)) ∈ lw_all := lw_g (lw_at lw_m9 209 rfl) rfl
theorem q2265 : (Jvm.Cond.castable "TrunkLittersModel" "java/lang/Object") ∈ lw_tbl := lw_at lw_m9 223 rfl
theorem in_X4 : ∀ w ∈ wsX40, w ∈ lw_all := lw_in wsX40 [1625, 1627, 1629, 1631, 1633, 1635, 1637, 1639, 1641, 1643, 1645, 1647, 1649, 1651, 1653, 1655, 1657, 1659, 1661, 1663, 1665, 1667, 1669, 1671, 1673, 1675, 1677, 1679, 1681, 1683, 1685, 1687, 1689, 1691, 1693, 1695, 1697, 1699, 1701, 1703, 1705, 1707, 1709, 1711, 1713, 1715, 1717, 1719, 1721, 1723, 1725, 1727, 1729, 1731, 1733, 1735, 1737, 1739, 1741, 1743] (by decide +kernel) (by decide +kernel)
