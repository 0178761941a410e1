/-! java/util/AbstractCollection -/
set_option maxRecDepth 100000
def RJ0 : String := "java/util/AbstractCollection"
abbrev cJ0_init : ByteArray := prog_43_method_1_code
def yJ0_init : MethodName := ⟨RJ0, "<init>", "()V"⟩
theorem dJ0_init_0 : decode cJ0_init 0 = .ok (.aload_n 0, 1) := by decide +kernel
theorem dJ0_init_1 : decode cJ0_init 1 = .ok (.invokespecial 1, 3) := by decide +kernel
theorem dJ0_init_4 : decode cJ0_init 4 = .ok (.return_, 1) := by decide +kernel
theorem q125 : (Jvm.Cond.initialized "java/util/AbstractCollection") ∈ lw_all := lw_g (lw_at lw_m1 3 rfl) rfl
theorem q179 : (Jvm.Cond.instanceMethod ({ cls := "java/util/AbstractCollection", name := "<init>", desc := "()V" } : Jvm.MethodName)) ∈ lw_all := lw_g (lw_at lw_m1 57 rfl) rfl
theorem q180 : (Jvm.Cond.code ({ cls := "java/util/AbstractCollection", name := "<init>", desc := "()V" } : Jvm.MethodName) prog_43_method_1_code (1 : Nat) (Option.none : Option Jvm.ClassFile.FieldType)) ∈ lw_all := lw_g (lw_at lw_m1 58 rfl) rfl
theorem q181 : (Jvm.Cond.methodLink "java/util/AbstractCollection" (1 : Nat) ({ cls := "java/lang/Object", name := "<init>", desc := "()V" } : Jvm.MethodName)) ∈ lw_all := lw_g (lw_at lw_m1 59 rfl) rfl

/-! java/util/AbstractList -/
set_option maxRecDepth 100000
def RJ1 : String := "java/util/AbstractList"
abbrev cJ1_init : ByteArray := prog_44_method_1_code
def yJ1_init : MethodName := ⟨RJ1, "<init>", "()V"⟩
def dkwJ1_init_0 : List UInt8 := [42, 183, 0, 1, 42, 3, 181, 0, 7, 177]
abbrev dktJ1_init_0 : List UInt8 := dkwJ1_init_0 ++ []
theorem dksJ1_init_0 : cJ1_init.data.toList.drop 0 = dktJ1_init_0 := by decide +kernel
theorem dJ1_init_0 : decode cJ1_init 0 = .ok (.aload_n 0, 1) := dk_42 (dk_at dksJ1_init_0 0 rfl rfl)
theorem dJ1_init_1 : decode cJ1_init 1 = .ok (.invokespecial 1, 3) := dk_183 0 1 (dk_at dksJ1_init_0 1 rfl rfl)
theorem dJ1_init_4 : decode cJ1_init 4 = .ok (.aload_n 0, 1) := dk_42 (dk_at dksJ1_init_0 4 rfl rfl)
theorem dJ1_init_5 : decode cJ1_init 5 = .ok (.iconst 0, 1) := dk_3 (dk_at dksJ1_init_0 5 rfl rfl)
theorem dJ1_init_6 : decode cJ1_init 6 = .ok (.putfield 7, 3) := dk_181 0 7 (dk_at dksJ1_init_0 6 rfl rfl)
theorem dJ1_init_9 : decode cJ1_init 9 = .ok (.return_, 1) := dk_177 (dk_at dksJ1_init_0 9 rfl rfl)
theorem q126 : (Jvm.Cond.initialized "java/util/AbstractList") ∈ lw_all := lw_g (lw_at lw_m1 4 rfl) rfl
theorem q176 : (Jvm.Cond.instanceMethod ({ cls := "java/util/AbstractList", name := "<init>", desc := "()V" } : Jvm.MethodName)) ∈ lw_all := lw_g (lw_at lw_m1 54 rfl) rfl
theorem q177 : (Jvm.Cond.code ({ cls := "java/util/AbstractList", name := "<init>", desc := "()V" } : Jvm.MethodName) prog_44_method_1_code (1 : Nat) (Option.none : Option Jvm.ClassFile.FieldType)) ∈ lw_all := lw_g (lw_at lw_m1 55 rfl) rfl
theorem q178 : (Jvm.Cond.methodLink "java/util/AbstractList" (1 : Nat) ({ cls := "java/util/AbstractCollection", name := "<init>", desc := "()V" } : Jvm.MethodName)) ∈ lw_all := lw_g (lw_at lw_m1 56 rfl) rfl
theorem q188 : (Jvm.Cond.fieldLink "java/util/AbstractList" (7 : Nat) "java/util/AbstractList" "modCount" "I") ∈ lw_all := lw_g (lw_at lw_m1 66 rfl) rfl
theorem q196 : (Jvm.Cond.soleField "java/util/AbstractList" "modCount") ∈ lw_all := lw_g (lw_at lw_m1 74 rfl) rfl

/-! java/lang/Math -/
set_option maxRecDepth 100000
def RJ10 : String := "java/lang/Math"
abbrev cJ10_max : ByteArray := prog_33_method_65_code
def yJ10_max : MethodName := ⟨RJ10, "max", "(II)I"⟩
def dkwJ10_max_0 : List UInt8 := [26, 27, 161, 0, 7, 26, 167, 0, 4, 27, 172]
abbrev dktJ10_max_0 : List UInt8 := dkwJ10_max_0 ++ []
theorem dksJ10_max_0 : cJ10_max.data.toList.drop 0 = dktJ10_max_0 := by decide +kernel
theorem dJ10_max_0 : decode cJ10_max 0 = .ok (.iload_n 0, 1) := dk_26 (dk_at dksJ10_max_0 0 rfl rfl)
theorem dJ10_max_1 : decode cJ10_max 1 = .ok (.iload_n 1, 1) := dk_27 (dk_at dksJ10_max_0 1 rfl rfl)
theorem dJ10_max_2 : decode cJ10_max 2 = .ok (.if_icmp .lt 7, 3) := dk_161 0 7 (dk_at dksJ10_max_0 2 rfl rfl)
theorem dJ10_max_5 : decode cJ10_max 5 = .ok (.iload_n 0, 1) := dk_26 (dk_at dksJ10_max_0 5 rfl rfl)
theorem dJ10_max_6 : decode cJ10_max 6 = .ok (.goto 4, 3) := dk_167 0 4 (dk_at dksJ10_max_0 6 rfl rfl)
theorem dJ10_max_9 : decode cJ10_max 9 = .ok (.iload_n 1, 1) := dk_27 (dk_at dksJ10_max_0 9 rfl rfl)
theorem dJ10_max_10 : decode cJ10_max 10 = .ok (.ireturn, 1) := dk_172 (dk_at dksJ10_max_0 10 rfl rfl)
abbrev cJ10_min : ByteArray := prog_33_method_69_code
def yJ10_min : MethodName := ⟨RJ10, "min", "(II)I"⟩
def dkwJ10_min_0 : List UInt8 := [26, 27, 163, 0, 7, 26, 167, 0, 4, 27, 172]
abbrev dktJ10_min_0 : List UInt8 := dkwJ10_min_0 ++ []
theorem dksJ10_min_0 : cJ10_min.data.toList.drop 0 = dktJ10_min_0 := by decide +kernel
theorem dJ10_min_0 : decode cJ10_min 0 = .ok (.iload_n 0, 1) := dk_26 (dk_at dksJ10_min_0 0 rfl rfl)
theorem dJ10_min_1 : decode cJ10_min 1 = .ok (.iload_n 1, 1) := dk_27 (dk_at dksJ10_min_0 1 rfl rfl)
theorem dJ10_min_2 : decode cJ10_min 2 = .ok (.if_icmp .gt 7, 3) := dk_163 0 7 (dk_at dksJ10_min_0 2 rfl rfl)
theorem dJ10_min_5 : decode cJ10_min 5 = .ok (.iload_n 0, 1) := dk_26 (dk_at dksJ10_min_0 5 rfl rfl)
theorem dJ10_min_6 : decode cJ10_min 6 = .ok (.goto 4, 3) := dk_167 0 4 (dk_at dksJ10_min_0 6 rfl rfl)
theorem dJ10_min_9 : decode cJ10_min 9 = .ok (.iload_n 1, 1) := dk_27 (dk_at dksJ10_min_0 9 rfl rfl)
theorem dJ10_min_10 : decode cJ10_min 10 = .ok (.ireturn, 1) := dk_172 (dk_at dksJ10_min_0 10 rfl rfl)
theorem q139 : (Jvm.Cond.initialized "java/lang/Math") ∈ lw_all := lw_g (lw_at lw_m1 17 rfl) rfl
theorem q572 : (Jvm.Cond.static ({ cls := "java/lang/Math", name := "max", desc := "(II)I" } : Jvm.MethodName)) ∈ lw_all := lw_g (lw_at lw_m2 210 rfl) rfl
theorem q573 : (Jvm.Cond.code ({ cls := "java/lang/Math", name := "max", desc := "(II)I" } : Jvm.MethodName) prog_33_method_65_code (2 : Nat) (Option.some Jvm.ClassFile.FieldType.int)) ∈ lw_all := lw_g (lw_at lw_m2 211 rfl) rfl
theorem q590 : (Jvm.Cond.static ({ cls := "java/lang/Math", name := "min", desc := "(II)I" } : Jvm.MethodName)) ∈ lw_all := lw_g (lw_at lw_m2 228 rfl) rfl
theorem q591 : (Jvm.Cond.code ({ cls := "java/lang/Math", name := "min", desc := "(II)I" } : Jvm.MethodName) prog_33_method_69_code (2 : Nat) (Option.some Jvm.ClassFile.FieldType.int)) ∈ lw_all := lw_g (lw_at lw_m2 229 rfl) rfl

/-! java/util/Arrays -/
set_option maxRecDepth 100000
def RJ11 : String := "java/util/Arrays"
abbrev cJ11_copyOf : ByteArray := prog_46_method_121_code
def yJ11_copyOf : MethodName := ⟨RJ11, "copyOf", "([BI)[B"⟩
def dkwJ11_copyOf_1 : List UInt8 := [27, 184, 1, 48, 184, 0, 150, 44, 176]
abbrev dktJ11_copyOf_1 : List UInt8 := dkwJ11_copyOf_1 ++ []
def dkwJ11_copyOf_0 : List UInt8 := [27, 42, 190, 160, 0, 11, 42, 182, 1, 54, 192, 1, 55, 176, 27, 188, 8, 77, 42, 3, 44, 3, 42, 190]
abbrev dktJ11_copyOf_0 : List UInt8 := dkwJ11_copyOf_0 ++ dktJ11_copyOf_1
theorem dksJ11_copyOf_0 : cJ11_copyOf.data.toList.drop 0 = dktJ11_copyOf_0 := by decide +kernel
theorem dksJ11_copyOf_1 : cJ11_copyOf.data.toList.drop 24 = dktJ11_copyOf_1 := dk_seg dksJ11_copyOf_0 24 rfl rfl
theorem dJ11_copyOf_0 : decode cJ11_copyOf 0 = .ok (.iload_n 1, 1) := dk_27 (dk_at dksJ11_copyOf_0 0 rfl rfl)
theorem dJ11_copyOf_1 : decode cJ11_copyOf 1 = .ok (.aload_n 0, 1) := dk_42 (dk_at dksJ11_copyOf_0 1 rfl rfl)
theorem dJ11_copyOf_2 : decode cJ11_copyOf 2 = .ok (.arraylength, 1) := dk_190 (dk_at dksJ11_copyOf_0 2 rfl rfl)
theorem dJ11_copyOf_3 : decode cJ11_copyOf 3 = .ok (.if_icmp .ne 11, 3) := dk_160 0 11 (dk_at dksJ11_copyOf_0 3 rfl rfl)
theorem dJ11_copyOf_6 : decode cJ11_copyOf 6 = .ok (.aload_n 0, 1) := dk_42 (dk_at dksJ11_copyOf_0 6 rfl rfl)
theorem dJ11_copyOf_7 : decode cJ11_copyOf 7 = .ok (.invokevirtual 310, 3) := dk_182 1 54 (dk_at dksJ11_copyOf_0 7 rfl rfl)
theorem dJ11_copyOf_10 : decode cJ11_copyOf 10 = .ok (.checkcast 311, 3) := dk_192 1 55 (dk_at dksJ11_copyOf_0 10 rfl rfl)
theorem dJ11_copyOf_13 : decode cJ11_copyOf 13 = .ok (.areturn, 1) := dk_176 (dk_at dksJ11_copyOf_0 13 rfl rfl)
theorem dJ11_copyOf_14 : decode cJ11_copyOf 14 = .ok (.iload_n 1, 1) := dk_27 (dk_at dksJ11_copyOf_0 14 rfl rfl)
theorem dJ11_copyOf_15 : decode cJ11_copyOf 15 = .ok (.newarray .byte, 2) := dk_188_8 (dk_at dksJ11_copyOf_0 15 rfl rfl)
theorem dJ11_copyOf_17 : decode cJ11_copyOf 17 = .ok (.astore_n 2, 1) := dk_77 (dk_at dksJ11_copyOf_0 17 rfl rfl)
theorem dJ11_copyOf_18 : decode cJ11_copyOf 18 = .ok (.aload_n 0, 1) := dk_42 (dk_at dksJ11_copyOf_0 18 rfl rfl)
theorem dJ11_copyOf_19 : decode cJ11_copyOf 19 = .ok (.iconst 0, 1) := dk_3 (dk_at dksJ11_copyOf_0 19 rfl rfl)
theorem dJ11_copyOf_20 : decode cJ11_copyOf 20 = .ok (.aload_n 2, 1) := dk_44 (dk_at dksJ11_copyOf_0 20 rfl rfl)
theorem dJ11_copyOf_21 : decode cJ11_copyOf 21 = .ok (.iconst 0, 1) := dk_3 (dk_at dksJ11_copyOf_0 21 rfl rfl)
theorem dJ11_copyOf_22 : decode cJ11_copyOf 22 = .ok (.aload_n 0, 1) := dk_42 (dk_at dksJ11_copyOf_0 22 rfl rfl)
theorem dJ11_copyOf_23 : decode cJ11_copyOf 23 = .ok (.arraylength, 1) := dk_190 (dk_at dksJ11_copyOf_0 23 rfl rfl)
theorem dJ11_copyOf_24 : decode cJ11_copyOf 24 = .ok (.iload_n 1, 1) := dk_27 (dk_at dksJ11_copyOf_1 0 rfl rfl)
theorem dJ11_copyOf_25 : decode cJ11_copyOf 25 = .ok (.invokestatic 304, 3) := dk_184 1 48 (dk_at dksJ11_copyOf_1 1 rfl rfl)
theorem dJ11_copyOf_28 : decode cJ11_copyOf 28 = .ok (.invokestatic 150, 3) := dk_184 0 150 (dk_at dksJ11_copyOf_1 4 rfl rfl)
theorem dJ11_copyOf_31 : decode cJ11_copyOf 31 = .ok (.aload_n 2, 1) := dk_44 (dk_at dksJ11_copyOf_1 7 rfl rfl)
theorem dJ11_copyOf_32 : decode cJ11_copyOf 32 = .ok (.areturn, 1) := dk_176 (dk_at dksJ11_copyOf_1 8 rfl rfl)
abbrev cJ11_copyOfRange : ByteArray := prog_46_method_132_code
def yJ11_copyOfRange : MethodName := ⟨RJ11, "copyOfRange", "([BII)[B"⟩
def dkwJ11_copyOfRange_1 : List UInt8 := [176]
abbrev dktJ11_copyOfRange_1 : List UInt8 := dkwJ11_copyOfRange_1 ++ []
def dkwJ11_copyOfRange_0 : List UInt8 := [27, 154, 0, 9, 28, 42, 190, 159, 0, 10, 42, 27, 28, 184, 1, 83, 176, 42, 182, 1, 54, 192, 1, 55]
abbrev dktJ11_copyOfRange_0 : List UInt8 := dkwJ11_copyOfRange_0 ++ dktJ11_copyOfRange_1
theorem dksJ11_copyOfRange_0 : cJ11_copyOfRange.data.toList.drop 0 = dktJ11_copyOfRange_0 := by decide +kernel
theorem dksJ11_copyOfRange_1 : cJ11_copyOfRange.data.toList.drop 24 = dktJ11_copyOfRange_1 := dk_seg dksJ11_copyOfRange_0 24 rfl rfl
theorem dJ11_copyOfRange_0 : decode cJ11_copyOfRange 0 = .ok (.iload_n 1, 1) := dk_27 (dk_at dksJ11_copyOfRange_0 0 rfl rfl)
theorem dJ11_copyOfRange_1 : decode cJ11_copyOfRange 1 = .ok (.ifCond .ne 9, 3) := dk_154 0 9 (dk_at dksJ11_copyOfRange_0 1 rfl rfl)
theorem dJ11_copyOfRange_4 : decode cJ11_copyOfRange 4 = .ok (.iload_n 2, 1) := dk_28 (dk_at dksJ11_copyOfRange_0 4 rfl rfl)
theorem dJ11_copyOfRange_5 : decode cJ11_copyOfRange 5 = .ok (.aload_n 0, 1) := dk_42 (dk_at dksJ11_copyOfRange_0 5 rfl rfl)
theorem dJ11_copyOfRange_6 : decode cJ11_copyOfRange 6 = .ok (.arraylength, 1) := dk_190 (dk_at dksJ11_copyOfRange_0 6 rfl rfl)
theorem dJ11_copyOfRange_7 : decode cJ11_copyOfRange 7 = .ok (.if_icmp .eq 10, 3) := dk_159 0 10 (dk_at dksJ11_copyOfRange_0 7 rfl rfl)
theorem dJ11_copyOfRange_10 : decode cJ11_copyOfRange 10 = .ok (.aload_n 0, 1) := dk_42 (dk_at dksJ11_copyOfRange_0 10 rfl rfl)
theorem dJ11_copyOfRange_11 : decode cJ11_copyOfRange 11 = .ok (.iload_n 1, 1) := dk_27 (dk_at dksJ11_copyOfRange_0 11 rfl rfl)
theorem dJ11_copyOfRange_12 : decode cJ11_copyOfRange 12 = .ok (.iload_n 2, 1) := dk_28 (dk_at dksJ11_copyOfRange_0 12 rfl rfl)
theorem dJ11_copyOfRange_13 : decode cJ11_copyOfRange 13 = .ok (.invokestatic 339, 3) := dk_184 1 83 (dk_at dksJ11_copyOfRange_0 13 rfl rfl)
theorem dJ11_copyOfRange_16 : decode cJ11_copyOfRange 16 = .ok (.areturn, 1) := dk_176 (dk_at dksJ11_copyOfRange_0 16 rfl rfl)
theorem dJ11_copyOfRange_17 : decode cJ11_copyOfRange 17 = .ok (.aload_n 0, 1) := dk_42 (dk_at dksJ11_copyOfRange_0 17 rfl rfl)
theorem dJ11_copyOfRange_18 : decode cJ11_copyOfRange 18 = .ok (.invokevirtual 310, 3) := dk_182 1 54 (dk_at dksJ11_copyOfRange_0 18 rfl rfl)
theorem dJ11_copyOfRange_21 : decode cJ11_copyOfRange 21 = .ok (.checkcast 311, 3) := dk_192 1 55 (dk_at dksJ11_copyOfRange_0 21 rfl rfl)
theorem dJ11_copyOfRange_24 : decode cJ11_copyOfRange 24 = .ok (.areturn, 1) := dk_176 (dk_at dksJ11_copyOfRange_1 0 rfl rfl)
abbrev cJ11_copyOfRangeByte : ByteArray := prog_46_method_133_code
def yJ11_copyOfRangeByte : MethodName := ⟨RJ11, "copyOfRangeByte", "([BII)[B"⟩
def dkwJ11_copyOfRangeByte_1 : List UInt8 := [184, 1, 48, 184, 0, 150, 25, 4, 176]
abbrev dktJ11_copyOfRangeByte_1 : List UInt8 := dkwJ11_copyOfRangeByte_1 ++ []
def dkwJ11_copyOfRangeByte_0 : List UInt8 := [27, 28, 184, 1, 87, 28, 27, 100, 62, 29, 188, 8, 58, 4, 42, 27, 25, 4, 3, 42, 190, 27, 100, 29]
abbrev dktJ11_copyOfRangeByte_0 : List UInt8 := dkwJ11_copyOfRangeByte_0 ++ dktJ11_copyOfRangeByte_1
theorem dksJ11_copyOfRangeByte_0 : cJ11_copyOfRangeByte.data.toList.drop 0 = dktJ11_copyOfRangeByte_0 := by decide +kernel
theorem dksJ11_copyOfRangeByte_1 : cJ11_copyOfRangeByte.data.toList.drop 24 = dktJ11_copyOfRangeByte_1 := dk_seg dksJ11_copyOfRangeByte_0 24 rfl rfl
theorem dJ11_copyOfRangeByte_0 : decode cJ11_copyOfRangeByte 0 = .ok (.iload_n 1, 1) := dk_27 (dk_at dksJ11_copyOfRangeByte_0 0 rfl rfl)
theorem dJ11_copyOfRangeByte_1 : decode cJ11_copyOfRangeByte 1 = .ok (.iload_n 2, 1) := dk_28 (dk_at dksJ11_copyOfRangeByte_0 1 rfl rfl)
theorem dJ11_copyOfRangeByte_2 : decode cJ11_copyOfRangeByte 2 = .ok (.invokestatic 343, 3) := dk_184 1 87 (dk_at dksJ11_copyOfRangeByte_0 2 rfl rfl)
theorem dJ11_copyOfRangeByte_5 : decode cJ11_copyOfRangeByte 5 = .ok (.iload_n 2, 1) := dk_28 (dk_at dksJ11_copyOfRangeByte_0 5 rfl rfl)
theorem dJ11_copyOfRangeByte_6 : decode cJ11_copyOfRangeByte 6 = .ok (.iload_n 1, 1) := dk_27 (dk_at dksJ11_copyOfRangeByte_0 6 rfl rfl)
theorem dJ11_copyOfRangeByte_7 : decode cJ11_copyOfRangeByte 7 = .ok (.isub, 1) := dk_100 (dk_at dksJ11_copyOfRangeByte_0 7 rfl rfl)
theorem dJ11_copyOfRangeByte_8 : decode cJ11_copyOfRangeByte 8 = .ok (.istore_n 3, 1) := dk_62 (dk_at dksJ11_copyOfRangeByte_0 8 rfl rfl)
theorem dJ11_copyOfRangeByte_9 : decode cJ11_copyOfRangeByte 9 = .ok (.iload_n 3, 1) := dk_29 (dk_at dksJ11_copyOfRangeByte_0 9 rfl rfl)
theorem dJ11_copyOfRangeByte_10 : decode cJ11_copyOfRangeByte 10 = .ok (.newarray .byte, 2) := dk_188_8 (dk_at dksJ11_copyOfRangeByte_0 10 rfl rfl)
theorem dJ11_copyOfRangeByte_12 : decode cJ11_copyOfRangeByte 12 = .ok (.astore 4, 2) := dk_58 4 (dk_at dksJ11_copyOfRangeByte_0 12 rfl rfl)
theorem dJ11_copyOfRangeByte_14 : decode cJ11_copyOfRangeByte 14 = .ok (.aload_n 0, 1) := dk_42 (dk_at dksJ11_copyOfRangeByte_0 14 rfl rfl)
theorem dJ11_copyOfRangeByte_15 : decode cJ11_copyOfRangeByte 15 = .ok (.iload_n 1, 1) := dk_27 (dk_at dksJ11_copyOfRangeByte_0 15 rfl rfl)
theorem dJ11_copyOfRangeByte_16 : decode cJ11_copyOfRangeByte 16 = .ok (.aload 4, 2) := dk_25 4 (dk_at dksJ11_copyOfRangeByte_0 16 rfl rfl)
theorem dJ11_copyOfRangeByte_18 : decode cJ11_copyOfRangeByte 18 = .ok (.iconst 0, 1) := dk_3 (dk_at dksJ11_copyOfRangeByte_0 18 rfl rfl)
theorem dJ11_copyOfRangeByte_19 : decode cJ11_copyOfRangeByte 19 = .ok (.aload_n 0, 1) := dk_42 (dk_at dksJ11_copyOfRangeByte_0 19 rfl rfl)
theorem dJ11_copyOfRangeByte_20 : decode cJ11_copyOfRangeByte 20 = .ok (.arraylength, 1) := dk_190 (dk_at dksJ11_copyOfRangeByte_0 20 rfl rfl)
theorem dJ11_copyOfRangeByte_21 : decode cJ11_copyOfRangeByte 21 = .ok (.iload_n 1, 1) := dk_27 (dk_at dksJ11_copyOfRangeByte_0 21 rfl rfl)
theorem dJ11_copyOfRangeByte_22 : decode cJ11_copyOfRangeByte 22 = .ok (.isub, 1) := dk_100 (dk_at dksJ11_copyOfRangeByte_0 22 rfl rfl)
theorem dJ11_copyOfRangeByte_23 : decode cJ11_copyOfRangeByte 23 = .ok (.iload_n 3, 1) := dk_29 (dk_at dksJ11_copyOfRangeByte_0 23 rfl rfl)
theorem dJ11_copyOfRangeByte_24 : decode cJ11_copyOfRangeByte 24 = .ok (.invokestatic 304, 3) := dk_184 1 48 (dk_at dksJ11_copyOfRangeByte_1 0 rfl rfl)
theorem dJ11_copyOfRangeByte_27 : decode cJ11_copyOfRangeByte 27 = .ok (.invokestatic 150, 3) := dk_184 0 150 (dk_at dksJ11_copyOfRangeByte_1 3 rfl rfl)
theorem dJ11_copyOfRangeByte_30 : decode cJ11_copyOfRangeByte 30 = .ok (.aload 4, 2) := dk_25 4 (dk_at dksJ11_copyOfRangeByte_1 6 rfl rfl)
theorem dJ11_copyOfRangeByte_32 : decode cJ11_copyOfRangeByte 32 = .ok (.areturn, 1) := dk_176 (dk_at dksJ11_copyOfRangeByte_1 8 rfl rfl)
abbrev cJ11_checkLength : ByteArray := prog_46_method_131_code
def yJ11_checkLength : MethodName := ⟨RJ11, "checkLength", "(II)V"⟩
def dkwJ11_checkLength_1 : List UInt8 := [182, 0, 50, 27, 182, 0, 54, 182, 0, 61, 183, 0, 65, 191, 177]
abbrev dktJ11_checkLength_1 : List UInt8 := dkwJ11_checkLength_1 ++ []
def dkwJ11_checkLength_0 : List UInt8 := [27, 26, 162, 0, 35, 187, 0, 43, 89, 187, 0, 45, 89, 183, 0, 47, 26, 182, 0, 54, 19, 1, 81]
abbrev dktJ11_checkLength_0 : List UInt8 := dkwJ11_checkLength_0 ++ dktJ11_checkLength_1
theorem dksJ11_checkLength_0 : cJ11_checkLength.data.toList.drop 0 = dktJ11_checkLength_0 := by decide +kernel
theorem dksJ11_checkLength_1 : cJ11_checkLength.data.toList.drop 23 = dktJ11_checkLength_1 := dk_seg dksJ11_checkLength_0 23 rfl rfl
theorem dJ11_checkLength_0 : decode cJ11_checkLength 0 = .ok (.iload_n 1, 1) := dk_27 (dk_at dksJ11_checkLength_0 0 rfl rfl)
theorem dJ11_checkLength_1 : decode cJ11_checkLength 1 = .ok (.iload_n 0, 1) := dk_26 (dk_at dksJ11_checkLength_0 1 rfl rfl)
theorem dJ11_checkLength_2 : decode cJ11_checkLength 2 = .ok (.if_icmp .ge 35, 3) := dk_162 0 35 (dk_at dksJ11_checkLength_0 2 rfl rfl)
theorem dJ11_checkLength_5 : decode cJ11_checkLength 5 = .ok (.new 43, 3) := dk_187 0 43 (dk_at dksJ11_checkLength_0 5 rfl rfl)
theorem dJ11_checkLength_8 : decode cJ11_checkLength 8 = .ok (.dup, 1) := dk_89 (dk_at dksJ11_checkLength_0 8 rfl rfl)
theorem dJ11_checkLength_9 : decode cJ11_checkLength 9 = .ok (.new 45, 3) := dk_187 0 45 (dk_at dksJ11_checkLength_0 9 rfl rfl)
theorem dJ11_checkLength_12 : decode cJ11_checkLength 12 = .ok (.dup, 1) := dk_89 (dk_at dksJ11_checkLength_0 12 rfl rfl)
theorem dJ11_checkLength_13 : decode cJ11_checkLength 13 = .ok (.invokespecial 47, 3) := dk_183 0 47 (dk_at dksJ11_checkLength_0 13 rfl rfl)
theorem dJ11_checkLength_16 : decode cJ11_checkLength 16 = .ok (.iload_n 0, 1) := dk_26 (dk_at dksJ11_checkLength_0 16 rfl rfl)
theorem dJ11_checkLength_17 : decode cJ11_checkLength 17 = .ok (.invokevirtual 54, 3) := dk_182 0 54 (dk_at dksJ11_checkLength_0 17 rfl rfl)
theorem dJ11_checkLength_20 : decode cJ11_checkLength 20 = .ok (.ldc_w 337, 3) := dk_19 1 81 (dk_at dksJ11_checkLength_0 20 rfl rfl)
theorem dJ11_checkLength_23 : decode cJ11_checkLength 23 = .ok (.invokevirtual 50, 3) := dk_182 0 50 (dk_at dksJ11_checkLength_1 0 rfl rfl)
theorem dJ11_checkLength_26 : decode cJ11_checkLength 26 = .ok (.iload_n 1, 1) := dk_27 (dk_at dksJ11_checkLength_1 3 rfl rfl)
theorem dJ11_checkLength_27 : decode cJ11_checkLength 27 = .ok (.invokevirtual 54, 3) := dk_182 0 54 (dk_at dksJ11_checkLength_1 4 rfl rfl)
theorem dJ11_checkLength_30 : decode cJ11_checkLength 30 = .ok (.invokevirtual 61, 3) := dk_182 0 61 (dk_at dksJ11_checkLength_1 7 rfl rfl)
theorem dJ11_checkLength_33 : decode cJ11_checkLength 33 = .ok (.invokespecial 65, 3) := dk_183 0 65 (dk_at dksJ11_checkLength_1 10 rfl rfl)
theorem dJ11_checkLength_36 : decode cJ11_checkLength 36 = .ok (.athrow, 1) := dk_191 (dk_at dksJ11_checkLength_1 13 rfl rfl)
theorem dJ11_checkLength_37 : decode cJ11_checkLength 37 = .ok (.return_, 1) := dk_177 (dk_at dksJ11_checkLength_1 14 rfl rfl)
abbrev cJ11_copyOf_2 : ByteArray := prog_46_method_119_code
def yJ11_copyOf_2 : MethodName := ⟨RJ11, "copyOf", "([Ljava/lang/Object;I)[Ljava/lang/Object;"⟩
def dkwJ11_copyOf_2_0 : List UInt8 := [42, 27, 42, 182, 0, 86, 184, 1, 44, 176]
abbrev dktJ11_copyOf_2_0 : List UInt8 := dkwJ11_copyOf_2_0 ++ []
theorem dksJ11_copyOf_2_0 : cJ11_copyOf_2.data.toList.drop 0 = dktJ11_copyOf_2_0 := by decide +kernel
theorem dJ11_copyOf_2_0 : decode cJ11_copyOf_2 0 = .ok (.aload_n 0, 1) := dk_42 (dk_at dksJ11_copyOf_2_0 0 rfl rfl)
theorem dJ11_copyOf_2_1 : decode cJ11_copyOf_2 1 = .ok (.iload_n 1, 1) := dk_27 (dk_at dksJ11_copyOf_2_0 1 rfl rfl)
theorem dJ11_copyOf_2_2 : decode cJ11_copyOf_2 2 = .ok (.aload_n 0, 1) := dk_42 (dk_at dksJ11_copyOf_2_0 2 rfl rfl)
theorem dJ11_copyOf_2_3 : decode cJ11_copyOf_2 3 = .ok (.invokevirtual 86, 3) := dk_182 0 86 (dk_at dksJ11_copyOf_2_0 3 rfl rfl)
theorem dJ11_copyOf_2_6 : decode cJ11_copyOf_2 6 = .ok (.invokestatic 300, 3) := dk_184 1 44 (dk_at dksJ11_copyOf_2_0 6 rfl rfl)
theorem dJ11_copyOf_2_9 : decode cJ11_copyOf_2 9 = .ok (.areturn, 1) := dk_176 (dk_at dksJ11_copyOf_2_0 9 rfl rfl)
abbrev cJ11_copyOf_3 : ByteArray := prog_46_method_120_code
def yJ11_copyOf_3 : MethodName := ⟨RJ11, "copyOf", "([Ljava/lang/Object;ILjava/lang/Class;)[Ljava/lang/Object;"⟩
def dkwJ11_copyOf_3_1 : List UInt8 := [78, 42, 3, 45, 3, 42, 190, 27, 184, 1, 48, 184, 0, 150, 45, 176]
abbrev dktJ11_copyOf_3_1 : List UInt8 := dkwJ11_copyOf_3_1 ++ []
def dkwJ11_copyOf_3_0 : List UInt8 := [44, 18, 110, 166, 0, 10, 27, 189, 0, 2, 167, 0, 14, 44, 182, 0, 90, 27, 184, 0, 95, 192, 0, 110]
abbrev dktJ11_copyOf_3_0 : List UInt8 := dkwJ11_copyOf_3_0 ++ dktJ11_copyOf_3_1
theorem dksJ11_copyOf_3_0 : cJ11_copyOf_3.data.toList.drop 0 = dktJ11_copyOf_3_0 := by decide +kernel
theorem dksJ11_copyOf_3_1 : cJ11_copyOf_3.data.toList.drop 24 = dktJ11_copyOf_3_1 := dk_seg dksJ11_copyOf_3_0 24 rfl rfl
theorem dJ11_copyOf_3_0 : decode cJ11_copyOf_3 0 = .ok (.aload_n 2, 1) := dk_44 (dk_at dksJ11_copyOf_3_0 0 rfl rfl)
theorem dJ11_copyOf_3_1 : decode cJ11_copyOf_3 1 = .ok (.ldc 110, 2) := dk_18 110 (dk_at dksJ11_copyOf_3_0 1 rfl rfl)
theorem dJ11_copyOf_3_3 : decode cJ11_copyOf_3 3 = .ok (.if_acmp .ne 10, 3) := dk_166 0 10 (dk_at dksJ11_copyOf_3_0 3 rfl rfl)
theorem dJ11_copyOf_3_6 : decode cJ11_copyOf_3 6 = .ok (.iload_n 1, 1) := dk_27 (dk_at dksJ11_copyOf_3_0 6 rfl rfl)
theorem dJ11_copyOf_3_7 : decode cJ11_copyOf_3 7 = .ok (.anewarray 2, 3) := dk_189 0 2 (dk_at dksJ11_copyOf_3_0 7 rfl rfl)
theorem dJ11_copyOf_3_10 : decode cJ11_copyOf_3 10 = .ok (.goto 14, 3) := dk_167 0 14 (dk_at dksJ11_copyOf_3_0 10 rfl rfl)
theorem dJ11_copyOf_3_13 : decode cJ11_copyOf_3 13 = .ok (.aload_n 2, 1) := dk_44 (dk_at dksJ11_copyOf_3_0 13 rfl rfl)
theorem dJ11_copyOf_3_14 : decode cJ11_copyOf_3 14 = .ok (.invokevirtual 90, 3) := dk_182 0 90 (dk_at dksJ11_copyOf_3_0 14 rfl rfl)
theorem dJ11_copyOf_3_17 : decode cJ11_copyOf_3 17 = .ok (.iload_n 1, 1) := dk_27 (dk_at dksJ11_copyOf_3_0 17 rfl rfl)
theorem dJ11_copyOf_3_18 : decode cJ11_copyOf_3 18 = .ok (.invokestatic 95, 3) := dk_184 0 95 (dk_at dksJ11_copyOf_3_0 18 rfl rfl)
theorem dJ11_copyOf_3_21 : decode cJ11_copyOf_3 21 = .ok (.checkcast 110, 3) := dk_192 0 110 (dk_at dksJ11_copyOf_3_0 21 rfl rfl)
theorem dJ11_copyOf_3_24 : decode cJ11_copyOf_3 24 = .ok (.astore_n 3, 1) := dk_78 (dk_at dksJ11_copyOf_3_1 0 rfl rfl)
theorem dJ11_copyOf_3_25 : decode cJ11_copyOf_3 25 = .ok (.aload_n 0, 1) := dk_42 (dk_at dksJ11_copyOf_3_1 1 rfl rfl)
theorem dJ11_copyOf_3_26 : decode cJ11_copyOf_3 26 = .ok (.iconst 0, 1) := dk_3 (dk_at dksJ11_copyOf_3_1 2 rfl rfl)
theorem dJ11_copyOf_3_27 : decode cJ11_copyOf_3 27 = .ok (.aload_n 3, 1) := dk_45 (dk_at dksJ11_copyOf_3_1 3 rfl rfl)
theorem dJ11_copyOf_3_28 : decode cJ11_copyOf_3 28 = .ok (.iconst 0, 1) := dk_3 (dk_at dksJ11_copyOf_3_1 4 rfl rfl)
theorem dJ11_copyOf_3_29 : decode cJ11_copyOf_3 29 = .ok (.aload_n 0, 1) := dk_42 (dk_at dksJ11_copyOf_3_1 5 rfl rfl)
theorem dJ11_copyOf_3_30 : decode cJ11_copyOf_3 30 = .ok (.arraylength, 1) := dk_190 (dk_at dksJ11_copyOf_3_1 6 rfl rfl)
theorem dJ11_copyOf_3_31 : decode cJ11_copyOf_3 31 = .ok (.iload_n 1, 1) := dk_27 (dk_at dksJ11_copyOf_3_1 7 rfl rfl)
theorem dJ11_copyOf_3_32 : decode cJ11_copyOf_3 32 = .ok (.invokestatic 304, 3) := dk_184 1 48 (dk_at dksJ11_copyOf_3_1 8 rfl rfl)
theorem dJ11_copyOf_3_35 : decode cJ11_copyOf_3 35 = .ok (.invokestatic 150, 3) := dk_184 0 150 (dk_at dksJ11_copyOf_3_1 11 rfl rfl)
theorem dJ11_copyOf_3_38 : decode cJ11_copyOf_3 38 = .ok (.aload_n 3, 1) := dk_45 (dk_at dksJ11_copyOf_3_1 14 rfl rfl)
theorem dJ11_copyOf_3_39 : decode cJ11_copyOf_3 39 = .ok (.areturn, 1) := dk_176 (dk_at dksJ11_copyOf_3_1 15 rfl rfl)
theorem q140 : (Jvm.Cond.initialized "java/util/Arrays") ∈ lw_all := lw_g (lw_at lw_m1 18 rfl) rfl
theorem q580 : (Jvm.Cond.static ({ cls := "java/util/Arrays", name := "copyOf", desc := "([BI)[B" } : Jvm.MethodName)) ∈ lw_all := lw_g (lw_at lw_m2 218 rfl) rfl
theorem q581 : (Jvm.Cond.code ({ cls := "java/util/Arrays", name := "copyOf", desc := "([BI)[B" } : Jvm.MethodName) prog_46_method_121_code (3 : Nat) (Option.some (Jvm.ClassFile.FieldType.array Jvm.ClassFile.FieldType.byte))) ∈ lw_all := lw_g (lw_at lw_m2 219 rfl) rfl
theorem q582 : (Jvm.Cond.methodLink "java/util/Arrays" (310 : Nat) ({ cls := "[B", name := "clone", desc := "()Ljava/lang/Object;" } : Jvm.MethodName)) ∈ lw_all := lw_g (lw_at lw_m2 220 rfl) rfl
theorem q588 : (Jvm.Cond.classLink "java/util/Arrays" (311 : Nat) "[B") ∈ lw_all := lw_g (lw_at lw_m2 226 rfl) rfl
theorem q589 : (Jvm.Cond.methodLink "java/util/Arrays" (304 : Nat) ({ cls := "java/lang/Math", name := "min", desc := "(II)I" } : Jvm.MethodName)) ∈ lw_all := lw_g (lw_at lw_m2 227 rfl) rfl
theorem q592 : (Jvm.Cond.methodLink "java/util/Arrays" (150 : Nat) ({ cls := "java/lang/System", name := "arraycopy", desc := "(Ljava/lang/Object;ILjava/lang/Object;II)V" } : Jvm.MethodName)) ∈ lw_all := lw_g (lw_at lw_m2 230 rfl) rfl
theorem q674 : (Jvm.Cond.static ({ cls := "java/util/Arrays", name := "copyOfRange", desc := "([BII)[B" } : Jvm.MethodName)) ∈ lw_all := lw_g (lw_at lw_m3 72 rfl) rfl
theorem q675 : (Jvm.Cond.code ({ cls := "java/util/Arrays", name := "copyOfRange", desc := "([BII)[B" } : Jvm.MethodName) prog_46_method_132_code (3 : Nat) (Option.some (Jvm.ClassFile.FieldType.array Jvm.ClassFile.FieldType.byte))) ∈ lw_all := lw_g (lw_at lw_m3 73 rfl) rfl
theorem q676 : (Jvm.Cond.methodLink "java/util/Arrays" (339 : Nat) ({ cls := "java/util/Arrays", name := "copyOfRangeByte", desc := "([BII)[B" } : Jvm.MethodName)) ∈ lw_all := lw_g (lw_at lw_m3 74 rfl) rfl
theorem q677 : (Jvm.Cond.static ({ cls := "java/util/Arrays", name := "copyOfRangeByte", desc := "([BII)[B" } : Jvm.MethodName)) ∈ lw_all := lw_g (lw_at lw_m3 75 rfl) rfl
theorem q678 : (Jvm.Cond.code ({ cls := "java/util/Arrays", name := "copyOfRangeByte", desc := "([BII)[B" } : Jvm.MethodName) prog_46_method_133_code (5 : Nat) (Option.some (Jvm.ClassFile.FieldType.array Jvm.ClassFile.FieldType.byte))) ∈ lw_all := lw_g (lw_at lw_m3 76 rfl) rfl
theorem q679 : (Jvm.Cond.methodLink "java/util/Arrays" (343 : Nat) ({ cls := "java/util/Arrays", name := "checkLength", desc := "(II)V" } : Jvm.MethodName)) ∈ lw_all := lw_g (lw_at lw_m3 77 rfl) rfl
theorem q680 : (Jvm.Cond.static ({ cls := "java/util/Arrays", name := "checkLength", desc := "(II)V" } : Jvm.MethodName)) ∈ lw_all := lw_g (lw_at lw_m3 78 rfl) rfl
theorem q681 : (Jvm.Cond.code ({ cls := "java/util/Arrays", name := "checkLength", desc := "(II)V" } : Jvm.MethodName) prog_46_method_131_code (2 : Nat) (Option.none : Option Jvm.ClassFile.FieldType)) ∈ lw_all := lw_g (lw_at lw_m3 79 rfl) rfl
theorem q952 : (Jvm.Cond.static ({ cls := "java/util/Arrays", name := "copyOf", desc := "([Ljava/lang/Object;I)[Ljava/lang/Object;" } : Jvm.MethodName)) ∈ lw_all := lw_g (lw_at lw_m4 110 rfl) rfl
theorem q953 : (Jvm.Cond.code ({ cls := "java/util/Arrays", name := "copyOf", desc := "([Ljava/lang/Object;I)[Ljava/lang/Object;" } : Jvm.MethodName) prog_46_method_119_code (2 : Nat) (Option.some (Jvm.ClassFile.FieldType.array (Jvm.ClassFile.FieldType.object "java/lang/Object")))) ∈ lw_all := lw_g (lw_at lw_m4 111 rfl) rfl
theorem q954 : (Jvm.Cond.methodLink "java/util/Arrays" (86 : Nat) ({ cls := "java/lang/Object", name := "getClass", desc := "()Ljava/lang/Class;" } : Jvm.MethodName)) ∈ lw_all := lw_g (lw_at lw_m4 112 rfl) rfl
theorem q980 : (Jvm.Cond.methodLink "java/util/Arrays" (300 : Nat) ({ cls := "java/util/Arrays", name := "copyOf", desc := "([Ljava/lang/Object;ILjava/lang/Class;)[Ljava/lang/Object;" } : Jvm.MethodName)) ∈ lw_all := lw_g (lw_at lw_m4 138 rfl) rfl
theorem q981 : (Jvm.Cond.static ({ cls := "java/util/Arrays", name := "copyOf", desc := "([Ljava/lang/Object;ILjava/lang/Class;)[Ljava/lang/Object;" } : Jvm.MethodName)) ∈ lw_all := lw_g (lw_at lw_m4 139 rfl) rfl
theorem q982 : (Jvm.Cond.code ({ cls := "java/util/Arrays", name := "copyOf", desc := "([Ljava/lang/Object;ILjava/lang/Class;)[Ljava/lang/Object;" } : Jvm.MethodName) prog_46_method_120_code (4 : Nat) (Option.some (Jvm.ClassFile.FieldType.array (Jvm.ClassFile.FieldType.object "java/lang/Object")))) ∈ lw_all := lw_g (lw_at lw_m4 140 rfl) rfl
theorem q983 : (Jvm.Cond.classLink "java/util/Arrays" (110 : Nat) "[Ljava/lang/Object;") ∈ lw_all := lw_g (lw_at lw_m4 141 rfl) rfl
theorem q984 : (Jvm.Cond.classLink "java/util/Arrays" (2 : Nat) "java/lang/Object") ∈ lw_all := lw_g (lw_at lw_m4 142 rfl) rfl

/-! java/lang/StringLatin1 -/
set_option maxRecDepth 100000
def RJ12 : String := "java/lang/StringLatin1"
abbrev cJ12_canEncode : ByteArray := prog_36_method_3_code
def yJ12_canEncode : MethodName := ⟨RJ12, "canEncode", "(C)Z"⟩
def dkwJ12_canEncode_0 : List UInt8 := [26, 17, 0, 255, 163, 0, 7, 4, 167, 0, 4, 3, 172]
abbrev dktJ12_canEncode_0 : List UInt8 := dkwJ12_canEncode_0 ++ []
theorem dksJ12_canEncode_0 : cJ12_canEncode.data.toList.drop 0 = dktJ12_canEncode_0 := by decide +kernel
theorem dJ12_canEncode_0 : decode cJ12_canEncode 0 = .ok (.iload_n 0, 1) := dk_26 (dk_at dksJ12_canEncode_0 0 rfl rfl)
theorem dJ12_canEncode_1 : decode cJ12_canEncode 1 = .ok (.sipush 255, 3) := dk_17 0 255 (dk_at dksJ12_canEncode_0 1 rfl rfl)
theorem dJ12_canEncode_4 : decode cJ12_canEncode 4 = .ok (.if_icmp .gt 7, 3) := dk_163 0 7 (dk_at dksJ12_canEncode_0 4 rfl rfl)
theorem dJ12_canEncode_7 : decode cJ12_canEncode 7 = .ok (.iconst 1, 1) := dk_4 (dk_at dksJ12_canEncode_0 7 rfl rfl)
theorem dJ12_canEncode_8 : decode cJ12_canEncode 8 = .ok (.goto 4, 3) := dk_167 0 4 (dk_at dksJ12_canEncode_0 8 rfl rfl)
theorem dJ12_canEncode_11 : decode cJ12_canEncode 11 = .ok (.iconst 0, 1) := dk_3 (dk_at dksJ12_canEncode_0 11 rfl rfl)
theorem dJ12_canEncode_12 : decode cJ12_canEncode 12 = .ok (.ireturn, 1) := dk_172 (dk_at dksJ12_canEncode_0 12 rfl rfl)
abbrev cJ12_inflate : ByteArray := prog_36_method_50_code
def yJ12_inflate : MethodName := ⟨RJ12, "inflate", "([BI[BII)V"⟩
def dkwJ12_inflate_0 : List UInt8 := [42, 27, 44, 29, 21, 4, 184, 0, 240, 177]
abbrev dktJ12_inflate_0 : List UInt8 := dkwJ12_inflate_0 ++ []
theorem dksJ12_inflate_0 : cJ12_inflate.data.toList.drop 0 = dktJ12_inflate_0 := by decide +kernel
theorem dJ12_inflate_0 : decode cJ12_inflate 0 = .ok (.aload_n 0, 1) := dk_42 (dk_at dksJ12_inflate_0 0 rfl rfl)
theorem dJ12_inflate_1 : decode cJ12_inflate 1 = .ok (.iload_n 1, 1) := dk_27 (dk_at dksJ12_inflate_0 1 rfl rfl)
theorem dJ12_inflate_2 : decode cJ12_inflate 2 = .ok (.aload_n 2, 1) := dk_44 (dk_at dksJ12_inflate_0 2 rfl rfl)
theorem dJ12_inflate_3 : decode cJ12_inflate 3 = .ok (.iload_n 3, 1) := dk_29 (dk_at dksJ12_inflate_0 3 rfl rfl)
theorem dJ12_inflate_4 : decode cJ12_inflate 4 = .ok (.iload 4, 2) := dk_21 4 (dk_at dksJ12_inflate_0 4 rfl rfl)
theorem dJ12_inflate_6 : decode cJ12_inflate 6 = .ok (.invokestatic 240, 3) := dk_184 0 240 (dk_at dksJ12_inflate_0 6 rfl rfl)
theorem dJ12_inflate_9 : decode cJ12_inflate 9 = .ok (.return_, 1) := dk_177 (dk_at dksJ12_inflate_0 9 rfl rfl)
abbrev cJ12_equals : ByteArray := prog_36_method_13_code
def yJ12_equals : MethodName := ⟨RJ12, "equals", "([B[B)Z"⟩
def dkwJ12_equals_1 : List UInt8 := [3, 172, 132, 2, 1, 167, 255, 236, 4, 172, 3, 172]
abbrev dktJ12_equals_1 : List UInt8 := dkwJ12_equals_1 ++ []
def dkwJ12_equals_0 : List UInt8 := [42, 190, 43, 190, 160, 0, 30, 3, 61, 28, 42, 190, 162, 0, 20, 42, 28, 51, 43, 28, 51, 159, 0, 5]
abbrev dktJ12_equals_0 : List UInt8 := dkwJ12_equals_0 ++ dktJ12_equals_1
theorem dksJ12_equals_0 : cJ12_equals.data.toList.drop 0 = dktJ12_equals_0 := by decide +kernel
theorem dksJ12_equals_1 : cJ12_equals.data.toList.drop 24 = dktJ12_equals_1 := dk_seg dksJ12_equals_0 24 rfl rfl
theorem dJ12_equals_0 : decode cJ12_equals 0 = .ok (.aload_n 0, 1) := dk_42 (dk_at dksJ12_equals_0 0 rfl rfl)
theorem dJ12_equals_1 : decode cJ12_equals 1 = .ok (.arraylength, 1) := dk_190 (dk_at dksJ12_equals_0 1 rfl rfl)
theorem dJ12_equals_2 : decode cJ12_equals 2 = .ok (.aload_n 1, 1) := dk_43 (dk_at dksJ12_equals_0 2 rfl rfl)
theorem dJ12_equals_3 : decode cJ12_equals 3 = .ok (.arraylength, 1) := dk_190 (dk_at dksJ12_equals_0 3 rfl rfl)
theorem dJ12_equals_4 : decode cJ12_equals 4 = .ok (.if_icmp .ne 30, 3) := dk_160 0 30 (dk_at dksJ12_equals_0 4 rfl rfl)
theorem dJ12_equals_7 : decode cJ12_equals 7 = .ok (.iconst 0, 1) := dk_3 (dk_at dksJ12_equals_0 7 rfl rfl)
theorem dJ12_equals_8 : decode cJ12_equals 8 = .ok (.istore_n 2, 1) := dk_61 (dk_at dksJ12_equals_0 8 rfl rfl)
theorem dJ12_equals_9 : decode cJ12_equals 9 = .ok (.iload_n 2, 1) := dk_28 (dk_at dksJ12_equals_0 9 rfl rfl)
theorem dJ12_equals_10 : decode cJ12_equals 10 = .ok (.aload_n 0, 1) := dk_42 (dk_at dksJ12_equals_0 10 rfl rfl)
theorem dJ12_equals_11 : decode cJ12_equals 11 = .ok (.arraylength, 1) := dk_190 (dk_at dksJ12_equals_0 11 rfl rfl)
theorem dJ12_equals_12 : decode cJ12_equals 12 = .ok (.if_icmp .ge 20, 3) := dk_162 0 20 (dk_at dksJ12_equals_0 12 rfl rfl)
theorem dJ12_equals_15 : decode cJ12_equals 15 = .ok (.aload_n 0, 1) := dk_42 (dk_at dksJ12_equals_0 15 rfl rfl)
theorem dJ12_equals_16 : decode cJ12_equals 16 = .ok (.iload_n 2, 1) := dk_28 (dk_at dksJ12_equals_0 16 rfl rfl)
theorem dJ12_equals_17 : decode cJ12_equals 17 = .ok (.baload, 1) := dk_51 (dk_at dksJ12_equals_0 17 rfl rfl)
theorem dJ12_equals_18 : decode cJ12_equals 18 = .ok (.aload_n 1, 1) := dk_43 (dk_at dksJ12_equals_0 18 rfl rfl)
theorem dJ12_equals_19 : decode cJ12_equals 19 = .ok (.iload_n 2, 1) := dk_28 (dk_at dksJ12_equals_0 19 rfl rfl)
theorem dJ12_equals_20 : decode cJ12_equals 20 = .ok (.baload, 1) := dk_51 (dk_at dksJ12_equals_0 20 rfl rfl)
theorem dJ12_equals_21 : decode cJ12_equals 21 = .ok (.if_icmp .eq 5, 3) := dk_159 0 5 (dk_at dksJ12_equals_0 21 rfl rfl)
theorem dJ12_equals_24 : decode cJ12_equals 24 = .ok (.iconst 0, 1) := dk_3 (dk_at dksJ12_equals_1 0 rfl rfl)
theorem dJ12_equals_25 : decode cJ12_equals 25 = .ok (.ireturn, 1) := dk_172 (dk_at dksJ12_equals_1 1 rfl rfl)
theorem dJ12_equals_26 : decode cJ12_equals 26 = .ok (.iinc 2 1, 3) := dk_132 2 1 (dk_at dksJ12_equals_1 2 rfl rfl)
theorem dJ12_equals_29 : decode cJ12_equals 29 = .ok (.goto (-20), 3) := dk_167 255 236 (dk_at dksJ12_equals_1 5 rfl rfl)
theorem dJ12_equals_32 : decode cJ12_equals 32 = .ok (.iconst 1, 1) := dk_4 (dk_at dksJ12_equals_1 8 rfl rfl)
theorem dJ12_equals_33 : decode cJ12_equals 33 = .ok (.ireturn, 1) := dk_172 (dk_at dksJ12_equals_1 9 rfl rfl)
theorem dJ12_equals_34 : decode cJ12_equals 34 = .ok (.iconst 0, 1) := dk_3 (dk_at dksJ12_equals_1 10 rfl rfl)
theorem dJ12_equals_35 : decode cJ12_equals 35 = .ok (.ireturn, 1) := dk_172 (dk_at dksJ12_equals_1 11 rfl rfl)
abbrev cJ12_hashCode : ByteArray := prog_36_method_21_code
def yJ12_hashCode : MethodName := ⟨RJ12, "hashCode", "([B)I"⟩
def dkwJ12_hashCode_2 : List UInt8 := [3, 167, 0, 22, 42, 3, 51, 17, 0, 255, 126, 167, 0, 12, 42, 3, 42, 190, 3, 7, 184, 0, 84, 172]
abbrev dktJ12_hashCode_2 : List UInt8 := dkwJ12_hashCode_2 ++ []
def dkwJ12_hashCode_1 : List UInt8 := [171, 0, 0, 0, 0, 40, 0, 0, 0, 2, 0, 0, 0, 0, 0, 0, 0, 26, 0, 0, 0, 1, 0, 0, 0, 30]
abbrev dktJ12_hashCode_1 : List UInt8 := dkwJ12_hashCode_1 ++ dktJ12_hashCode_2
def dkwJ12_hashCode_0 : List UInt8 := [42, 190]
abbrev dktJ12_hashCode_0 : List UInt8 := dkwJ12_hashCode_0 ++ dktJ12_hashCode_1
theorem dksJ12_hashCode_0 : cJ12_hashCode.data.toList.drop 0 = dktJ12_hashCode_0 := by decide +kernel
theorem dksJ12_hashCode_1 : cJ12_hashCode.data.toList.drop 2 = dktJ12_hashCode_1 := dk_seg dksJ12_hashCode_0 2 rfl rfl
theorem dksJ12_hashCode_2 : cJ12_hashCode.data.toList.drop 28 = dktJ12_hashCode_2 := dk_seg dksJ12_hashCode_1 26 rfl rfl
theorem dJ12_hashCode_0 : decode cJ12_hashCode 0 = .ok (.aload_n 0, 1) := dk_42 (dk_at dksJ12_hashCode_0 0 rfl rfl)
theorem dJ12_hashCode_1 : decode cJ12_hashCode 1 = .ok (.arraylength, 1) := dk_190 (dk_at dksJ12_hashCode_0 1 rfl rfl)
theorem dJ12_hashCode_2 : decode cJ12_hashCode 2 = .ok (.lookupswitch 40 #[(0, 26), (1, 30)], 26) := by decide +kernel
theorem dJ12_hashCode_28 : decode cJ12_hashCode 28 = .ok (.iconst 0, 1) := dk_3 (dk_at dksJ12_hashCode_2 0 rfl rfl)
theorem dJ12_hashCode_29 : decode cJ12_hashCode 29 = .ok (.goto 22, 3) := dk_167 0 22 (dk_at dksJ12_hashCode_2 1 rfl rfl)
theorem dJ12_hashCode_32 : decode cJ12_hashCode 32 = .ok (.aload_n 0, 1) := dk_42 (dk_at dksJ12_hashCode_2 4 rfl rfl)
theorem dJ12_hashCode_33 : decode cJ12_hashCode 33 = .ok (.iconst 0, 1) := dk_3 (dk_at dksJ12_hashCode_2 5 rfl rfl)
theorem dJ12_hashCode_34 : decode cJ12_hashCode 34 = .ok (.baload, 1) := dk_51 (dk_at dksJ12_hashCode_2 6 rfl rfl)
theorem dJ12_hashCode_35 : decode cJ12_hashCode 35 = .ok (.sipush 255, 3) := dk_17 0 255 (dk_at dksJ12_hashCode_2 7 rfl rfl)
theorem dJ12_hashCode_38 : decode cJ12_hashCode 38 = .ok (.iand, 1) := dk_126 (dk_at dksJ12_hashCode_2 10 rfl rfl)
theorem dJ12_hashCode_39 : decode cJ12_hashCode 39 = .ok (.goto 12, 3) := dk_167 0 12 (dk_at dksJ12_hashCode_2 11 rfl rfl)
theorem dJ12_hashCode_42 : decode cJ12_hashCode 42 = .ok (.aload_n 0, 1) := dk_42 (dk_at dksJ12_hashCode_2 14 rfl rfl)
theorem dJ12_hashCode_43 : decode cJ12_hashCode 43 = .ok (.iconst 0, 1) := dk_3 (dk_at dksJ12_hashCode_2 15 rfl rfl)
theorem dJ12_hashCode_44 : decode cJ12_hashCode 44 = .ok (.aload_n 0, 1) := dk_42 (dk_at dksJ12_hashCode_2 16 rfl rfl)
theorem dJ12_hashCode_45 : decode cJ12_hashCode 45 = .ok (.arraylength, 1) := dk_190 (dk_at dksJ12_hashCode_2 17 rfl rfl)
theorem dJ12_hashCode_46 : decode cJ12_hashCode 46 = .ok (.iconst 0, 1) := dk_3 (dk_at dksJ12_hashCode_2 18 rfl rfl)
theorem dJ12_hashCode_47 : decode cJ12_hashCode 47 = .ok (.iconst 4, 1) := dk_7 (dk_at dksJ12_hashCode_2 19 rfl rfl)
theorem dJ12_hashCode_48 : decode cJ12_hashCode 48 = .ok (.invokestatic 84, 3) := dk_184 0 84 (dk_at dksJ12_hashCode_2 20 rfl rfl)
theorem dJ12_hashCode_51 : decode cJ12_hashCode 51 = .ok (.ireturn, 1) := dk_172 (dk_at dksJ12_hashCode_2 23 rfl rfl)
theorem q142 : (Jvm.Cond.initialized "java/lang/StringLatin1") ∈ lw_all := lw_g (lw_at lw_m1 20 rfl) rfl
theorem q601 : (Jvm.Cond.static ({ cls := "java/lang/StringLatin1", name := "canEncode", desc := "(C)Z" } : Jvm.MethodName)) ∈ lw_all := lw_g (lw_at lw_m2 239 rfl) rfl
theorem q602 : (Jvm.Cond.code ({ cls := "java/lang/StringLatin1", name := "canEncode", desc := "(C)Z" } : Jvm.MethodName) prog_36_method_3_code (1 : Nat) (Option.some Jvm.ClassFile.FieldType.boolean)) ∈ lw_all := lw_g (lw_at lw_m3 0 rfl) rfl
theorem q608 : (Jvm.Cond.static ({ cls := "java/lang/StringLatin1", name := "inflate", desc := "([BI[BII)V" } : Jvm.MethodName)) ∈ lw_all := lw_g (lw_at lw_m3 6 rfl) rfl
theorem q609 : (Jvm.Cond.code ({ cls := "java/lang/StringLatin1", name := "inflate", desc := "([BI[BII)V" } : Jvm.MethodName) prog_36_method_50_code (5 : Nat) (Option.none : Option Jvm.ClassFile.FieldType)) ∈ lw_all := lw_g (lw_at lw_m3 7 rfl) rfl
theorem q610 : (Jvm.Cond.methodLink "java/lang/StringLatin1" (240 : Nat) ({ cls := "java/lang/StringUTF16", name := "inflate", desc := "([BI[BII)V" } : Jvm.MethodName)) ∈ lw_all := lw_g (lw_at lw_m3 8 rfl) rfl
theorem q731 : (Jvm.Cond.static ({ cls := "java/lang/StringLatin1", name := "equals", desc := "([B[B)Z" } : Jvm.MethodName)) ∈ lw_all := lw_g (lw_at lw_m3 129 rfl) rfl
theorem q732 : (Jvm.Cond.code ({ cls := "java/lang/StringLatin1", name := "equals", desc := "([B[B)Z" } : Jvm.MethodName) prog_36_method_13_code (3 : Nat) (Option.some Jvm.ClassFile.FieldType.boolean)) ∈ lw_all := lw_g (lw_at lw_m3 130 rfl) rfl
theorem q757 : (Jvm.Cond.static ({ cls := "java/lang/StringLatin1", name := "hashCode", desc := "([B)I" } : Jvm.MethodName)) ∈ lw_all := lw_g (lw_at lw_m3 155 rfl) rfl
theorem q758 : (Jvm.Cond.code ({ cls := "java/lang/StringLatin1", name := "hashCode", desc := "([B)I" } : Jvm.MethodName) prog_36_method_21_code (1 : Nat) (Option.some Jvm.ClassFile.FieldType.int)) ∈ lw_all := lw_g (lw_at lw_m3 156 rfl) rfl
theorem q759 : (Jvm.Cond.methodLink "java/lang/StringLatin1" (84 : Nat) ({ cls := "jdk/internal/util/ArraysSupport", name := "vectorizedHashCode", desc := "(Ljava/lang/Object;IIII)I" } : Jvm.MethodName)) ∈ lw_all := lw_g (lw_at lw_m3 157 rfl) rfl

/-! java/lang/Throwable -/
set_option maxRecDepth 100000
def RJ13 : String := "java/lang/Throwable"
def TJ13 : u_T := fun k => match k with
  | 0 => ("java/lang/Throwable", "cause", "Ljava/lang/Throwable;", false)
  | 1 => ("java/lang/Throwable", "stackTrace", "[Ljava/lang/StackTraceElement;", false)
  | 2 => ("java/lang/Throwable", "suppressedExceptions", "Ljava/util/List;", false)
  | 3 => ("java/lang/Throwable", "detailMessage", "Ljava/lang/String;", false)
  | _ => ("java/lang/Throwable", "backtrace", "Ljava/lang/Object;", false)
def tyJ13 : Nat → FieldType := fun k => match k with
  | 0 => .object "java/lang/Throwable"
  | 1 => .array (.object "java/lang/StackTraceElement")
  | 2 => .object "java/util/List"
  | 3 => .object "java/lang/String"
  | _ => .object "java/lang/Object"
abbrev wsJ130 : List Cond := u_ws RJ13 TJ13 5
theorem nmJ13 : ∀ a, a < 5 → ∀ b, b < 5 → a ≠ b → (TJ13 a).2.1 ≠ (TJ13 b).2.1 := by decide +kernel
theorem tyJ13_ok : ∀ k, k < 5 → parseFieldDescriptor (TJ13 k).2.2.1 = some (tyJ13 k) := by decide +kernel
abbrev cJ13_init : ByteArray := prog_40_method_1_code
def yJ13_init : MethodName := ⟨RJ13, "<init>", "()V"⟩
def dkwJ13_init_1 : List UInt8 := [182, 0, 27, 87, 177]
abbrev dktJ13_init_1 : List UInt8 := dkwJ13_init_1 ++ []
def dkwJ13_init_0 : List UInt8 := [42, 183, 0, 1, 42, 42, 181, 0, 7, 42, 178, 0, 13, 181, 0, 17, 42, 178, 0, 20, 181, 0, 24, 42]
abbrev dktJ13_init_0 : List UInt8 := dkwJ13_init_0 ++ dktJ13_init_1
theorem dksJ13_init_0 : cJ13_init.data.toList.drop 0 = dktJ13_init_0 := by decide +kernel
theorem dksJ13_init_1 : cJ13_init.data.toList.drop 24 = dktJ13_init_1 := dk_seg dksJ13_init_0 24 rfl rfl
theorem dJ13_init_0 : decode cJ13_init 0 = .ok (.aload_n 0, 1) := dk_42 (dk_at dksJ13_init_0 0 rfl rfl)
theorem dJ13_init_1 : decode cJ13_init 1 = .ok (.invokespecial 1, 3) := dk_183 0 1 (dk_at dksJ13_init_0 1 rfl rfl)
theorem dJ13_init_4 : decode cJ13_init 4 = .ok (.aload_n 0, 1) := dk_42 (dk_at dksJ13_init_0 4 rfl rfl)
theorem dJ13_init_5 : decode cJ13_init 5 = .ok (.aload_n 0, 1) := dk_42 (dk_at dksJ13_init_0 5 rfl rfl)
theorem dJ13_init_6 : decode cJ13_init 6 = .ok (.putfield 7, 3) := dk_181 0 7 (dk_at dksJ13_init_0 6 rfl rfl)
theorem dJ13_init_9 : decode cJ13_init 9 = .ok (.aload_n 0, 1) := dk_42 (dk_at dksJ13_init_0 9 rfl rfl)
theorem dJ13_init_10 : decode cJ13_init 10 = .ok (.getstatic 13, 3) := dk_178 0 13 (dk_at dksJ13_init_0 10 rfl rfl)
theorem dJ13_init_13 : decode cJ13_init 13 = .ok (.putfield 17, 3) := dk_181 0 17 (dk_at dksJ13_init_0 13 rfl rfl)
theorem dJ13_init_16 : decode cJ13_init 16 = .ok (.aload_n 0, 1) := dk_42 (dk_at dksJ13_init_0 16 rfl rfl)
theorem dJ13_init_17 : decode cJ13_init 17 = .ok (.getstatic 20, 3) := dk_178 0 20 (dk_at dksJ13_init_0 17 rfl rfl)
theorem dJ13_init_20 : decode cJ13_init 20 = .ok (.putfield 24, 3) := dk_181 0 24 (dk_at dksJ13_init_0 20 rfl rfl)
theorem dJ13_init_23 : decode cJ13_init 23 = .ok (.aload_n 0, 1) := dk_42 (dk_at dksJ13_init_0 23 rfl rfl)
theorem dJ13_init_24 : decode cJ13_init 24 = .ok (.invokevirtual 27, 3) := dk_182 0 27 (dk_at dksJ13_init_1 0 rfl rfl)
theorem dJ13_init_27 : decode cJ13_init 27 = .ok (.pop, 1) := dk_87 (dk_at dksJ13_init_1 3 rfl rfl)
theorem dJ13_init_28 : decode cJ13_init 28 = .ok (.return_, 1) := dk_177 (dk_at dksJ13_init_1 4 rfl rfl)
abbrev cJ13_init_2 : ByteArray := prog_40_method_5_code
def yJ13_init_2 : MethodName := ⟨RJ13, "<init>", "(Ljava/lang/String;Ljava/lang/Throwable;ZZ)V"⟩
def dkwJ13_init_2_2 : List UInt8 := [44, 181, 0, 7, 29, 154, 0, 8, 42, 1, 181, 0, 24, 177]
abbrev dktJ13_init_2_2 : List UInt8 := dkwJ13_init_2_2 ++ []
def dkwJ13_init_2_1 : List UInt8 := [21, 4, 153, 0, 11, 42, 182, 0, 27, 87, 167, 0, 8, 42, 1, 181, 0, 17, 42, 43, 181, 0, 31, 42]
abbrev dktJ13_init_2_1 : List UInt8 := dkwJ13_init_2_1 ++ dktJ13_init_2_2
def dkwJ13_init_2_0 : List UInt8 := [42, 183, 0, 1, 42, 42, 181, 0, 7, 42, 178, 0, 13, 181, 0, 17, 42, 178, 0, 20, 181, 0, 24]
abbrev dktJ13_init_2_0 : List UInt8 := dkwJ13_init_2_0 ++ dktJ13_init_2_1
theorem dksJ13_init_2_0 : cJ13_init_2.data.toList.drop 0 = dktJ13_init_2_0 := by decide +kernel
theorem dksJ13_init_2_1 : cJ13_init_2.data.toList.drop 23 = dktJ13_init_2_1 := dk_seg dksJ13_init_2_0 23 rfl rfl
theorem dksJ13_init_2_2 : cJ13_init_2.data.toList.drop 47 = dktJ13_init_2_2 := dk_seg dksJ13_init_2_1 24 rfl rfl
theorem dJ13_init_2_0 : decode cJ13_init_2 0 = .ok (.aload_n 0, 1) := dk_42 (dk_at dksJ13_init_2_0 0 rfl rfl)
theorem dJ13_init_2_1 : decode cJ13_init_2 1 = .ok (.invokespecial 1, 3) := dk_183 0 1 (dk_at dksJ13_init_2_0 1 rfl rfl)
theorem dJ13_init_2_4 : decode cJ13_init_2 4 = .ok (.aload_n 0, 1) := dk_42 (dk_at dksJ13_init_2_0 4 rfl rfl)
theorem dJ13_init_2_5 : decode cJ13_init_2 5 = .ok (.aload_n 0, 1) := dk_42 (dk_at dksJ13_init_2_0 5 rfl rfl)
theorem dJ13_init_2_6 : decode cJ13_init_2 6 = .ok (.putfield 7, 3) := dk_181 0 7 (dk_at dksJ13_init_2_0 6 rfl rfl)
theorem dJ13_init_2_9 : decode cJ13_init_2 9 = .ok (.aload_n 0, 1) := dk_42 (dk_at dksJ13_init_2_0 9 rfl rfl)
theorem dJ13_init_2_10 : decode cJ13_init_2 10 = .ok (.getstatic 13, 3) := dk_178 0 13 (dk_at dksJ13_init_2_0 10 rfl rfl)
theorem dJ13_init_2_13 : decode cJ13_init_2 13 = .ok (.putfield 17, 3) := dk_181 0 17 (dk_at dksJ13_init_2_0 13 rfl rfl)
theorem dJ13_init_2_16 : decode cJ13_init_2 16 = .ok (.aload_n 0, 1) := dk_42 (dk_at dksJ13_init_2_0 16 rfl rfl)
theorem dJ13_init_2_17 : decode cJ13_init_2 17 = .ok (.getstatic 20, 3) := dk_178 0 20 (dk_at dksJ13_init_2_0 17 rfl rfl)
theorem dJ13_init_2_20 : decode cJ13_init_2 20 = .ok (.putfield 24, 3) := dk_181 0 24 (dk_at dksJ13_init_2_0 20 rfl rfl)
theorem dJ13_init_2_23 : decode cJ13_init_2 23 = .ok (.iload 4, 2) := dk_21 4 (dk_at dksJ13_init_2_1 0 rfl rfl)
theorem dJ13_init_2_25 : decode cJ13_init_2 25 = .ok (.ifCond .eq 11, 3) := dk_153 0 11 (dk_at dksJ13_init_2_1 2 rfl rfl)
theorem dJ13_init_2_28 : decode cJ13_init_2 28 = .ok (.aload_n 0, 1) := dk_42 (dk_at dksJ13_init_2_1 5 rfl rfl)
theorem dJ13_init_2_29 : decode cJ13_init_2 29 = .ok (.invokevirtual 27, 3) := dk_182 0 27 (dk_at dksJ13_init_2_1 6 rfl rfl)
theorem dJ13_init_2_32 : decode cJ13_init_2 32 = .ok (.pop, 1) := dk_87 (dk_at dksJ13_init_2_1 9 rfl rfl)
theorem dJ13_init_2_33 : decode cJ13_init_2 33 = .ok (.goto 8, 3) := dk_167 0 8 (dk_at dksJ13_init_2_1 10 rfl rfl)
theorem dJ13_init_2_36 : decode cJ13_init_2 36 = .ok (.aload_n 0, 1) := dk_42 (dk_at dksJ13_init_2_1 13 rfl rfl)
theorem dJ13_init_2_37 : decode cJ13_init_2 37 = .ok (.aconst_null, 1) := dk_1 (dk_at dksJ13_init_2_1 14 rfl rfl)
theorem dJ13_init_2_38 : decode cJ13_init_2 38 = .ok (.putfield 17, 3) := dk_181 0 17 (dk_at dksJ13_init_2_1 15 rfl rfl)
theorem dJ13_init_2_41 : decode cJ13_init_2 41 = .ok (.aload_n 0, 1) := dk_42 (dk_at dksJ13_init_2_1 18 rfl rfl)
theorem dJ13_init_2_42 : decode cJ13_init_2 42 = .ok (.aload_n 1, 1) := dk_43 (dk_at dksJ13_init_2_1 19 rfl rfl)
theorem dJ13_init_2_43 : decode cJ13_init_2 43 = .ok (.putfield 31, 3) := dk_181 0 31 (dk_at dksJ13_init_2_1 20 rfl rfl)
theorem dJ13_init_2_46 : decode cJ13_init_2 46 = .ok (.aload_n 0, 1) := dk_42 (dk_at dksJ13_init_2_1 23 rfl rfl)
theorem dJ13_init_2_47 : decode cJ13_init_2 47 = .ok (.aload_n 2, 1) := dk_44 (dk_at dksJ13_init_2_2 0 rfl rfl)
theorem dJ13_init_2_48 : decode cJ13_init_2 48 = .ok (.putfield 7, 3) := dk_181 0 7 (dk_at dksJ13_init_2_2 1 rfl rfl)
theorem dJ13_init_2_51 : decode cJ13_init_2 51 = .ok (.iload_n 3, 1) := dk_29 (dk_at dksJ13_init_2_2 4 rfl rfl)
theorem dJ13_init_2_52 : decode cJ13_init_2 52 = .ok (.ifCond .ne 8, 3) := dk_154 0 8 (dk_at dksJ13_init_2_2 5 rfl rfl)
theorem dJ13_init_2_55 : decode cJ13_init_2 55 = .ok (.aload_n 0, 1) := dk_42 (dk_at dksJ13_init_2_2 8 rfl rfl)
theorem dJ13_init_2_56 : decode cJ13_init_2 56 = .ok (.aconst_null, 1) := dk_1 (dk_at dksJ13_init_2_2 9 rfl rfl)
theorem dJ13_init_2_57 : decode cJ13_init_2 57 = .ok (.putfield 24, 3) := dk_181 0 24 (dk_at dksJ13_init_2_2 10 rfl rfl)
theorem dJ13_init_2_60 : decode cJ13_init_2 60 = .ok (.return_, 1) := dk_177 (dk_at dksJ13_init_2_2 13 rfl rfl)
theorem q145 : (Jvm.Cond.initialized "java/lang/Throwable") ∈ lw_all := lw_g (lw_at lw_m1 23 rfl) rfl
theorem q827 : (Jvm.Cond.declares ({ cls := "java/lang/Throwable", name := "<init>", desc := "()V" } : Jvm.MethodName)) ∈ lw_tbl := lw_at lw_m3 225 rfl
theorem q828 : (Jvm.Cond.declares ({ cls := "java/lang/Throwable", name := "<init>", desc := "(Ljava/lang/String;)V" } : Jvm.MethodName)) ∈ lw_tbl := lw_at lw_m3 226 rfl
theorem q832 : (Jvm.Cond.lays "java/lang/Throwable" "java/lang/Throwable" "cause" "Ljava/lang/Throwable;") ∈ lw_all := lw_g (lw_at lw_m3 230 rfl) rfl
theorem q834 : (Jvm.Cond.lays "java/lang/Throwable" "java/lang/Throwable" "stackTrace" "[Ljava/lang/StackTraceElement;") ∈ lw_all := lw_g (lw_at lw_m3 232 rfl) rfl
theorem q836 : (Jvm.Cond.lays "java/lang/Throwable" "java/lang/Throwable" "suppressedExceptions" "Ljava/util/List;") ∈ lw_all := lw_g (lw_at lw_m3 234 rfl) rfl
theorem q838 : (Jvm.Cond.lays "java/lang/Throwable" "java/lang/Throwable" "detailMessage" "Ljava/lang/String;") ∈ lw_all := lw_g (lw_at lw_m3 236 rfl) rfl
theorem q840 : (Jvm.Cond.lays "java/lang/Throwable" "java/lang/Throwable" "backtrace" "Ljava/lang/Object;") ∈ lw_all := lw_g (lw_at lw_m3 238 rfl) rfl
theorem q841 : (Jvm.Cond.fieldLink "java/lang/Throwable" (198 : Nat) "java/lang/Throwable" "backtrace" "Ljava/lang/Object;") ∈ lw_all := lw_g (lw_at lw_m3 239 rfl) rfl
theorem q842 : (Jvm.Cond.superclass "java/lang/Throwable" "java/lang/Object") ∈ lw_all := lw_g (lw_at lw_m4 0 rfl) rfl
theorem q843 : (Jvm.Cond.instanceMethod ({ cls := "java/lang/Throwable", name := "<init>", desc := "()V" } : Jvm.MethodName)) ∈ lw_all := lw_g (lw_at lw_m4 1 rfl) rfl
theorem q844 : (Jvm.Cond.code ({ cls := "java/lang/Throwable", name := "<init>", desc := "()V" } : Jvm.MethodName) prog_40_method_1_code (1 : Nat) (Option.none : Option Jvm.ClassFile.FieldType)) ∈ lw_all := lw_g (lw_at lw_m4 2 rfl) rfl
theorem q845 : (Jvm.Cond.methodLink "java/lang/Throwable" (1 : Nat) ({ cls := "java/lang/Object", name := "<init>", desc := "()V" } : Jvm.MethodName)) ∈ lw_all := lw_g (lw_at lw_m4 3 rfl) rfl
theorem q846 : (Jvm.Cond.fieldLink "java/lang/Throwable" (13 : Nat) "java/lang/Throwable" "UNASSIGNED_STACK" "[Ljava/lang/StackTraceElement;") ∈ lw_all := lw_g (lw_at lw_m4 4 rfl) rfl
theorem q847 : (Jvm.Cond.laysStatic "java/lang/Throwable" "UNASSIGNED_STACK" "[Ljava/lang/StackTraceElement;") ∈ lw_tbl := lw_at lw_m4 5 rfl
theorem q848 : (Jvm.Cond.fieldLink "java/lang/Throwable" (20 : Nat) "java/lang/Throwable" "SUPPRESSED_SENTINEL" "Ljava/util/List;") ∈ lw_all := lw_g (lw_at lw_m4 6 rfl) rfl
theorem q849 : (Jvm.Cond.laysStatic "java/lang/Throwable" "SUPPRESSED_SENTINEL" "Ljava/util/List;") ∈ lw_tbl := lw_at lw_m4 7 rfl
theorem q850 : (Jvm.Cond.methodLink "java/lang/Throwable" (27 : Nat) ({ cls := "java/lang/Throwable", name := "fillInStackTrace", desc := "()Ljava/lang/Throwable;" } : Jvm.MethodName)) ∈ lw_all := lw_g (lw_at lw_m4 8 rfl) rfl
theorem q851 : (Jvm.Cond.instanceMethod ({ cls := "java/lang/Throwable", name := "fillInStackTrace", desc := "()Ljava/lang/Throwable;" } : Jvm.MethodName)) ∈ lw_all := lw_g (lw_at lw_m4 9 rfl) rfl
theorem q852 : (Jvm.Cond.sameMethod "java/lang/Throwable" "java/lang/Throwable" "fillInStackTrace" "()Ljava/lang/Throwable;") ∈ lw_all := lw_g (lw_at lw_m4 10 rfl) rfl
theorem q853 : (Jvm.Cond.codeSync ({ cls := "java/lang/Throwable", name := "fillInStackTrace", desc := "()Ljava/lang/Throwable;" } : Jvm.MethodName) prog_40_method_18_code (1 : Nat) (Option.some (Jvm.ClassFile.FieldType.object "java/lang/Throwable"))) ∈ lw_all := lw_g (lw_at lw_m4 11 rfl) rfl
theorem q854 : (Jvm.Cond.methodLink "java/lang/Throwable" (202 : Nat) ({ cls := "java/lang/Throwable", name := "fillInStackTrace", desc := "(I)Ljava/lang/Throwable;" } : Jvm.MethodName)) ∈ lw_all := lw_g (lw_at lw_m4 12 rfl) rfl
theorem q855 : (Jvm.Cond.privateMethod ({ cls := "java/lang/Throwable", name := "fillInStackTrace", desc := "(I)Ljava/lang/Throwable;" } : Jvm.MethodName)) ∈ lw_tbl := lw_at lw_m4 13 rfl
theorem q856 : (Jvm.Cond.instanceMethod ({ cls := "java/lang/Throwable", name := "fillInStackTrace", desc := "(I)Ljava/lang/Throwable;" } : Jvm.MethodName)) ∈ lw_all := lw_g (lw_at lw_m4 14 rfl) rfl
theorem q857 : (Jvm.Cond.instantiable "java/lang/Throwable" (6 : Nat)) ∈ lw_all := lw_g (lw_at lw_m4 15 rfl) rfl
theorem q858 : (Jvm.Cond.native ({ cls := "java/lang/Throwable", name := "fillInStackTrace", desc := "(I)Ljava/lang/Throwable;" } : Jvm.MethodName)) ∈ lw_all := lw_g (lw_at lw_m4 16 rfl) rfl
theorem q866 : (Jvm.Cond.instanceMethod ({ cls := "java/lang/Throwable", name := "<init>", desc := "(Ljava/lang/String;Ljava/lang/Throwable;ZZ)V" } : Jvm.MethodName)) ∈ lw_all := lw_g (lw_at lw_m4 24 rfl) rfl
theorem q867 : (Jvm.Cond.code ({ cls := "java/lang/Throwable", name := "<init>", desc := "(Ljava/lang/String;Ljava/lang/Throwable;ZZ)V" } : Jvm.MethodName) prog_40_method_5_code (5 : Nat) (Option.none : Option Jvm.ClassFile.FieldType)) ∈ lw_all := lw_g (lw_at lw_m4 25 rfl) rfl
theorem q872 : (Jvm.Cond.fieldLink "java/lang/Throwable" (198 : Nat) "java/lang/Throwable" "backtrace" "Ljava/lang/Object;") ∈ lw_all := lw_g (lw_at lw_m4 30 rfl) rfl
theorem q873 : (Jvm.Cond.fieldLink "java/lang/Throwable" (31 : Nat) "java/lang/Throwable" "detailMessage" "Ljava/lang/String;") ∈ lw_all := lw_g (lw_at lw_m4 31 rfl) rfl
theorem q874 : (Jvm.Cond.fieldLink "java/lang/Throwable" (7 : Nat) "java/lang/Throwable" "cause" "Ljava/lang/Throwable;") ∈ lw_all := lw_g (lw_at lw_m4 32 rfl) rfl
theorem q875 : (Jvm.Cond.fieldLink "java/lang/Throwable" (17 : Nat) "java/lang/Throwable" "stackTrace" "[Ljava/lang/StackTraceElement;") ∈ lw_all := lw_g (lw_at lw_m4 33 rfl) rfl
theorem q876 : (Jvm.Cond.fieldLink "java/lang/Throwable" (24 : Nat) "java/lang/Throwable" "suppressedExceptions" "Ljava/util/List;") ∈ lw_all := lw_g (lw_at lw_m4 34 rfl) rfl
theorem q881 : (Jvm.Cond.soleField "java/lang/Throwable" "backtrace") ∈ lw_all := lw_g (lw_at lw_m4 39 rfl) rfl
theorem q882 : (Jvm.Cond.soleField "java/lang/Throwable" "detailMessage") ∈ lw_all := lw_g (lw_at lw_m4 40 rfl) rfl
theorem q883 : (Jvm.Cond.soleField "java/lang/Throwable" "cause") ∈ lw_all := lw_g (lw_at lw_m4 41 rfl) rfl
theorem q884 : (Jvm.Cond.soleField "java/lang/Throwable" "stackTrace") ∈ lw_all := lw_g (lw_at lw_m4 42 rfl) rfl
theorem q886 : (Jvm.Cond.soleField "java/lang/Throwable" "depth") ∈ lw_all := lw_g (lw_at lw_m4 44 rfl) rfl
theorem q887 : (Jvm.Cond.soleField "java/lang/Throwable" "suppressedExceptions") ∈ lw_all := lw_g (lw_at lw_m4 45 rfl) rfl
theorem q2256 : (Jvm.Cond.sameMethod "java/lang/Throwable" "java/lang/Throwable" "fillInStackTrace" "(I)Ljava/lang/Throwable;") ∈ lw_all := lw_g (lw_at lw_m9 214 rfl) rfl
theorem q2282 : (Jvm.Cond.castable "java/lang/Throwable" "java/lang/Object") ∈ lw_tbl := lw_at lw_m10 0 rfl
theorem in_J13 : ∀ w ∈ wsJ130, w ∈ lw_all := lw_in wsJ130 [832, 834, 836, 838, 840] (by decide +kernel) (by decide +kernel)

/-! java/lang/Exception -/
set_option maxRecDepth 100000
def RJ14 : String := "java/lang/Exception"
abbrev cJ14_init : ByteArray := prog_30_method_5_code
def yJ14_init : MethodName := ⟨RJ14, "<init>", "(Ljava/lang/String;Ljava/lang/Throwable;ZZ)V"⟩
def dkwJ14_init_0 : List UInt8 := [42, 43, 44, 29, 21, 4, 183, 0, 16, 177]
abbrev dktJ14_init_0 : List UInt8 := dkwJ14_init_0 ++ []
theorem dksJ14_init_0 : cJ14_init.data.toList.drop 0 = dktJ14_init_0 := by decide +kernel
theorem dJ14_init_0 : decode cJ14_init 0 = .ok (.aload_n 0, 1) := dk_42 (dk_at dksJ14_init_0 0 rfl rfl)
theorem dJ14_init_1 : decode cJ14_init 1 = .ok (.aload_n 1, 1) := dk_43 (dk_at dksJ14_init_0 1 rfl rfl)
theorem dJ14_init_2 : decode cJ14_init 2 = .ok (.aload_n 2, 1) := dk_44 (dk_at dksJ14_init_0 2 rfl rfl)
theorem dJ14_init_3 : decode cJ14_init 3 = .ok (.iload_n 3, 1) := dk_29 (dk_at dksJ14_init_0 3 rfl rfl)
theorem dJ14_init_4 : decode cJ14_init 4 = .ok (.iload 4, 2) := dk_21 4 (dk_at dksJ14_init_0 4 rfl rfl)
theorem dJ14_init_6 : decode cJ14_init 6 = .ok (.invokespecial 16, 3) := dk_183 0 16 (dk_at dksJ14_init_0 6 rfl rfl)
theorem dJ14_init_9 : decode cJ14_init 9 = .ok (.return_, 1) := dk_177 (dk_at dksJ14_init_0 9 rfl rfl)
theorem q146 : (Jvm.Cond.initialized "java/lang/Exception") ∈ lw_all := lw_g (lw_at lw_m1 24 rfl) rfl
theorem q825 : (Jvm.Cond.declares ({ cls := "java/lang/Exception", name := "<init>", desc := "()V" } : Jvm.MethodName)) ∈ lw_tbl := lw_at lw_m3 223 rfl
theorem q826 : (Jvm.Cond.declares ({ cls := "java/lang/Exception", name := "<init>", desc := "(Ljava/lang/String;)V" } : Jvm.MethodName)) ∈ lw_tbl := lw_at lw_m3 224 rfl
theorem q863 : (Jvm.Cond.instanceMethod ({ cls := "java/lang/Exception", name := "<init>", desc := "(Ljava/lang/String;Ljava/lang/Throwable;ZZ)V" } : Jvm.MethodName)) ∈ lw_all := lw_g (lw_at lw_m4 21 rfl) rfl
theorem q864 : (Jvm.Cond.code ({ cls := "java/lang/Exception", name := "<init>", desc := "(Ljava/lang/String;Ljava/lang/Throwable;ZZ)V" } : Jvm.MethodName) prog_30_method_5_code (5 : Nat) (Option.none : Option Jvm.ClassFile.FieldType)) ∈ lw_all := lw_g (lw_at lw_m4 22 rfl) rfl
theorem q865 : (Jvm.Cond.methodLink "java/lang/Exception" (16 : Nat) ({ cls := "java/lang/Throwable", name := "<init>", desc := "(Ljava/lang/String;Ljava/lang/Throwable;ZZ)V" } : Jvm.MethodName)) ∈ lw_all := lw_g (lw_at lw_m4 23 rfl) rfl

/-! java/lang/Integer -/
set_option maxRecDepth 100000
def RJ15 : String := "java/lang/Integer"
abbrev cJ15_bitCount : ByteArray := prog_31_method_49_code
def yJ15_bitCount : MethodName := ⟨RJ15, "bitCount", "(I)I"⟩
def dkwJ15_bitCount_2 : List UInt8 := [26, 16, 63, 126, 172]
abbrev dktJ15_bitCount_2 : List UInt8 := dkwJ15_bitCount_2 ++ []
def dkwJ15_bitCount_1 : List UInt8 := [26, 26, 7, 124, 96, 19, 1, 11, 126, 59, 26, 26, 16, 8, 124, 96, 59, 26, 26, 16, 16, 124, 96, 59]
abbrev dktJ15_bitCount_1 : List UInt8 := dkwJ15_bitCount_1 ++ dktJ15_bitCount_2
def dkwJ15_bitCount_0 : List UInt8 := [26, 26, 4, 124, 19, 1, 9, 126, 100, 59, 26, 19, 1, 10, 126, 26, 5, 124, 19, 1, 10, 126, 96, 59]
abbrev dktJ15_bitCount_0 : List UInt8 := dkwJ15_bitCount_0 ++ dktJ15_bitCount_1
theorem dksJ15_bitCount_0 : cJ15_bitCount.data.toList.drop 0 = dktJ15_bitCount_0 := by decide +kernel
theorem dksJ15_bitCount_1 : cJ15_bitCount.data.toList.drop 24 = dktJ15_bitCount_1 := dk_seg dksJ15_bitCount_0 24 rfl rfl
theorem dksJ15_bitCount_2 : cJ15_bitCount.data.toList.drop 48 = dktJ15_bitCount_2 := dk_seg dksJ15_bitCount_1 24 rfl rfl
theorem dJ15_bitCount_0 : decode cJ15_bitCount 0 = .ok (.iload_n 0, 1) := dk_26 (dk_at dksJ15_bitCount_0 0 rfl rfl)
theorem dJ15_bitCount_1 : decode cJ15_bitCount 1 = .ok (.iload_n 0, 1) := dk_26 (dk_at dksJ15_bitCount_0 1 rfl rfl)
theorem dJ15_bitCount_2 : decode cJ15_bitCount 2 = .ok (.iconst 1, 1) := dk_4 (dk_at dksJ15_bitCount_0 2 rfl rfl)
theorem dJ15_bitCount_3 : decode cJ15_bitCount 3 = .ok (.iushr, 1) := dk_124 (dk_at dksJ15_bitCount_0 3 rfl rfl)
theorem dJ15_bitCount_4 : decode cJ15_bitCount 4 = .ok (.ldc_w 265, 3) := dk_19 1 9 (dk_at dksJ15_bitCount_0 4 rfl rfl)
theorem dJ15_bitCount_7 : decode cJ15_bitCount 7 = .ok (.iand, 1) := dk_126 (dk_at dksJ15_bitCount_0 7 rfl rfl)
theorem dJ15_bitCount_8 : decode cJ15_bitCount 8 = .ok (.isub, 1) := dk_100 (dk_at dksJ15_bitCount_0 8 rfl rfl)
theorem dJ15_bitCount_9 : decode cJ15_bitCount 9 = .ok (.istore_n 0, 1) := dk_59 (dk_at dksJ15_bitCount_0 9 rfl rfl)
theorem dJ15_bitCount_10 : decode cJ15_bitCount 10 = .ok (.iload_n 0, 1) := dk_26 (dk_at dksJ15_bitCount_0 10 rfl rfl)
theorem dJ15_bitCount_11 : decode cJ15_bitCount 11 = .ok (.ldc_w 266, 3) := dk_19 1 10 (dk_at dksJ15_bitCount_0 11 rfl rfl)
theorem dJ15_bitCount_14 : decode cJ15_bitCount 14 = .ok (.iand, 1) := dk_126 (dk_at dksJ15_bitCount_0 14 rfl rfl)
theorem dJ15_bitCount_15 : decode cJ15_bitCount 15 = .ok (.iload_n 0, 1) := dk_26 (dk_at dksJ15_bitCount_0 15 rfl rfl)
theorem dJ15_bitCount_16 : decode cJ15_bitCount 16 = .ok (.iconst 2, 1) := dk_5 (dk_at dksJ15_bitCount_0 16 rfl rfl)
theorem dJ15_bitCount_17 : decode cJ15_bitCount 17 = .ok (.iushr, 1) := dk_124 (dk_at dksJ15_bitCount_0 17 rfl rfl)
theorem dJ15_bitCount_18 : decode cJ15_bitCount 18 = .ok (.ldc_w 266, 3) := dk_19 1 10 (dk_at dksJ15_bitCount_0 18 rfl rfl)
theorem dJ15_bitCount_21 : decode cJ15_bitCount 21 = .ok (.iand, 1) := dk_126 (dk_at dksJ15_bitCount_0 21 rfl rfl)
theorem dJ15_bitCount_22 : decode cJ15_bitCount 22 = .ok (.iadd, 1) := dk_96 (dk_at dksJ15_bitCount_0 22 rfl rfl)
theorem dJ15_bitCount_23 : decode cJ15_bitCount 23 = .ok (.istore_n 0, 1) := dk_59 (dk_at dksJ15_bitCount_0 23 rfl rfl)
theorem dJ15_bitCount_24 : decode cJ15_bitCount 24 = .ok (.iload_n 0, 1) := dk_26 (dk_at dksJ15_bitCount_1 0 rfl rfl)
theorem dJ15_bitCount_25 : decode cJ15_bitCount 25 = .ok (.iload_n 0, 1) := dk_26 (dk_at dksJ15_bitCount_1 1 rfl rfl)
theorem dJ15_bitCount_26 : decode cJ15_bitCount 26 = .ok (.iconst 4, 1) := dk_7 (dk_at dksJ15_bitCount_1 2 rfl rfl)
theorem dJ15_bitCount_27 : decode cJ15_bitCount 27 = .ok (.iushr, 1) := dk_124 (dk_at dksJ15_bitCount_1 3 rfl rfl)
theorem dJ15_bitCount_28 : decode cJ15_bitCount 28 = .ok (.iadd, 1) := dk_96 (dk_at dksJ15_bitCount_1 4 rfl rfl)
theorem dJ15_bitCount_29 : decode cJ15_bitCount 29 = .ok (.ldc_w 267, 3) := dk_19 1 11 (dk_at dksJ15_bitCount_1 5 rfl rfl)
theorem dJ15_bitCount_32 : decode cJ15_bitCount 32 = .ok (.iand, 1) := dk_126 (dk_at dksJ15_bitCount_1 8 rfl rfl)
theorem dJ15_bitCount_33 : decode cJ15_bitCount 33 = .ok (.istore_n 0, 1) := dk_59 (dk_at dksJ15_bitCount_1 9 rfl rfl)
theorem dJ15_bitCount_34 : decode cJ15_bitCount 34 = .ok (.iload_n 0, 1) := dk_26 (dk_at dksJ15_bitCount_1 10 rfl rfl)
theorem dJ15_bitCount_35 : decode cJ15_bitCount 35 = .ok (.iload_n 0, 1) := dk_26 (dk_at dksJ15_bitCount_1 11 rfl rfl)
theorem dJ15_bitCount_36 : decode cJ15_bitCount 36 = .ok (.bipush 8, 2) := dk_16 8 (dk_at dksJ15_bitCount_1 12 rfl rfl)
theorem dJ15_bitCount_38 : decode cJ15_bitCount 38 = .ok (.iushr, 1) := dk_124 (dk_at dksJ15_bitCount_1 14 rfl rfl)
theorem dJ15_bitCount_39 : decode cJ15_bitCount 39 = .ok (.iadd, 1) := dk_96 (dk_at dksJ15_bitCount_1 15 rfl rfl)
theorem dJ15_bitCount_40 : decode cJ15_bitCount 40 = .ok (.istore_n 0, 1) := dk_59 (dk_at dksJ15_bitCount_1 16 rfl rfl)
theorem dJ15_bitCount_41 : decode cJ15_bitCount 41 = .ok (.iload_n 0, 1) := dk_26 (dk_at dksJ15_bitCount_1 17 rfl rfl)
theorem dJ15_bitCount_42 : decode cJ15_bitCount 42 = .ok (.iload_n 0, 1) := dk_26 (dk_at dksJ15_bitCount_1 18 rfl rfl)
theorem dJ15_bitCount_43 : decode cJ15_bitCount 43 = .ok (.bipush 16, 2) := dk_16 16 (dk_at dksJ15_bitCount_1 19 rfl rfl)
theorem dJ15_bitCount_45 : decode cJ15_bitCount 45 = .ok (.iushr, 1) := dk_124 (dk_at dksJ15_bitCount_1 21 rfl rfl)
theorem dJ15_bitCount_46 : decode cJ15_bitCount 46 = .ok (.iadd, 1) := dk_96 (dk_at dksJ15_bitCount_1 22 rfl rfl)
theorem dJ15_bitCount_47 : decode cJ15_bitCount 47 = .ok (.istore_n 0, 1) := dk_59 (dk_at dksJ15_bitCount_1 23 rfl rfl)
theorem dJ15_bitCount_48 : decode cJ15_bitCount 48 = .ok (.iload_n 0, 1) := dk_26 (dk_at dksJ15_bitCount_2 0 rfl rfl)
theorem dJ15_bitCount_49 : decode cJ15_bitCount 49 = .ok (.bipush 63, 2) := dk_16 63 (dk_at dksJ15_bitCount_2 1 rfl rfl)
theorem dJ15_bitCount_51 : decode cJ15_bitCount 51 = .ok (.iand, 1) := dk_126 (dk_at dksJ15_bitCount_2 3 rfl rfl)
theorem dJ15_bitCount_52 : decode cJ15_bitCount 52 = .ok (.ireturn, 1) := dk_172 (dk_at dksJ15_bitCount_2 4 rfl rfl)
abbrev cJ15_lowestOneBit : ByteArray := prog_31_method_46_code
def yJ15_lowestOneBit : MethodName := ⟨RJ15, "lowestOneBit", "(I)I"⟩
def dkwJ15_lowestOneBit_0 : List UInt8 := [26, 26, 116, 126, 172]
abbrev dktJ15_lowestOneBit_0 : List UInt8 := dkwJ15_lowestOneBit_0 ++ []
theorem dksJ15_lowestOneBit_0 : cJ15_lowestOneBit.data.toList.drop 0 = dktJ15_lowestOneBit_0 := by decide +kernel
theorem dJ15_lowestOneBit_0 : decode cJ15_lowestOneBit 0 = .ok (.iload_n 0, 1) := dk_26 (dk_at dksJ15_lowestOneBit_0 0 rfl rfl)
theorem dJ15_lowestOneBit_1 : decode cJ15_lowestOneBit 1 = .ok (.iload_n 0, 1) := dk_26 (dk_at dksJ15_lowestOneBit_0 1 rfl rfl)
theorem dJ15_lowestOneBit_2 : decode cJ15_lowestOneBit 2 = .ok (.ineg, 1) := dk_116 (dk_at dksJ15_lowestOneBit_0 2 rfl rfl)
theorem dJ15_lowestOneBit_3 : decode cJ15_lowestOneBit 3 = .ok (.iand, 1) := dk_126 (dk_at dksJ15_lowestOneBit_0 3 rfl rfl)
theorem dJ15_lowestOneBit_4 : decode cJ15_lowestOneBit 4 = .ok (.ireturn, 1) := dk_172 (dk_at dksJ15_lowestOneBit_0 4 rfl rfl)
theorem q154 : (Jvm.Cond.initialized "java/lang/Integer") ∈ lw_all := lw_g (lw_at lw_m1 32 rfl) rfl
theorem q1169 : (Jvm.Cond.static ({ cls := "java/lang/Integer", name := "bitCount", desc := "(I)I" } : Jvm.MethodName)) ∈ lw_all := lw_g (lw_at lw_m5 87 rfl) rfl
theorem q1170 : (Jvm.Cond.code ({ cls := "java/lang/Integer", name := "bitCount", desc := "(I)I" } : Jvm.MethodName) prog_31_method_49_code (1 : Nat) (Option.some Jvm.ClassFile.FieldType.int)) ∈ lw_all := lw_g (lw_at lw_m5 88 rfl) rfl
theorem q1171 : (Jvm.Cond.constant "java/lang/Integer" (265 : Nat) (1431655765 : Int32)) ∈ lw_all := lw_g (lw_at lw_m5 89 rfl) rfl
theorem q1172 : (Jvm.Cond.constant "java/lang/Integer" (266 : Nat) (858993459 : Int32)) ∈ lw_all := lw_g (lw_at lw_m5 90 rfl) rfl
theorem q1173 : (Jvm.Cond.constant "java/lang/Integer" (267 : Nat) (252645135 : Int32)) ∈ lw_all := lw_g (lw_at lw_m5 91 rfl) rfl
theorem q1400 : (Jvm.Cond.static ({ cls := "java/lang/Integer", name := "lowestOneBit", desc := "(I)I" } : Jvm.MethodName)) ∈ lw_all := lw_g (lw_at lw_m6 78 rfl) rfl
theorem q1401 : (Jvm.Cond.code ({ cls := "java/lang/Integer", name := "lowestOneBit", desc := "(I)I" } : Jvm.MethodName) prog_31_method_46_code (1 : Nat) (Option.some Jvm.ClassFile.FieldType.int)) ∈ lw_all := lw_g (lw_at lw_m6 79 rfl) rfl

/-! java/lang/Object -/
set_option maxRecDepth 100000
def RJ16 : String := "java/lang/Object"
abbrev cJ16_init : ByteArray := object_method_1_code
def yJ16_init : MethodName := ⟨RJ16, "<init>", "()V"⟩
theorem dJ16_init_0 : decode cJ16_init 0 = .ok (.return_, 1) := by decide +kernel
theorem q162 : (Jvm.Cond.instanceMethod ({ cls := "java/lang/Object", name := "<init>", desc := "()V" } : Jvm.MethodName)) ∈ lw_all := lw_g (lw_at lw_m1 40 rfl) rfl
theorem q163 : (Jvm.Cond.code ({ cls := "java/lang/Object", name := "<init>", desc := "()V" } : Jvm.MethodName) object_method_1_code (1 : Nat) (Option.none : Option Jvm.ClassFile.FieldType)) ∈ lw_all := lw_g (lw_at lw_m1 41 rfl) rfl
theorem q584 : (Jvm.Cond.native ({ cls := "java/lang/Object", name := "clone", desc := "()Ljava/lang/Object;" } : Jvm.MethodName)) ∈ lw_all := lw_g (lw_at lw_m2 222 rfl) rfl
theorem q585 : (Jvm.Cond.instanceMethod ({ cls := "java/lang/Object", name := "clone", desc := "()Ljava/lang/Object;" } : Jvm.MethodName)) ∈ lw_all := lw_g (lw_at lw_m2 223 rfl) rfl
theorem q955 : (Jvm.Cond.instanceMethod ({ cls := "java/lang/Object", name := "getClass", desc := "()Ljava/lang/Class;" } : Jvm.MethodName)) ∈ lw_all := lw_g (lw_at lw_m4 113 rfl) rfl
theorem q956 : (Jvm.Cond.sameMethod "java/lang/Object" "java/lang/Object" "getClass" "()Ljava/lang/Class;") ∈ lw_all := lw_g (lw_at lw_m4 114 rfl) rfl
theorem q979 : (Jvm.Cond.native ({ cls := "java/lang/Object", name := "getClass", desc := "()Ljava/lang/Class;" } : Jvm.MethodName)) ∈ lw_all := lw_g (lw_at lw_m4 137 rfl) rfl
theorem q2257 : (Jvm.Cond.initialized "java/lang/Object") ∈ lw_all := lw_g (lw_at lw_m9 215 rfl) rfl
theorem q2285 : (Jvm.Cond.declares ({ cls := "java/lang/Object", name := "getClass", desc := "()Ljava/lang/Class;" } : Jvm.MethodName)) ∈ lw_tbl := lw_at lw_m10 3 rfl

/-! java/lang/System$2 -/
set_option maxRecDepth 100000
def RJ17 : String := "java/lang/System$2"
abbrev cJ17_getUTF16Char : ByteArray := prog_39_method_45_code
def yJ17_getUTF16Char : MethodName := ⟨RJ17, "getUTF16Char", "([BI)C"⟩
def dkwJ17_getUTF16Char_0 : List UInt8 := [43, 28, 184, 0, 185, 172]
abbrev dktJ17_getUTF16Char_0 : List UInt8 := dkwJ17_getUTF16Char_0 ++ []
theorem dksJ17_getUTF16Char_0 : cJ17_getUTF16Char.data.toList.drop 0 = dktJ17_getUTF16Char_0 := by decide +kernel
theorem dJ17_getUTF16Char_0 : decode cJ17_getUTF16Char 0 = .ok (.aload_n 1, 1) := dk_43 (dk_at dksJ17_getUTF16Char_0 0 rfl rfl)
theorem dJ17_getUTF16Char_1 : decode cJ17_getUTF16Char 1 = .ok (.iload_n 2, 1) := dk_28 (dk_at dksJ17_getUTF16Char_0 1 rfl rfl)
theorem dJ17_getUTF16Char_2 : decode cJ17_getUTF16Char 2 = .ok (.invokestatic 185, 3) := dk_184 0 185 (dk_at dksJ17_getUTF16Char_0 2 rfl rfl)
theorem dJ17_getUTF16Char_5 : decode cJ17_getUTF16Char 5 = .ok (.ireturn, 1) := dk_172 (dk_at dksJ17_getUTF16Char_0 5 rfl rfl)
theorem q775 : (Jvm.Cond.castable "java/lang/System$2" "jdk/internal/access/JavaLangAccess") ∈ lw_tbl := lw_at lw_m3 173 rfl
theorem q776 : (Jvm.Cond.selects "java/lang/System$2" ({ cls := "jdk/internal/access/JavaLangAccess", name := "getUTF16Char", desc := "([BI)C" } : Jvm.MethodName) ({ cls := "java/lang/System$2", name := "getUTF16Char", desc := "([BI)C" } : Jvm.MethodName)) ∈ lw_all := lw_g (lw_at lw_m3 174 rfl) rfl
theorem q777 : (Jvm.Cond.unhidden "java/lang/System$2" "getUTF16Char" "([BI)C") ∈ lw_tbl := lw_at lw_m3 175 rfl
theorem q778 : (Jvm.Cond.instanceMethod ({ cls := "java/lang/System$2", name := "getUTF16Char", desc := "([BI)C" } : Jvm.MethodName)) ∈ lw_all := lw_g (lw_at lw_m3 176 rfl) rfl
theorem q779 : (Jvm.Cond.publicMethod ({ cls := "java/lang/System$2", name := "getUTF16Char", desc := "([BI)C" } : Jvm.MethodName)) ∈ lw_tbl := lw_at lw_m3 177 rfl
theorem q780 : (Jvm.Cond.code ({ cls := "java/lang/System$2", name := "getUTF16Char", desc := "([BI)C" } : Jvm.MethodName) prog_39_method_45_code (3 : Nat) (Option.some Jvm.ClassFile.FieldType.char)) ∈ lw_all := lw_g (lw_at lw_m3 178 rfl) rfl
theorem q781 : (Jvm.Cond.methodLink "java/lang/System$2" (185 : Nat) ({ cls := "java/lang/StringUTF16", name := "getChar", desc := "([BI)C" } : Jvm.MethodName)) ∈ lw_all := lw_g (lw_at lw_m3 179 rfl) rfl
theorem q977 : (Jvm.Cond.selects "java/lang/System$2" ({ cls := "java/lang/Object", name := "getClass", desc := "()Ljava/lang/Class;" } : Jvm.MethodName) ({ cls := "java/lang/Object", name := "getClass", desc := "()Ljava/lang/Class;" } : Jvm.MethodName)) ∈ lw_all := lw_g (lw_at lw_m4 135 rfl) rfl
theorem q2270 : (Jvm.Cond.castable "java/lang/System$2" "java/lang/Object") ∈ lw_tbl := lw_at lw_m9 228 rfl

/-! java/util/ArrayList -/
set_option maxRecDepth 100000
def RJ2 : String := "java/util/ArrayList"
def TJ2 : u_T := fun k => match k with
  | 0 => ("java/util/AbstractList", "modCount", "I", false)
  | 1 => ("java/util/ArrayList", "elementData", "[Ljava/lang/Object;", false)
  | _ => ("java/util/ArrayList", "size", "I", false)
def tyJ2 : Nat → FieldType := fun k => match k with
  | 0 => .int
  | 1 => .array (.object "java/lang/Object")
  | _ => .int
abbrev wsJ20 : List Cond := u_ws RJ2 TJ2 3
theorem nmJ2 : ∀ a, a < 3 → ∀ b, b < 3 → a ≠ b → (TJ2 a).2.1 ≠ (TJ2 b).2.1 := by decide +kernel
theorem tyJ2_ok : ∀ k, k < 3 → parseFieldDescriptor (TJ2 k).2.2.1 = some (tyJ2 k) := by decide +kernel
abbrev cJ2_init : ByteArray := prog_45_method_1_code
def yJ2_init : MethodName := ⟨RJ2, "<init>", "(I)V"⟩
def dkwJ2_init_2 : List UInt8 := [182, 0, 25, 27, 182, 0, 29, 182, 0, 32, 183, 0, 36, 191, 177]
abbrev dktJ2_init_2 : List UInt8 := dkwJ2_init_2 ++ []
def dkwJ2_init_1 : List UInt8 := [178, 0, 15, 181, 0, 9, 167, 0, 30, 187, 0, 18, 89, 187, 0, 20, 89, 183, 0, 22, 18, 23]
abbrev dktJ2_init_1 : List UInt8 := dkwJ2_init_1 ++ dktJ2_init_2
def dkwJ2_init_0 : List UInt8 := [42, 183, 0, 1, 27, 158, 0, 14, 42, 27, 189, 0, 7, 181, 0, 9, 167, 0, 44, 27, 154, 0, 13, 42]
abbrev dktJ2_init_0 : List UInt8 := dkwJ2_init_0 ++ dktJ2_init_1
theorem dksJ2_init_0 : cJ2_init.data.toList.drop 0 = dktJ2_init_0 := by decide +kernel
theorem dksJ2_init_1 : cJ2_init.data.toList.drop 24 = dktJ2_init_1 := dk_seg dksJ2_init_0 24 rfl rfl
theorem dksJ2_init_2 : cJ2_init.data.toList.drop 46 = dktJ2_init_2 := dk_seg dksJ2_init_1 22 rfl rfl
theorem dJ2_init_0 : decode cJ2_init 0 = .ok (.aload_n 0, 1) := dk_42 (dk_at dksJ2_init_0 0 rfl rfl)
theorem dJ2_init_1 : decode cJ2_init 1 = .ok (.invokespecial 1, 3) := dk_183 0 1 (dk_at dksJ2_init_0 1 rfl rfl)
theorem dJ2_init_4 : decode cJ2_init 4 = .ok (.iload_n 1, 1) := dk_27 (dk_at dksJ2_init_0 4 rfl rfl)
theorem dJ2_init_5 : decode cJ2_init 5 = .ok (.ifCond .le 14, 3) := dk_158 0 14 (dk_at dksJ2_init_0 5 rfl rfl)
theorem dJ2_init_8 : decode cJ2_init 8 = .ok (.aload_n 0, 1) := dk_42 (dk_at dksJ2_init_0 8 rfl rfl)
theorem dJ2_init_9 : decode cJ2_init 9 = .ok (.iload_n 1, 1) := dk_27 (dk_at dksJ2_init_0 9 rfl rfl)
theorem dJ2_init_10 : decode cJ2_init 10 = .ok (.anewarray 7, 3) := dk_189 0 7 (dk_at dksJ2_init_0 10 rfl rfl)
theorem dJ2_init_13 : decode cJ2_init 13 = .ok (.putfield 9, 3) := dk_181 0 9 (dk_at dksJ2_init_0 13 rfl rfl)
theorem dJ2_init_16 : decode cJ2_init 16 = .ok (.goto 44, 3) := dk_167 0 44 (dk_at dksJ2_init_0 16 rfl rfl)
theorem dJ2_init_19 : decode cJ2_init 19 = .ok (.iload_n 1, 1) := dk_27 (dk_at dksJ2_init_0 19 rfl rfl)
theorem dJ2_init_20 : decode cJ2_init 20 = .ok (.ifCond .ne 13, 3) := dk_154 0 13 (dk_at dksJ2_init_0 20 rfl rfl)
theorem dJ2_init_23 : decode cJ2_init 23 = .ok (.aload_n 0, 1) := dk_42 (dk_at dksJ2_init_0 23 rfl rfl)
theorem dJ2_init_24 : decode cJ2_init 24 = .ok (.getstatic 15, 3) := dk_178 0 15 (dk_at dksJ2_init_1 0 rfl rfl)
theorem dJ2_init_27 : decode cJ2_init 27 = .ok (.putfield 9, 3) := dk_181 0 9 (dk_at dksJ2_init_1 3 rfl rfl)
theorem dJ2_init_30 : decode cJ2_init 30 = .ok (.goto 30, 3) := dk_167 0 30 (dk_at dksJ2_init_1 6 rfl rfl)
theorem dJ2_init_33 : decode cJ2_init 33 = .ok (.new 18, 3) := dk_187 0 18 (dk_at dksJ2_init_1 9 rfl rfl)
theorem dJ2_init_36 : decode cJ2_init 36 = .ok (.dup, 1) := dk_89 (dk_at dksJ2_init_1 12 rfl rfl)
theorem dJ2_init_37 : decode cJ2_init 37 = .ok (.new 20, 3) := dk_187 0 20 (dk_at dksJ2_init_1 13 rfl rfl)
theorem dJ2_init_40 : decode cJ2_init 40 = .ok (.dup, 1) := dk_89 (dk_at dksJ2_init_1 16 rfl rfl)
theorem dJ2_init_41 : decode cJ2_init 41 = .ok (.invokespecial 22, 3) := dk_183 0 22 (dk_at dksJ2_init_1 17 rfl rfl)
theorem dJ2_init_44 : decode cJ2_init 44 = .ok (.ldc 23, 2) := dk_18 23 (dk_at dksJ2_init_1 20 rfl rfl)
theorem dJ2_init_46 : decode cJ2_init 46 = .ok (.invokevirtual 25, 3) := dk_182 0 25 (dk_at dksJ2_init_2 0 rfl rfl)
theorem dJ2_init_49 : decode cJ2_init 49 = .ok (.iload_n 1, 1) := dk_27 (dk_at dksJ2_init_2 3 rfl rfl)
theorem dJ2_init_50 : decode cJ2_init 50 = .ok (.invokevirtual 29, 3) := dk_182 0 29 (dk_at dksJ2_init_2 4 rfl rfl)
theorem dJ2_init_53 : decode cJ2_init 53 = .ok (.invokevirtual 32, 3) := dk_182 0 32 (dk_at dksJ2_init_2 7 rfl rfl)
theorem dJ2_init_56 : decode cJ2_init 56 = .ok (.invokespecial 36, 3) := dk_183 0 36 (dk_at dksJ2_init_2 10 rfl rfl)
theorem dJ2_init_59 : decode cJ2_init 59 = .ok (.athrow, 1) := dk_191 (dk_at dksJ2_init_2 13 rfl rfl)
theorem dJ2_init_60 : decode cJ2_init 60 = .ok (.return_, 1) := dk_177 (dk_at dksJ2_init_2 14 rfl rfl)
abbrev cJ2_size : ByteArray := prog_45_method_8_code
def yJ2_size : MethodName := ⟨RJ2, "size", "()I"⟩
theorem dJ2_size_0 : decode cJ2_size 0 = .ok (.aload_n 0, 1) := by decide +kernel
theorem dJ2_size_1 : decode cJ2_size 1 = .ok (.getfield 48, 3) := by decide +kernel
theorem dJ2_size_4 : decode cJ2_size 4 = .ok (.ireturn, 1) := by decide +kernel
abbrev cJ2_get : ByteArray := prog_45_method_20_code
def yJ2_get : MethodName := ⟨RJ2, "get", "(I)Ljava/lang/Object;"⟩
def dkwJ2_get_0 : List UInt8 := [27, 42, 180, 0, 48, 184, 0, 118, 87, 42, 27, 182, 0, 123, 176]
abbrev dktJ2_get_0 : List UInt8 := dkwJ2_get_0 ++ []
theorem dksJ2_get_0 : cJ2_get.data.toList.drop 0 = dktJ2_get_0 := by decide +kernel
theorem dJ2_get_0 : decode cJ2_get 0 = .ok (.iload_n 1, 1) := dk_27 (dk_at dksJ2_get_0 0 rfl rfl)
theorem dJ2_get_1 : decode cJ2_get 1 = .ok (.aload_n 0, 1) := dk_42 (dk_at dksJ2_get_0 1 rfl rfl)
theorem dJ2_get_2 : decode cJ2_get 2 = .ok (.getfield 48, 3) := dk_180 0 48 (dk_at dksJ2_get_0 2 rfl rfl)
theorem dJ2_get_5 : decode cJ2_get 5 = .ok (.invokestatic 118, 3) := dk_184 0 118 (dk_at dksJ2_get_0 5 rfl rfl)
theorem dJ2_get_8 : decode cJ2_get 8 = .ok (.pop, 1) := dk_87 (dk_at dksJ2_get_0 8 rfl rfl)
theorem dJ2_get_9 : decode cJ2_get 9 = .ok (.aload_n 0, 1) := dk_42 (dk_at dksJ2_get_0 9 rfl rfl)
theorem dJ2_get_10 : decode cJ2_get 10 = .ok (.iload_n 1, 1) := dk_27 (dk_at dksJ2_get_0 10 rfl rfl)
theorem dJ2_get_11 : decode cJ2_get 11 = .ok (.invokevirtual 123, 3) := dk_182 0 123 (dk_at dksJ2_get_0 11 rfl rfl)
theorem dJ2_get_14 : decode cJ2_get 14 = .ok (.areturn, 1) := dk_176 (dk_at dksJ2_get_0 14 rfl rfl)
abbrev cJ2_elementData : ByteArray := prog_45_method_18_code
def yJ2_elementData : MethodName := ⟨RJ2, "elementData", "(I)Ljava/lang/Object;"⟩
def dkwJ2_elementData_0 : List UInt8 := [42, 180, 0, 9, 27, 50, 176]
abbrev dktJ2_elementData_0 : List UInt8 := dkwJ2_elementData_0 ++ []
theorem dksJ2_elementData_0 : cJ2_elementData.data.toList.drop 0 = dktJ2_elementData_0 := by decide +kernel
theorem dJ2_elementData_0 : decode cJ2_elementData 0 = .ok (.aload_n 0, 1) := dk_42 (dk_at dksJ2_elementData_0 0 rfl rfl)
theorem dJ2_elementData_1 : decode cJ2_elementData 1 = .ok (.getfield 9, 3) := dk_180 0 9 (dk_at dksJ2_elementData_0 1 rfl rfl)
theorem dJ2_elementData_4 : decode cJ2_elementData 4 = .ok (.iload_n 1, 1) := dk_27 (dk_at dksJ2_elementData_0 4 rfl rfl)
theorem dJ2_elementData_5 : decode cJ2_elementData 5 = .ok (.aaload, 1) := dk_50 (dk_at dksJ2_elementData_0 5 rfl rfl)
theorem dJ2_elementData_6 : decode cJ2_elementData 6 = .ok (.areturn, 1) := dk_176 (dk_at dksJ2_elementData_0 6 rfl rfl)
abbrev cJ2_add : ByteArray := prog_45_method_25_code
def yJ2_add : MethodName := ⟨RJ2, "add", "(Ljava/lang/Object;)Z"⟩
def dkwJ2_add_1 : List UInt8 := [172]
abbrev dktJ2_add_1 : List UInt8 := dkwJ2_add_1 ++ []
def dkwJ2_add_0 : List UInt8 := [42, 89, 180, 0, 63, 4, 96, 181, 0, 63, 42, 43, 42, 180, 0, 9, 42, 180, 0, 48, 182, 0, 131, 4]
abbrev dktJ2_add_0 : List UInt8 := dkwJ2_add_0 ++ dktJ2_add_1
theorem dksJ2_add_0 : cJ2_add.data.toList.drop 0 = dktJ2_add_0 := by decide +kernel
theorem dksJ2_add_1 : cJ2_add.data.toList.drop 24 = dktJ2_add_1 := dk_seg dksJ2_add_0 24 rfl rfl
theorem dJ2_add_0 : decode cJ2_add 0 = .ok (.aload_n 0, 1) := dk_42 (dk_at dksJ2_add_0 0 rfl rfl)
theorem dJ2_add_1 : decode cJ2_add 1 = .ok (.dup, 1) := dk_89 (dk_at dksJ2_add_0 1 rfl rfl)
theorem dJ2_add_2 : decode cJ2_add 2 = .ok (.getfield 63, 3) := dk_180 0 63 (dk_at dksJ2_add_0 2 rfl rfl)
theorem dJ2_add_5 : decode cJ2_add 5 = .ok (.iconst 1, 1) := dk_4 (dk_at dksJ2_add_0 5 rfl rfl)
theorem dJ2_add_6 : decode cJ2_add 6 = .ok (.iadd, 1) := dk_96 (dk_at dksJ2_add_0 6 rfl rfl)
theorem dJ2_add_7 : decode cJ2_add 7 = .ok (.putfield 63, 3) := dk_181 0 63 (dk_at dksJ2_add_0 7 rfl rfl)
theorem dJ2_add_10 : decode cJ2_add 10 = .ok (.aload_n 0, 1) := dk_42 (dk_at dksJ2_add_0 10 rfl rfl)
theorem dJ2_add_11 : decode cJ2_add 11 = .ok (.aload_n 1, 1) := dk_43 (dk_at dksJ2_add_0 11 rfl rfl)
theorem dJ2_add_12 : decode cJ2_add 12 = .ok (.aload_n 0, 1) := dk_42 (dk_at dksJ2_add_0 12 rfl rfl)
theorem dJ2_add_13 : decode cJ2_add 13 = .ok (.getfield 9, 3) := dk_180 0 9 (dk_at dksJ2_add_0 13 rfl rfl)
theorem dJ2_add_16 : decode cJ2_add 16 = .ok (.aload_n 0, 1) := dk_42 (dk_at dksJ2_add_0 16 rfl rfl)
theorem dJ2_add_17 : decode cJ2_add 17 = .ok (.getfield 48, 3) := dk_180 0 48 (dk_at dksJ2_add_0 17 rfl rfl)
theorem dJ2_add_20 : decode cJ2_add 20 = .ok (.invokevirtual 131, 3) := dk_182 0 131 (dk_at dksJ2_add_0 20 rfl rfl)
theorem dJ2_add_23 : decode cJ2_add 23 = .ok (.iconst 1, 1) := dk_4 (dk_at dksJ2_add_0 23 rfl rfl)
theorem dJ2_add_24 : decode cJ2_add 24 = .ok (.ireturn, 1) := dk_172 (dk_at dksJ2_add_1 0 rfl rfl)
abbrev cJ2_add_2 : ByteArray := prog_45_method_24_code
def yJ2_add_2 : MethodName := ⟨RJ2, "add", "(Ljava/lang/Object;[Ljava/lang/Object;I)V"⟩
def dkwJ2_add_2_0 : List UInt8 := [29, 44, 190, 160, 0, 8, 42, 182, 0, 129, 77, 44, 29, 43, 83, 42, 29, 4, 96, 181, 0, 48, 177]
abbrev dktJ2_add_2_0 : List UInt8 := dkwJ2_add_2_0 ++ []
theorem dksJ2_add_2_0 : cJ2_add_2.data.toList.drop 0 = dktJ2_add_2_0 := by decide +kernel
theorem dJ2_add_2_0 : decode cJ2_add_2 0 = .ok (.iload_n 3, 1) := dk_29 (dk_at dksJ2_add_2_0 0 rfl rfl)
theorem dJ2_add_2_1 : decode cJ2_add_2 1 = .ok (.aload_n 2, 1) := dk_44 (dk_at dksJ2_add_2_0 1 rfl rfl)
theorem dJ2_add_2_2 : decode cJ2_add_2 2 = .ok (.arraylength, 1) := dk_190 (dk_at dksJ2_add_2_0 2 rfl rfl)
theorem dJ2_add_2_3 : decode cJ2_add_2 3 = .ok (.if_icmp .ne 8, 3) := dk_160 0 8 (dk_at dksJ2_add_2_0 3 rfl rfl)
theorem dJ2_add_2_6 : decode cJ2_add_2 6 = .ok (.aload_n 0, 1) := dk_42 (dk_at dksJ2_add_2_0 6 rfl rfl)
theorem dJ2_add_2_7 : decode cJ2_add_2 7 = .ok (.invokevirtual 129, 3) := dk_182 0 129 (dk_at dksJ2_add_2_0 7 rfl rfl)
theorem dJ2_add_2_10 : decode cJ2_add_2 10 = .ok (.astore_n 2, 1) := dk_77 (dk_at dksJ2_add_2_0 10 rfl rfl)
theorem dJ2_add_2_11 : decode cJ2_add_2 11 = .ok (.aload_n 2, 1) := dk_44 (dk_at dksJ2_add_2_0 11 rfl rfl)
theorem dJ2_add_2_12 : decode cJ2_add_2 12 = .ok (.iload_n 3, 1) := dk_29 (dk_at dksJ2_add_2_0 12 rfl rfl)
theorem dJ2_add_2_13 : decode cJ2_add_2 13 = .ok (.aload_n 1, 1) := dk_43 (dk_at dksJ2_add_2_0 13 rfl rfl)
theorem dJ2_add_2_14 : decode cJ2_add_2 14 = .ok (.aastore, 1) := dk_83 (dk_at dksJ2_add_2_0 14 rfl rfl)
theorem dJ2_add_2_15 : decode cJ2_add_2 15 = .ok (.aload_n 0, 1) := dk_42 (dk_at dksJ2_add_2_0 15 rfl rfl)
theorem dJ2_add_2_16 : decode cJ2_add_2 16 = .ok (.iload_n 3, 1) := dk_29 (dk_at dksJ2_add_2_0 16 rfl rfl)
theorem dJ2_add_2_17 : decode cJ2_add_2 17 = .ok (.iconst 1, 1) := dk_4 (dk_at dksJ2_add_2_0 17 rfl rfl)
theorem dJ2_add_2_18 : decode cJ2_add_2 18 = .ok (.iadd, 1) := dk_96 (dk_at dksJ2_add_2_0 18 rfl rfl)
theorem dJ2_add_2_19 : decode cJ2_add_2 19 = .ok (.putfield 48, 3) := dk_181 0 48 (dk_at dksJ2_add_2_0 19 rfl rfl)
theorem dJ2_add_2_22 : decode cJ2_add_2 22 = .ok (.return_, 1) := dk_177 (dk_at dksJ2_add_2_0 22 rfl rfl)
abbrev cJ2_grow : ByteArray := prog_45_method_7_code
def yJ2_grow : MethodName := ⟨RJ2, "grow", "()[Ljava/lang/Object;"⟩
def dkwJ2_grow_0 : List UInt8 := [42, 42, 180, 0, 48, 4, 96, 182, 0, 69, 176]
abbrev dktJ2_grow_0 : List UInt8 := dkwJ2_grow_0 ++ []
theorem dksJ2_grow_0 : cJ2_grow.data.toList.drop 0 = dktJ2_grow_0 := by decide +kernel
theorem dJ2_grow_0 : decode cJ2_grow 0 = .ok (.aload_n 0, 1) := dk_42 (dk_at dksJ2_grow_0 0 rfl rfl)
theorem dJ2_grow_1 : decode cJ2_grow 1 = .ok (.aload_n 0, 1) := dk_42 (dk_at dksJ2_grow_0 1 rfl rfl)
theorem dJ2_grow_2 : decode cJ2_grow 2 = .ok (.getfield 48, 3) := dk_180 0 48 (dk_at dksJ2_grow_0 2 rfl rfl)
theorem dJ2_grow_5 : decode cJ2_grow 5 = .ok (.iconst 1, 1) := dk_4 (dk_at dksJ2_grow_0 5 rfl rfl)
theorem dJ2_grow_6 : decode cJ2_grow 6 = .ok (.iadd, 1) := dk_96 (dk_at dksJ2_grow_0 6 rfl rfl)
theorem dJ2_grow_7 : decode cJ2_grow 7 = .ok (.invokevirtual 69, 3) := dk_182 0 69 (dk_at dksJ2_grow_0 7 rfl rfl)
theorem dJ2_grow_10 : decode cJ2_grow 10 = .ok (.areturn, 1) := dk_176 (dk_at dksJ2_grow_0 10 rfl rfl)
abbrev cJ2_grow_2 : ByteArray := prog_45_method_6_code
def yJ2_grow_2 : MethodName := ⟨RJ2, "grow", "(I)[Ljava/lang/Object;"⟩
def dkwJ2_grow_2_2 : List UInt8 := [27, 184, 0, 79, 189, 0, 7, 90, 181, 0, 9, 176]
abbrev dktJ2_grow_2_2 : List UInt8 := dkwJ2_grow_2_2 ++ []
def dkwJ2_grow_2_1 : List UInt8 := [28, 4, 122, 184, 0, 73, 62, 42, 42, 180, 0, 9, 29, 184, 0, 66, 90, 181, 0, 9, 176, 42, 16, 10]
abbrev dktJ2_grow_2_1 : List UInt8 := dkwJ2_grow_2_1 ++ dktJ2_grow_2_2
def dkwJ2_grow_2_0 : List UInt8 := [42, 180, 0, 9, 190, 61, 28, 157, 0, 13, 42, 180, 0, 9, 178, 0, 39, 165, 0, 28, 28, 27, 28, 100]
abbrev dktJ2_grow_2_0 : List UInt8 := dkwJ2_grow_2_0 ++ dktJ2_grow_2_1
theorem dksJ2_grow_2_0 : cJ2_grow_2.data.toList.drop 0 = dktJ2_grow_2_0 := by decide +kernel
theorem dksJ2_grow_2_1 : cJ2_grow_2.data.toList.drop 24 = dktJ2_grow_2_1 := dk_seg dksJ2_grow_2_0 24 rfl rfl
theorem dksJ2_grow_2_2 : cJ2_grow_2.data.toList.drop 48 = dktJ2_grow_2_2 := dk_seg dksJ2_grow_2_1 24 rfl rfl
theorem dJ2_grow_2_0 : decode cJ2_grow_2 0 = .ok (.aload_n 0, 1) := dk_42 (dk_at dksJ2_grow_2_0 0 rfl rfl)
theorem dJ2_grow_2_1 : decode cJ2_grow_2 1 = .ok (.getfield 9, 3) := dk_180 0 9 (dk_at dksJ2_grow_2_0 1 rfl rfl)
theorem dJ2_grow_2_4 : decode cJ2_grow_2 4 = .ok (.arraylength, 1) := dk_190 (dk_at dksJ2_grow_2_0 4 rfl rfl)
theorem dJ2_grow_2_5 : decode cJ2_grow_2 5 = .ok (.istore_n 2, 1) := dk_61 (dk_at dksJ2_grow_2_0 5 rfl rfl)
theorem dJ2_grow_2_6 : decode cJ2_grow_2 6 = .ok (.iload_n 2, 1) := dk_28 (dk_at dksJ2_grow_2_0 6 rfl rfl)
theorem dJ2_grow_2_7 : decode cJ2_grow_2 7 = .ok (.ifCond .gt 13, 3) := dk_157 0 13 (dk_at dksJ2_grow_2_0 7 rfl rfl)
theorem dJ2_grow_2_10 : decode cJ2_grow_2 10 = .ok (.aload_n 0, 1) := dk_42 (dk_at dksJ2_grow_2_0 10 rfl rfl)
theorem dJ2_grow_2_11 : decode cJ2_grow_2 11 = .ok (.getfield 9, 3) := dk_180 0 9 (dk_at dksJ2_grow_2_0 11 rfl rfl)
theorem dJ2_grow_2_14 : decode cJ2_grow_2 14 = .ok (.getstatic 39, 3) := dk_178 0 39 (dk_at dksJ2_grow_2_0 14 rfl rfl)
theorem dJ2_grow_2_17 : decode cJ2_grow_2 17 = .ok (.if_acmp .eq 28, 3) := dk_165 0 28 (dk_at dksJ2_grow_2_0 17 rfl rfl)
theorem dJ2_grow_2_20 : decode cJ2_grow_2 20 = .ok (.iload_n 2, 1) := dk_28 (dk_at dksJ2_grow_2_0 20 rfl rfl)
theorem dJ2_grow_2_21 : decode cJ2_grow_2 21 = .ok (.iload_n 1, 1) := dk_27 (dk_at dksJ2_grow_2_0 21 rfl rfl)
theorem dJ2_grow_2_22 : decode cJ2_grow_2 22 = .ok (.iload_n 2, 1) := dk_28 (dk_at dksJ2_grow_2_0 22 rfl rfl)
theorem dJ2_grow_2_23 : decode cJ2_grow_2 23 = .ok (.isub, 1) := dk_100 (dk_at dksJ2_grow_2_0 23 rfl rfl)
theorem dJ2_grow_2_24 : decode cJ2_grow_2 24 = .ok (.iload_n 2, 1) := dk_28 (dk_at dksJ2_grow_2_1 0 rfl rfl)
theorem dJ2_grow_2_25 : decode cJ2_grow_2 25 = .ok (.iconst 1, 1) := dk_4 (dk_at dksJ2_grow_2_1 1 rfl rfl)
theorem dJ2_grow_2_26 : decode cJ2_grow_2 26 = .ok (.ishr, 1) := dk_122 (dk_at dksJ2_grow_2_1 2 rfl rfl)
theorem dJ2_grow_2_27 : decode cJ2_grow_2 27 = .ok (.invokestatic 73, 3) := dk_184 0 73 (dk_at dksJ2_grow_2_1 3 rfl rfl)
theorem dJ2_grow_2_30 : decode cJ2_grow_2 30 = .ok (.istore_n 3, 1) := dk_62 (dk_at dksJ2_grow_2_1 6 rfl rfl)
theorem dJ2_grow_2_31 : decode cJ2_grow_2 31 = .ok (.aload_n 0, 1) := dk_42 (dk_at dksJ2_grow_2_1 7 rfl rfl)
theorem dJ2_grow_2_32 : decode cJ2_grow_2 32 = .ok (.aload_n 0, 1) := dk_42 (dk_at dksJ2_grow_2_1 8 rfl rfl)
theorem dJ2_grow_2_33 : decode cJ2_grow_2 33 = .ok (.getfield 9, 3) := dk_180 0 9 (dk_at dksJ2_grow_2_1 9 rfl rfl)
theorem dJ2_grow_2_36 : decode cJ2_grow_2 36 = .ok (.iload_n 3, 1) := dk_29 (dk_at dksJ2_grow_2_1 12 rfl rfl)
theorem dJ2_grow_2_37 : decode cJ2_grow_2 37 = .ok (.invokestatic 66, 3) := dk_184 0 66 (dk_at dksJ2_grow_2_1 13 rfl rfl)
theorem dJ2_grow_2_40 : decode cJ2_grow_2 40 = .ok (.dup_x1, 1) := dk_90 (dk_at dksJ2_grow_2_1 16 rfl rfl)
theorem dJ2_grow_2_41 : decode cJ2_grow_2 41 = .ok (.putfield 9, 3) := dk_181 0 9 (dk_at dksJ2_grow_2_1 17 rfl rfl)
theorem dJ2_grow_2_44 : decode cJ2_grow_2 44 = .ok (.areturn, 1) := dk_176 (dk_at dksJ2_grow_2_1 20 rfl rfl)
theorem dJ2_grow_2_45 : decode cJ2_grow_2 45 = .ok (.aload_n 0, 1) := dk_42 (dk_at dksJ2_grow_2_1 21 rfl rfl)
theorem dJ2_grow_2_46 : decode cJ2_grow_2 46 = .ok (.bipush 10, 2) := dk_16 10 (dk_at dksJ2_grow_2_1 22 rfl rfl)
theorem dJ2_grow_2_48 : decode cJ2_grow_2 48 = .ok (.iload_n 1, 1) := dk_27 (dk_at dksJ2_grow_2_2 0 rfl rfl)
theorem dJ2_grow_2_49 : decode cJ2_grow_2 49 = .ok (.invokestatic 79, 3) := dk_184 0 79 (dk_at dksJ2_grow_2_2 1 rfl rfl)
theorem dJ2_grow_2_52 : decode cJ2_grow_2 52 = .ok (.anewarray 7, 3) := dk_189 0 7 (dk_at dksJ2_grow_2_2 4 rfl rfl)
theorem dJ2_grow_2_55 : decode cJ2_grow_2 55 = .ok (.dup_x1, 1) := dk_90 (dk_at dksJ2_grow_2_2 7 rfl rfl)
theorem dJ2_grow_2_56 : decode cJ2_grow_2 56 = .ok (.putfield 9, 3) := dk_181 0 9 (dk_at dksJ2_grow_2_2 8 rfl rfl)
theorem dJ2_grow_2_59 : decode cJ2_grow_2 59 = .ok (.areturn, 1) := dk_176 (dk_at dksJ2_grow_2_2 11 rfl rfl)
abbrev cJ2_clear : ByteArray := prog_45_method_40_code
def yJ2_clear : MethodName := ⟨RJ2, "clear", "()V"⟩
def dkwJ2_clear_1 : List UInt8 := [181, 0, 48, 62, 29, 28, 162, 0, 13, 43, 29, 1, 83, 132, 3, 1, 167, 255, 244, 177]
abbrev dktJ2_clear_1 : List UInt8 := dkwJ2_clear_1 ++ []
def dkwJ2_clear_0 : List UInt8 := [42, 89, 180, 0, 63, 4, 96, 181, 0, 63, 42, 180, 0, 9, 76, 42, 180, 0, 48, 61, 42, 3, 90]
abbrev dktJ2_clear_0 : List UInt8 := dkwJ2_clear_0 ++ dktJ2_clear_1
theorem dksJ2_clear_0 : cJ2_clear.data.toList.drop 0 = dktJ2_clear_0 := by decide +kernel
theorem dksJ2_clear_1 : cJ2_clear.data.toList.drop 23 = dktJ2_clear_1 := dk_seg dksJ2_clear_0 23 rfl rfl
theorem dJ2_clear_0 : decode cJ2_clear 0 = .ok (.aload_n 0, 1) := dk_42 (dk_at dksJ2_clear_0 0 rfl rfl)
theorem dJ2_clear_1 : decode cJ2_clear 1 = .ok (.dup, 1) := dk_89 (dk_at dksJ2_clear_0 1 rfl rfl)
theorem dJ2_clear_2 : decode cJ2_clear 2 = .ok (.getfield 63, 3) := dk_180 0 63 (dk_at dksJ2_clear_0 2 rfl rfl)
theorem dJ2_clear_5 : decode cJ2_clear 5 = .ok (.iconst 1, 1) := dk_4 (dk_at dksJ2_clear_0 5 rfl rfl)
theorem dJ2_clear_6 : decode cJ2_clear 6 = .ok (.iadd, 1) := dk_96 (dk_at dksJ2_clear_0 6 rfl rfl)
theorem dJ2_clear_7 : decode cJ2_clear 7 = .ok (.putfield 63, 3) := dk_181 0 63 (dk_at dksJ2_clear_0 7 rfl rfl)
theorem dJ2_clear_10 : decode cJ2_clear 10 = .ok (.aload_n 0, 1) := dk_42 (dk_at dksJ2_clear_0 10 rfl rfl)
theorem dJ2_clear_11 : decode cJ2_clear 11 = .ok (.getfield 9, 3) := dk_180 0 9 (dk_at dksJ2_clear_0 11 rfl rfl)
theorem dJ2_clear_14 : decode cJ2_clear 14 = .ok (.astore_n 1, 1) := dk_76 (dk_at dksJ2_clear_0 14 rfl rfl)
theorem dJ2_clear_15 : decode cJ2_clear 15 = .ok (.aload_n 0, 1) := dk_42 (dk_at dksJ2_clear_0 15 rfl rfl)
theorem dJ2_clear_16 : decode cJ2_clear 16 = .ok (.getfield 48, 3) := dk_180 0 48 (dk_at dksJ2_clear_0 16 rfl rfl)
theorem dJ2_clear_19 : decode cJ2_clear 19 = .ok (.istore_n 2, 1) := dk_61 (dk_at dksJ2_clear_0 19 rfl rfl)
theorem dJ2_clear_20 : decode cJ2_clear 20 = .ok (.aload_n 0, 1) := dk_42 (dk_at dksJ2_clear_0 20 rfl rfl)
theorem dJ2_clear_21 : decode cJ2_clear 21 = .ok (.iconst 0, 1) := dk_3 (dk_at dksJ2_clear_0 21 rfl rfl)
theorem dJ2_clear_22 : decode cJ2_clear 22 = .ok (.dup_x1, 1) := dk_90 (dk_at dksJ2_clear_0 22 rfl rfl)
theorem dJ2_clear_23 : decode cJ2_clear 23 = .ok (.putfield 48, 3) := dk_181 0 48 (dk_at dksJ2_clear_1 0 rfl rfl)
theorem dJ2_clear_26 : decode cJ2_clear 26 = .ok (.istore_n 3, 1) := dk_62 (dk_at dksJ2_clear_1 3 rfl rfl)
theorem dJ2_clear_27 : decode cJ2_clear 27 = .ok (.iload_n 3, 1) := dk_29 (dk_at dksJ2_clear_1 4 rfl rfl)
theorem dJ2_clear_28 : decode cJ2_clear 28 = .ok (.iload_n 2, 1) := dk_28 (dk_at dksJ2_clear_1 5 rfl rfl)
theorem dJ2_clear_29 : decode cJ2_clear 29 = .ok (.if_icmp .ge 13, 3) := dk_162 0 13 (dk_at dksJ2_clear_1 6 rfl rfl)
theorem dJ2_clear_32 : decode cJ2_clear 32 = .ok (.aload_n 1, 1) := dk_43 (dk_at dksJ2_clear_1 9 rfl rfl)
theorem dJ2_clear_33 : decode cJ2_clear 33 = .ok (.iload_n 3, 1) := dk_29 (dk_at dksJ2_clear_1 10 rfl rfl)
theorem dJ2_clear_34 : decode cJ2_clear 34 = .ok (.aconst_null, 1) := dk_1 (dk_at dksJ2_clear_1 11 rfl rfl)
theorem dJ2_clear_35 : decode cJ2_clear 35 = .ok (.aastore, 1) := dk_83 (dk_at dksJ2_clear_1 12 rfl rfl)
theorem dJ2_clear_36 : decode cJ2_clear 36 = .ok (.iinc 3 1, 3) := dk_132 3 1 (dk_at dksJ2_clear_1 13 rfl rfl)
theorem dJ2_clear_39 : decode cJ2_clear 39 = .ok (.goto (-12), 3) := dk_167 255 244 (dk_at dksJ2_clear_1 16 rfl rfl)
theorem dJ2_clear_42 : decode cJ2_clear 42 = .ok (.return_, 1) := dk_177 (dk_at dksJ2_clear_1 19 rfl rfl)
theorem q127 : (Jvm.Cond.initialized "java/util/ArrayList") ∈ lw_all := lw_g (lw_at lw_m1 5 rfl) rfl
theorem q171 : (Jvm.Cond.instantiable "java/util/ArrayList" (3 : Nat)) ∈ lw_all := lw_g (lw_at lw_m1 49 rfl) rfl
theorem q173 : (Jvm.Cond.instanceMethod ({ cls := "java/util/ArrayList", name := "<init>", desc := "(I)V" } : Jvm.MethodName)) ∈ lw_all := lw_g (lw_at lw_m1 51 rfl) rfl
theorem q174 : (Jvm.Cond.code ({ cls := "java/util/ArrayList", name := "<init>", desc := "(I)V" } : Jvm.MethodName) prog_45_method_1_code (2 : Nat) (Option.none : Option Jvm.ClassFile.FieldType)) ∈ lw_all := lw_g (lw_at lw_m1 52 rfl) rfl
theorem q175 : (Jvm.Cond.methodLink "java/util/ArrayList" (1 : Nat) ({ cls := "java/util/AbstractList", name := "<init>", desc := "()V" } : Jvm.MethodName)) ∈ lw_all := lw_g (lw_at lw_m1 53 rfl) rfl
theorem q182 : (Jvm.Cond.classLink "java/util/ArrayList" (7 : Nat) "java/lang/Object") ∈ lw_all := lw_g (lw_at lw_m1 60 rfl) rfl
theorem q184 : (Jvm.Cond.fieldLink "java/util/ArrayList" (15 : Nat) "java/util/ArrayList" "EMPTY_ELEMENTDATA" "[Ljava/lang/Object;") ∈ lw_all := lw_g (lw_at lw_m1 62 rfl) rfl
theorem q185 : (Jvm.Cond.laysStatic "java/util/ArrayList" "EMPTY_ELEMENTDATA" "[Ljava/lang/Object;") ∈ lw_tbl := lw_at lw_m1 63 rfl
theorem q186 : (Jvm.Cond.fieldLink "java/util/ArrayList" (9 : Nat) "java/util/ArrayList" "elementData" "[Ljava/lang/Object;") ∈ lw_all := lw_g (lw_at lw_m1 64 rfl) rfl
theorem q187 : (Jvm.Cond.fieldLink "java/util/ArrayList" (48 : Nat) "java/util/ArrayList" "size" "I") ∈ lw_all := lw_g (lw_at lw_m1 65 rfl) rfl
theorem q189 : (Jvm.Cond.fieldLink "java/util/ArrayList" (63 : Nat) "java/util/ArrayList" "modCount" "I") ∈ lw_all := lw_g (lw_at lw_m1 67 rfl) rfl
theorem q190 : (Jvm.Cond.sameField "java/util/ArrayList" "java/util/AbstractList" "modCount" "I") ∈ lw_all := lw_g (lw_at lw_m1 68 rfl) rfl
theorem q191 : (Jvm.Cond.lays "java/util/ArrayList" "java/util/ArrayList" "elementData" "[Ljava/lang/Object;") ∈ lw_all := lw_g (lw_at lw_m1 69 rfl) rfl
theorem q192 : (Jvm.Cond.soleField "java/util/ArrayList" "elementData") ∈ lw_all := lw_g (lw_at lw_m1 70 rfl) rfl
theorem q193 : (Jvm.Cond.lays "java/util/ArrayList" "java/util/ArrayList" "size" "I") ∈ lw_all := lw_g (lw_at lw_m1 71 rfl) rfl
theorem q194 : (Jvm.Cond.soleField "java/util/ArrayList" "size") ∈ lw_all := lw_g (lw_at lw_m1 72 rfl) rfl
theorem q195 : (Jvm.Cond.lays "java/util/ArrayList" "java/util/AbstractList" "modCount" "I") ∈ lw_all := lw_g (lw_at lw_m1 73 rfl) rfl
theorem q197 : (Jvm.Cond.superclass "java/util/ArrayList" "java/util/AbstractList") ∈ lw_all := lw_g (lw_at lw_m1 75 rfl) rfl
theorem q333 : (Jvm.Cond.instanceMethod ({ cls := "java/util/ArrayList", name := "size", desc := "()I" } : Jvm.MethodName)) ∈ lw_all := lw_g (lw_at lw_m1 211 rfl) rfl
theorem q334 : (Jvm.Cond.selects "java/util/ArrayList" ({ cls := "java/util/ArrayList", name := "size", desc := "()I" } : Jvm.MethodName) ({ cls := "java/util/ArrayList", name := "size", desc := "()I" } : Jvm.MethodName)) ∈ lw_all := lw_g (lw_at lw_m1 212 rfl) rfl
theorem q335 : (Jvm.Cond.code ({ cls := "java/util/ArrayList", name := "size", desc := "()I" } : Jvm.MethodName) prog_45_method_8_code (1 : Nat) (Option.some Jvm.ClassFile.FieldType.int)) ∈ lw_all := lw_g (lw_at lw_m1 213 rfl) rfl
theorem q345 : (Jvm.Cond.instanceMethod ({ cls := "java/util/ArrayList", name := "get", desc := "(I)Ljava/lang/Object;" } : Jvm.MethodName)) ∈ lw_all := lw_g (lw_at lw_m1 223 rfl) rfl
theorem q346 : (Jvm.Cond.selects "java/util/ArrayList" ({ cls := "java/util/ArrayList", name := "get", desc := "(I)Ljava/lang/Object;" } : Jvm.MethodName) ({ cls := "java/util/ArrayList", name := "get", desc := "(I)Ljava/lang/Object;" } : Jvm.MethodName)) ∈ lw_all := lw_g (lw_at lw_m1 224 rfl) rfl
theorem q347 : (Jvm.Cond.code ({ cls := "java/util/ArrayList", name := "get", desc := "(I)Ljava/lang/Object;" } : Jvm.MethodName) prog_45_method_20_code (2 : Nat) (Option.some (Jvm.ClassFile.FieldType.object "java/lang/Object"))) ∈ lw_all := lw_g (lw_at lw_m1 225 rfl) rfl
theorem q348 : (Jvm.Cond.methodLink "java/util/ArrayList" (118 : Nat) ({ cls := "java/util/Objects", name := "checkIndex", desc := "(II)I" } : Jvm.MethodName)) ∈ lw_all := lw_g (lw_at lw_m1 226 rfl) rfl
theorem q354 : (Jvm.Cond.methodLink "java/util/ArrayList" (123 : Nat) ({ cls := "java/util/ArrayList", name := "elementData", desc := "(I)Ljava/lang/Object;" } : Jvm.MethodName)) ∈ lw_all := lw_g (lw_at lw_m1 232 rfl) rfl
theorem q355 : (Jvm.Cond.instanceMethod ({ cls := "java/util/ArrayList", name := "elementData", desc := "(I)Ljava/lang/Object;" } : Jvm.MethodName)) ∈ lw_all := lw_g (lw_at lw_m1 233 rfl) rfl
theorem q356 : (Jvm.Cond.selects "java/util/ArrayList" ({ cls := "java/util/ArrayList", name := "elementData", desc := "(I)Ljava/lang/Object;" } : Jvm.MethodName) ({ cls := "java/util/ArrayList", name := "elementData", desc := "(I)Ljava/lang/Object;" } : Jvm.MethodName)) ∈ lw_all := lw_g (lw_at lw_m1 234 rfl) rfl
theorem q357 : (Jvm.Cond.code ({ cls := "java/util/ArrayList", name := "elementData", desc := "(I)Ljava/lang/Object;" } : Jvm.MethodName) prog_45_method_18_code (2 : Nat) (Option.some (Jvm.ClassFile.FieldType.object "java/lang/Object"))) ∈ lw_all := lw_g (lw_at lw_m1 235 rfl) rfl
theorem q933 : (Jvm.Cond.instanceMethod ({ cls := "java/util/ArrayList", name := "add", desc := "(Ljava/lang/Object;)Z" } : Jvm.MethodName)) ∈ lw_all := lw_g (lw_at lw_m4 91 rfl) rfl
theorem q934 : (Jvm.Cond.selects "java/util/ArrayList" ({ cls := "java/util/ArrayList", name := "add", desc := "(Ljava/lang/Object;)Z" } : Jvm.MethodName) ({ cls := "java/util/ArrayList", name := "add", desc := "(Ljava/lang/Object;)Z" } : Jvm.MethodName)) ∈ lw_all := lw_g (lw_at lw_m4 92 rfl) rfl
theorem q935 : (Jvm.Cond.code ({ cls := "java/util/ArrayList", name := "add", desc := "(Ljava/lang/Object;)Z" } : Jvm.MethodName) prog_45_method_25_code (2 : Nat) (Option.some Jvm.ClassFile.FieldType.boolean)) ∈ lw_all := lw_g (lw_at lw_m4 93 rfl) rfl
theorem q936 : (Jvm.Cond.methodLink "java/util/ArrayList" (131 : Nat) ({ cls := "java/util/ArrayList", name := "add", desc := "(Ljava/lang/Object;[Ljava/lang/Object;I)V" } : Jvm.MethodName)) ∈ lw_all := lw_g (lw_at lw_m4 94 rfl) rfl
theorem q937 : (Jvm.Cond.privateMethod ({ cls := "java/util/ArrayList", name := "add", desc := "(Ljava/lang/Object;[Ljava/lang/Object;I)V" } : Jvm.MethodName)) ∈ lw_tbl := lw_at lw_m4 95 rfl
theorem q938 : (Jvm.Cond.instanceMethod ({ cls := "java/util/ArrayList", name := "add", desc := "(Ljava/lang/Object;[Ljava/lang/Object;I)V" } : Jvm.MethodName)) ∈ lw_all := lw_g (lw_at lw_m4 96 rfl) rfl
theorem q939 : (Jvm.Cond.code ({ cls := "java/util/ArrayList", name := "add", desc := "(Ljava/lang/Object;[Ljava/lang/Object;I)V" } : Jvm.MethodName) prog_45_method_24_code (4 : Nat) (Option.none : Option Jvm.ClassFile.FieldType)) ∈ lw_all := lw_g (lw_at lw_m4 97 rfl) rfl
theorem q940 : (Jvm.Cond.methodLink "java/util/ArrayList" (129 : Nat) ({ cls := "java/util/ArrayList", name := "grow", desc := "()[Ljava/lang/Object;" } : Jvm.MethodName)) ∈ lw_all := lw_g (lw_at lw_m4 98 rfl) rfl
theorem q941 : (Jvm.Cond.privateMethod ({ cls := "java/util/ArrayList", name := "grow", desc := "()[Ljava/lang/Object;" } : Jvm.MethodName)) ∈ lw_tbl := lw_at lw_m4 99 rfl
theorem q942 : (Jvm.Cond.instanceMethod ({ cls := "java/util/ArrayList", name := "grow", desc := "()[Ljava/lang/Object;" } : Jvm.MethodName)) ∈ lw_all := lw_g (lw_at lw_m4 100 rfl) rfl
theorem q943 : (Jvm.Cond.code ({ cls := "java/util/ArrayList", name := "grow", desc := "()[Ljava/lang/Object;" } : Jvm.MethodName) prog_45_method_7_code (1 : Nat) (Option.some (Jvm.ClassFile.FieldType.array (Jvm.ClassFile.FieldType.object "java/lang/Object")))) ∈ lw_all := lw_g (lw_at lw_m4 101 rfl) rfl
theorem q944 : (Jvm.Cond.methodLink "java/util/ArrayList" (69 : Nat) ({ cls := "java/util/ArrayList", name := "grow", desc := "(I)[Ljava/lang/Object;" } : Jvm.MethodName)) ∈ lw_all := lw_g (lw_at lw_m4 102 rfl) rfl
theorem q945 : (Jvm.Cond.privateMethod ({ cls := "java/util/ArrayList", name := "grow", desc := "(I)[Ljava/lang/Object;" } : Jvm.MethodName)) ∈ lw_tbl := lw_at lw_m4 103 rfl
theorem q946 : (Jvm.Cond.instanceMethod ({ cls := "java/util/ArrayList", name := "grow", desc := "(I)[Ljava/lang/Object;" } : Jvm.MethodName)) ∈ lw_all := lw_g (lw_at lw_m4 104 rfl) rfl
theorem q947 : (Jvm.Cond.code ({ cls := "java/util/ArrayList", name := "grow", desc := "(I)[Ljava/lang/Object;" } : Jvm.MethodName) prog_45_method_6_code (4 : Nat) (Option.some (Jvm.ClassFile.FieldType.array (Jvm.ClassFile.FieldType.object "java/lang/Object")))) ∈ lw_all := lw_g (lw_at lw_m4 105 rfl) rfl
theorem q948 : (Jvm.Cond.fieldLink "java/util/ArrayList" (39 : Nat) "java/util/ArrayList" "DEFAULTCAPACITY_EMPTY_ELEMENTDATA" "[Ljava/lang/Object;") ∈ lw_all := lw_g (lw_at lw_m4 106 rfl) rfl
theorem q949 : (Jvm.Cond.laysStatic "java/util/ArrayList" "DEFAULTCAPACITY_EMPTY_ELEMENTDATA" "[Ljava/lang/Object;") ∈ lw_tbl := lw_at lw_m4 107 rfl
theorem q950 : (Jvm.Cond.methodLink "java/util/ArrayList" (73 : Nat) ({ cls := "jdk/internal/util/ArraysSupport", name := "newLength", desc := "(III)I" } : Jvm.MethodName)) ∈ lw_all := lw_g (lw_at lw_m4 108 rfl) rfl
theorem q951 : (Jvm.Cond.methodLink "java/util/ArrayList" (66 : Nat) ({ cls := "java/util/Arrays", name := "copyOf", desc := "([Ljava/lang/Object;I)[Ljava/lang/Object;" } : Jvm.MethodName)) ∈ lw_all := lw_g (lw_at lw_m4 109 rfl) rfl
theorem q978 : (Jvm.Cond.selects "java/util/ArrayList" ({ cls := "java/lang/Object", name := "getClass", desc := "()Ljava/lang/Class;" } : Jvm.MethodName) ({ cls := "java/lang/Object", name := "getClass", desc := "()Ljava/lang/Class;" } : Jvm.MethodName)) ∈ lw_all := lw_g (lw_at lw_m4 136 rfl) rfl
theorem q985 : (Jvm.Cond.methodLink "java/util/ArrayList" (79 : Nat) ({ cls := "java/lang/Math", name := "max", desc := "(II)I" } : Jvm.MethodName)) ∈ lw_all := lw_g (lw_at lw_m4 143 rfl) rfl
theorem q1111 : (Jvm.Cond.instanceMethod ({ cls := "java/util/ArrayList", name := "clear", desc := "()V" } : Jvm.MethodName)) ∈ lw_all := lw_g (lw_at lw_m5 29 rfl) rfl
theorem q1112 : (Jvm.Cond.selects "java/util/ArrayList" ({ cls := "java/util/ArrayList", name := "clear", desc := "()V" } : Jvm.MethodName) ({ cls := "java/util/ArrayList", name := "clear", desc := "()V" } : Jvm.MethodName)) ∈ lw_all := lw_g (lw_at lw_m5 30 rfl) rfl
theorem q1113 : (Jvm.Cond.code ({ cls := "java/util/ArrayList", name := "clear", desc := "()V" } : Jvm.MethodName) prog_45_method_40_code (4 : Nat) (Option.none : Option Jvm.ClassFile.FieldType)) ∈ lw_all := lw_g (lw_at lw_m5 31 rfl) rfl
theorem q2263 : (Jvm.Cond.castable "java/util/ArrayList" "java/lang/Object") ∈ lw_tbl := lw_at lw_m9 221 rfl
theorem in_J2 : ∀ w ∈ wsJ20, w ∈ lw_all := lw_in wsJ20 [195, 191, 193] (by decide +kernel) (by decide +kernel)

/-! java/util/Objects -/
set_option maxRecDepth 100000
def RJ3 : String := "java/util/Objects"
abbrev cJ3_checkIndex : ByteArray := prog_49_method_17_code
def yJ3_checkIndex : MethodName := ⟨RJ3, "checkIndex", "(II)I"⟩
def dkwJ3_checkIndex_0 : List UInt8 := [26, 27, 1, 184, 0, 105, 172]
abbrev dktJ3_checkIndex_0 : List UInt8 := dkwJ3_checkIndex_0 ++ []
theorem dksJ3_checkIndex_0 : cJ3_checkIndex.data.toList.drop 0 = dktJ3_checkIndex_0 := by decide +kernel
theorem dJ3_checkIndex_0 : decode cJ3_checkIndex 0 = .ok (.iload_n 0, 1) := dk_26 (dk_at dksJ3_checkIndex_0 0 rfl rfl)
theorem dJ3_checkIndex_1 : decode cJ3_checkIndex 1 = .ok (.iload_n 1, 1) := dk_27 (dk_at dksJ3_checkIndex_0 1 rfl rfl)
theorem dJ3_checkIndex_2 : decode cJ3_checkIndex 2 = .ok (.aconst_null, 1) := dk_1 (dk_at dksJ3_checkIndex_0 2 rfl rfl)
theorem dJ3_checkIndex_3 : decode cJ3_checkIndex 3 = .ok (.invokestatic 105, 3) := dk_184 0 105 (dk_at dksJ3_checkIndex_0 3 rfl rfl)
theorem dJ3_checkIndex_6 : decode cJ3_checkIndex 6 = .ok (.ireturn, 1) := dk_172 (dk_at dksJ3_checkIndex_0 6 rfl rfl)
theorem q130 : (Jvm.Cond.initialized "java/util/Objects") ∈ lw_all := lw_g (lw_at lw_m1 8 rfl) rfl
theorem q349 : (Jvm.Cond.static ({ cls := "java/util/Objects", name := "checkIndex", desc := "(II)I" } : Jvm.MethodName)) ∈ lw_all := lw_g (lw_at lw_m1 227 rfl) rfl
theorem q350 : (Jvm.Cond.code ({ cls := "java/util/Objects", name := "checkIndex", desc := "(II)I" } : Jvm.MethodName) prog_49_method_17_code (2 : Nat) (Option.some Jvm.ClassFile.FieldType.int)) ∈ lw_all := lw_g (lw_at lw_m1 228 rfl) rfl
theorem q351 : (Jvm.Cond.methodLink "java/util/Objects" (105 : Nat) ({ cls := "jdk/internal/util/Preconditions", name := "checkIndex", desc := "(IILjava/util/function/BiFunction;)I" } : Jvm.MethodName)) ∈ lw_all := lw_g (lw_at lw_m1 229 rfl) rfl

/-! jdk/internal/util/Preconditions -/
set_option maxRecDepth 100000
def RJ4 : String := "jdk/internal/util/Preconditions"
abbrev cJ4_checkIndex : ByteArray := prog_54_method_11_code
def yJ4_checkIndex : MethodName := ⟨RJ4, "checkIndex", "(IILjava/util/function/BiFunction;)I"⟩
def dkwJ4_checkIndex_0 : List UInt8 := [26, 155, 0, 8, 26, 27, 161, 0, 10, 44, 26, 27, 184, 0, 95, 191, 26, 172]
abbrev dktJ4_checkIndex_0 : List UInt8 := dkwJ4_checkIndex_0 ++ []
theorem dksJ4_checkIndex_0 : cJ4_checkIndex.data.toList.drop 0 = dktJ4_checkIndex_0 := by decide +kernel
theorem dJ4_checkIndex_0 : decode cJ4_checkIndex 0 = .ok (.iload_n 0, 1) := dk_26 (dk_at dksJ4_checkIndex_0 0 rfl rfl)
theorem dJ4_checkIndex_1 : decode cJ4_checkIndex 1 = .ok (.ifCond .lt 8, 3) := dk_155 0 8 (dk_at dksJ4_checkIndex_0 1 rfl rfl)
theorem dJ4_checkIndex_4 : decode cJ4_checkIndex 4 = .ok (.iload_n 0, 1) := dk_26 (dk_at dksJ4_checkIndex_0 4 rfl rfl)
theorem dJ4_checkIndex_5 : decode cJ4_checkIndex 5 = .ok (.iload_n 1, 1) := dk_27 (dk_at dksJ4_checkIndex_0 5 rfl rfl)
theorem dJ4_checkIndex_6 : decode cJ4_checkIndex 6 = .ok (.if_icmp .lt 10, 3) := dk_161 0 10 (dk_at dksJ4_checkIndex_0 6 rfl rfl)
theorem dJ4_checkIndex_9 : decode cJ4_checkIndex 9 = .ok (.aload_n 2, 1) := dk_44 (dk_at dksJ4_checkIndex_0 9 rfl rfl)
theorem dJ4_checkIndex_10 : decode cJ4_checkIndex 10 = .ok (.iload_n 0, 1) := dk_26 (dk_at dksJ4_checkIndex_0 10 rfl rfl)
theorem dJ4_checkIndex_11 : decode cJ4_checkIndex 11 = .ok (.iload_n 1, 1) := dk_27 (dk_at dksJ4_checkIndex_0 11 rfl rfl)
theorem dJ4_checkIndex_12 : decode cJ4_checkIndex 12 = .ok (.invokestatic 95, 3) := dk_184 0 95 (dk_at dksJ4_checkIndex_0 12 rfl rfl)
theorem dJ4_checkIndex_15 : decode cJ4_checkIndex 15 = .ok (.athrow, 1) := dk_191 (dk_at dksJ4_checkIndex_0 15 rfl rfl)
theorem dJ4_checkIndex_16 : decode cJ4_checkIndex 16 = .ok (.iload_n 0, 1) := dk_26 (dk_at dksJ4_checkIndex_0 16 rfl rfl)
theorem dJ4_checkIndex_17 : decode cJ4_checkIndex 17 = .ok (.ireturn, 1) := dk_172 (dk_at dksJ4_checkIndex_0 17 rfl rfl)
abbrev cJ4_checkFromIndexSize : ByteArray := prog_54_method_13_code
def yJ4_checkFromIndexSize : MethodName := ⟨RJ4, "checkFromIndexSize", "(IIILjava/util/function/BiFunction;)I"⟩
def dkwJ4_checkFromIndexSize_1 : List UInt8 := [172]
abbrev dktJ4_checkFromIndexSize_1 : List UInt8 := dkwJ4_checkFromIndexSize_1 ++ []
def dkwJ4_checkFromIndexSize_0 : List UInt8 := [28, 26, 128, 27, 128, 155, 0, 10, 27, 28, 26, 100, 164, 0, 11, 45, 26, 27, 28, 184, 0, 103, 191, 26]
abbrev dktJ4_checkFromIndexSize_0 : List UInt8 := dkwJ4_checkFromIndexSize_0 ++ dktJ4_checkFromIndexSize_1
theorem dksJ4_checkFromIndexSize_0 : cJ4_checkFromIndexSize.data.toList.drop 0 = dktJ4_checkFromIndexSize_0 := by decide +kernel
theorem dksJ4_checkFromIndexSize_1 : cJ4_checkFromIndexSize.data.toList.drop 24 = dktJ4_checkFromIndexSize_1 := dk_seg dksJ4_checkFromIndexSize_0 24 rfl rfl
theorem dJ4_checkFromIndexSize_0 : decode cJ4_checkFromIndexSize 0 = .ok (.iload_n 2, 1) := dk_28 (dk_at dksJ4_checkFromIndexSize_0 0 rfl rfl)
theorem dJ4_checkFromIndexSize_1 : decode cJ4_checkFromIndexSize 1 = .ok (.iload_n 0, 1) := dk_26 (dk_at dksJ4_checkFromIndexSize_0 1 rfl rfl)
theorem dJ4_checkFromIndexSize_2 : decode cJ4_checkFromIndexSize 2 = .ok (.ior, 1) := dk_128 (dk_at dksJ4_checkFromIndexSize_0 2 rfl rfl)
theorem dJ4_checkFromIndexSize_3 : decode cJ4_checkFromIndexSize 3 = .ok (.iload_n 1, 1) := dk_27 (dk_at dksJ4_checkFromIndexSize_0 3 rfl rfl)
theorem dJ4_checkFromIndexSize_4 : decode cJ4_checkFromIndexSize 4 = .ok (.ior, 1) := dk_128 (dk_at dksJ4_checkFromIndexSize_0 4 rfl rfl)
theorem dJ4_checkFromIndexSize_5 : decode cJ4_checkFromIndexSize 5 = .ok (.ifCond .lt 10, 3) := dk_155 0 10 (dk_at dksJ4_checkFromIndexSize_0 5 rfl rfl)
theorem dJ4_checkFromIndexSize_8 : decode cJ4_checkFromIndexSize 8 = .ok (.iload_n 1, 1) := dk_27 (dk_at dksJ4_checkFromIndexSize_0 8 rfl rfl)
theorem dJ4_checkFromIndexSize_9 : decode cJ4_checkFromIndexSize 9 = .ok (.iload_n 2, 1) := dk_28 (dk_at dksJ4_checkFromIndexSize_0 9 rfl rfl)
theorem dJ4_checkFromIndexSize_10 : decode cJ4_checkFromIndexSize 10 = .ok (.iload_n 0, 1) := dk_26 (dk_at dksJ4_checkFromIndexSize_0 10 rfl rfl)
theorem dJ4_checkFromIndexSize_11 : decode cJ4_checkFromIndexSize 11 = .ok (.isub, 1) := dk_100 (dk_at dksJ4_checkFromIndexSize_0 11 rfl rfl)
theorem dJ4_checkFromIndexSize_12 : decode cJ4_checkFromIndexSize 12 = .ok (.if_icmp .le 11, 3) := dk_164 0 11 (dk_at dksJ4_checkFromIndexSize_0 12 rfl rfl)
theorem dJ4_checkFromIndexSize_15 : decode cJ4_checkFromIndexSize 15 = .ok (.aload_n 3, 1) := dk_45 (dk_at dksJ4_checkFromIndexSize_0 15 rfl rfl)
theorem dJ4_checkFromIndexSize_16 : decode cJ4_checkFromIndexSize 16 = .ok (.iload_n 0, 1) := dk_26 (dk_at dksJ4_checkFromIndexSize_0 16 rfl rfl)
theorem dJ4_checkFromIndexSize_17 : decode cJ4_checkFromIndexSize 17 = .ok (.iload_n 1, 1) := dk_27 (dk_at dksJ4_checkFromIndexSize_0 17 rfl rfl)
theorem dJ4_checkFromIndexSize_18 : decode cJ4_checkFromIndexSize 18 = .ok (.iload_n 2, 1) := dk_28 (dk_at dksJ4_checkFromIndexSize_0 18 rfl rfl)
theorem dJ4_checkFromIndexSize_19 : decode cJ4_checkFromIndexSize 19 = .ok (.invokestatic 103, 3) := dk_184 0 103 (dk_at dksJ4_checkFromIndexSize_0 19 rfl rfl)
theorem dJ4_checkFromIndexSize_22 : decode cJ4_checkFromIndexSize 22 = .ok (.athrow, 1) := dk_191 (dk_at dksJ4_checkFromIndexSize_0 22 rfl rfl)
theorem dJ4_checkFromIndexSize_23 : decode cJ4_checkFromIndexSize 23 = .ok (.iload_n 0, 1) := dk_26 (dk_at dksJ4_checkFromIndexSize_0 23 rfl rfl)
theorem dJ4_checkFromIndexSize_24 : decode cJ4_checkFromIndexSize 24 = .ok (.ireturn, 1) := dk_172 (dk_at dksJ4_checkFromIndexSize_1 0 rfl rfl)
theorem q131 : (Jvm.Cond.initialized "jdk/internal/util/Preconditions") ∈ lw_all := lw_g (lw_at lw_m1 9 rfl) rfl
theorem q352 : (Jvm.Cond.static ({ cls := "jdk/internal/util/Preconditions", name := "checkIndex", desc := "(IILjava/util/function/BiFunction;)I" } : Jvm.MethodName)) ∈ lw_all := lw_g (lw_at lw_m1 230 rfl) rfl
theorem q353 : (Jvm.Cond.code ({ cls := "jdk/internal/util/Preconditions", name := "checkIndex", desc := "(IILjava/util/function/BiFunction;)I" } : Jvm.MethodName) prog_54_method_11_code (3 : Nat) (Option.some Jvm.ClassFile.FieldType.int)) ∈ lw_all := lw_g (lw_at lw_m1 231 rfl) rfl
theorem q623 : (Jvm.Cond.laysStatic "jdk/internal/util/Preconditions" "SIOOBE_FORMATTER" "Ljava/util/function/BiFunction;") ∈ lw_tbl := lw_at lw_m3 21 rfl
theorem q625 : (Jvm.Cond.static ({ cls := "jdk/internal/util/Preconditions", name := "checkFromIndexSize", desc := "(IIILjava/util/function/BiFunction;)I" } : Jvm.MethodName)) ∈ lw_all := lw_g (lw_at lw_m3 23 rfl) rfl
theorem q626 : (Jvm.Cond.code ({ cls := "jdk/internal/util/Preconditions", name := "checkFromIndexSize", desc := "(IIILjava/util/function/BiFunction;)I" } : Jvm.MethodName) prog_54_method_13_code (4 : Nat) (Option.some Jvm.ClassFile.FieldType.int)) ∈ lw_all := lw_g (lw_at lw_m3 24 rfl) rfl

/-! java/lang/AbstractStringBuilder -/
set_option maxRecDepth 100000
def RJ5 : String := "java/lang/AbstractStringBuilder"
abbrev cJ5_init : ByteArray := prog_24_method_2_code
def yJ5_init : MethodName := ⟨RJ5, "<init>", "(I)V"⟩
def dkwJ5_init_1 : List UInt8 := [167, 0, 16, 42, 27, 184, 0, 26, 181, 0, 15, 42, 4, 181, 0, 22, 177]
abbrev dktJ5_init_1 : List UInt8 := dkwJ5_init_1 ++ []
def dkwJ5_init_0 : List UInt8 := [42, 183, 0, 3, 178, 0, 18, 153, 0, 18, 42, 27, 188, 8, 181, 0, 15, 42, 3, 181, 0, 22]
abbrev dktJ5_init_0 : List UInt8 := dkwJ5_init_0 ++ dktJ5_init_1
theorem dksJ5_init_0 : cJ5_init.data.toList.drop 0 = dktJ5_init_0 := by decide +kernel
theorem dksJ5_init_1 : cJ5_init.data.toList.drop 22 = dktJ5_init_1 := dk_seg dksJ5_init_0 22 rfl rfl
theorem dJ5_init_0 : decode cJ5_init 0 = .ok (.aload_n 0, 1) := dk_42 (dk_at dksJ5_init_0 0 rfl rfl)
theorem dJ5_init_1 : decode cJ5_init 1 = .ok (.invokespecial 3, 3) := dk_183 0 3 (dk_at dksJ5_init_0 1 rfl rfl)
theorem dJ5_init_4 : decode cJ5_init 4 = .ok (.getstatic 18, 3) := dk_178 0 18 (dk_at dksJ5_init_0 4 rfl rfl)
theorem dJ5_init_7 : decode cJ5_init 7 = .ok (.ifCond .eq 18, 3) := dk_153 0 18 (dk_at dksJ5_init_0 7 rfl rfl)
theorem dJ5_init_10 : decode cJ5_init 10 = .ok (.aload_n 0, 1) := dk_42 (dk_at dksJ5_init_0 10 rfl rfl)
theorem dJ5_init_11 : decode cJ5_init 11 = .ok (.iload_n 1, 1) := dk_27 (dk_at dksJ5_init_0 11 rfl rfl)
theorem dJ5_init_12 : decode cJ5_init 12 = .ok (.newarray .byte, 2) := dk_188_8 (dk_at dksJ5_init_0 12 rfl rfl)
theorem dJ5_init_14 : decode cJ5_init 14 = .ok (.putfield 15, 3) := dk_181 0 15 (dk_at dksJ5_init_0 14 rfl rfl)
theorem dJ5_init_17 : decode cJ5_init 17 = .ok (.aload_n 0, 1) := dk_42 (dk_at dksJ5_init_0 17 rfl rfl)
theorem dJ5_init_18 : decode cJ5_init 18 = .ok (.iconst 0, 1) := dk_3 (dk_at dksJ5_init_0 18 rfl rfl)
theorem dJ5_init_19 : decode cJ5_init 19 = .ok (.putfield 22, 3) := dk_181 0 22 (dk_at dksJ5_init_0 19 rfl rfl)
theorem dJ5_init_22 : decode cJ5_init 22 = .ok (.goto 16, 3) := dk_167 0 16 (dk_at dksJ5_init_1 0 rfl rfl)
theorem dJ5_init_25 : decode cJ5_init 25 = .ok (.aload_n 0, 1) := dk_42 (dk_at dksJ5_init_1 3 rfl rfl)
theorem dJ5_init_26 : decode cJ5_init 26 = .ok (.iload_n 1, 1) := dk_27 (dk_at dksJ5_init_1 4 rfl rfl)
theorem dJ5_init_27 : decode cJ5_init 27 = .ok (.invokestatic 26, 3) := dk_184 0 26 (dk_at dksJ5_init_1 5 rfl rfl)
theorem dJ5_init_30 : decode cJ5_init 30 = .ok (.putfield 15, 3) := dk_181 0 15 (dk_at dksJ5_init_1 8 rfl rfl)
theorem dJ5_init_33 : decode cJ5_init 33 = .ok (.aload_n 0, 1) := dk_42 (dk_at dksJ5_init_1 11 rfl rfl)
theorem dJ5_init_34 : decode cJ5_init 34 = .ok (.iconst 1, 1) := dk_4 (dk_at dksJ5_init_1 12 rfl rfl)
theorem dJ5_init_35 : decode cJ5_init 35 = .ok (.putfield 22, 3) := dk_181 0 22 (dk_at dksJ5_init_1 13 rfl rfl)
theorem dJ5_init_38 : decode cJ5_init 38 = .ok (.return_, 1) := dk_177 (dk_at dksJ5_init_1 16 rfl rfl)
abbrev cJ5_append : ByteArray := prog_24_method_31_code
def yJ5_append : MethodName := ⟨RJ5, "append", "(C)Ljava/lang/AbstractStringBuilder;"⟩
def dkwJ5_append_3 : List UInt8 := [181, 0, 79, 27, 184, 0, 197, 42, 176]
abbrev dktJ5_append_3 : List UInt8 := dkwJ5_append_3 ++ []
def dkwJ5_append_2 : List UInt8 := [182, 0, 83, 153, 0, 7, 42, 182, 0, 195, 42, 180, 0, 15, 42, 89, 180, 0, 79, 90, 4, 96]
abbrev dktJ5_append_2 : List UInt8 := dkwJ5_append_2 ++ dktJ5_append_3
def dkwJ5_append_1 : List UInt8 := [42, 180, 0, 15, 42, 89, 180, 0, 79, 90, 4, 96, 181, 0, 79, 27, 145, 84, 167, 0, 33, 42]
abbrev dktJ5_append_1 : List UInt8 := dkwJ5_append_1 ++ dktJ5_append_2
def dkwJ5_append_0 : List UInt8 := [42, 42, 180, 0, 79, 4, 96, 182, 0, 100, 42, 182, 0, 83, 153, 0, 31, 27, 184, 0, 191, 153, 0, 24]
abbrev dktJ5_append_0 : List UInt8 := dkwJ5_append_0 ++ dktJ5_append_1
theorem dksJ5_append_0 : cJ5_append.data.toList.drop 0 = dktJ5_append_0 := by decide +kernel
theorem dksJ5_append_1 : cJ5_append.data.toList.drop 24 = dktJ5_append_1 := dk_seg dksJ5_append_0 24 rfl rfl
theorem dksJ5_append_2 : cJ5_append.data.toList.drop 46 = dktJ5_append_2 := dk_seg dksJ5_append_1 22 rfl rfl
theorem dksJ5_append_3 : cJ5_append.data.toList.drop 68 = dktJ5_append_3 := dk_seg dksJ5_append_2 22 rfl rfl
theorem dJ5_append_0 : decode cJ5_append 0 = .ok (.aload_n 0, 1) := dk_42 (dk_at dksJ5_append_0 0 rfl rfl)
theorem dJ5_append_1 : decode cJ5_append 1 = .ok (.aload_n 0, 1) := dk_42 (dk_at dksJ5_append_0 1 rfl rfl)
theorem dJ5_append_2 : decode cJ5_append 2 = .ok (.getfield 79, 3) := dk_180 0 79 (dk_at dksJ5_append_0 2 rfl rfl)
theorem dJ5_append_5 : decode cJ5_append 5 = .ok (.iconst 1, 1) := dk_4 (dk_at dksJ5_append_0 5 rfl rfl)
theorem dJ5_append_6 : decode cJ5_append 6 = .ok (.iadd, 1) := dk_96 (dk_at dksJ5_append_0 6 rfl rfl)
theorem dJ5_append_7 : decode cJ5_append 7 = .ok (.invokevirtual 100, 3) := dk_182 0 100 (dk_at dksJ5_append_0 7 rfl rfl)
theorem dJ5_append_10 : decode cJ5_append 10 = .ok (.aload_n 0, 1) := dk_42 (dk_at dksJ5_append_0 10 rfl rfl)
theorem dJ5_append_11 : decode cJ5_append 11 = .ok (.invokevirtual 83, 3) := dk_182 0 83 (dk_at dksJ5_append_0 11 rfl rfl)
theorem dJ5_append_14 : decode cJ5_append 14 = .ok (.ifCond .eq 31, 3) := dk_153 0 31 (dk_at dksJ5_append_0 14 rfl rfl)
theorem dJ5_append_17 : decode cJ5_append 17 = .ok (.iload_n 1, 1) := dk_27 (dk_at dksJ5_append_0 17 rfl rfl)
theorem dJ5_append_18 : decode cJ5_append 18 = .ok (.invokestatic 191, 3) := dk_184 0 191 (dk_at dksJ5_append_0 18 rfl rfl)
theorem dJ5_append_21 : decode cJ5_append 21 = .ok (.ifCond .eq 24, 3) := dk_153 0 24 (dk_at dksJ5_append_0 21 rfl rfl)
theorem dJ5_append_24 : decode cJ5_append 24 = .ok (.aload_n 0, 1) := dk_42 (dk_at dksJ5_append_1 0 rfl rfl)
theorem dJ5_append_25 : decode cJ5_append 25 = .ok (.getfield 15, 3) := dk_180 0 15 (dk_at dksJ5_append_1 1 rfl rfl)
theorem dJ5_append_28 : decode cJ5_append 28 = .ok (.aload_n 0, 1) := dk_42 (dk_at dksJ5_append_1 4 rfl rfl)
theorem dJ5_append_29 : decode cJ5_append 29 = .ok (.dup, 1) := dk_89 (dk_at dksJ5_append_1 5 rfl rfl)
theorem dJ5_append_30 : decode cJ5_append 30 = .ok (.getfield 79, 3) := dk_180 0 79 (dk_at dksJ5_append_1 6 rfl rfl)
theorem dJ5_append_33 : decode cJ5_append 33 = .ok (.dup_x1, 1) := dk_90 (dk_at dksJ5_append_1 9 rfl rfl)
theorem dJ5_append_34 : decode cJ5_append 34 = .ok (.iconst 1, 1) := dk_4 (dk_at dksJ5_append_1 10 rfl rfl)
theorem dJ5_append_35 : decode cJ5_append 35 = .ok (.iadd, 1) := dk_96 (dk_at dksJ5_append_1 11 rfl rfl)
theorem dJ5_append_36 : decode cJ5_append 36 = .ok (.putfield 79, 3) := dk_181 0 79 (dk_at dksJ5_append_1 12 rfl rfl)
theorem dJ5_append_39 : decode cJ5_append 39 = .ok (.iload_n 1, 1) := dk_27 (dk_at dksJ5_append_1 15 rfl rfl)
theorem dJ5_append_40 : decode cJ5_append 40 = .ok (.i2b, 1) := dk_145 (dk_at dksJ5_append_1 16 rfl rfl)
theorem dJ5_append_41 : decode cJ5_append 41 = .ok (.bastore, 1) := dk_84 (dk_at dksJ5_append_1 17 rfl rfl)
theorem dJ5_append_42 : decode cJ5_append 42 = .ok (.goto 33, 3) := dk_167 0 33 (dk_at dksJ5_append_1 18 rfl rfl)
theorem dJ5_append_45 : decode cJ5_append 45 = .ok (.aload_n 0, 1) := dk_42 (dk_at dksJ5_append_1 21 rfl rfl)
theorem dJ5_append_46 : decode cJ5_append 46 = .ok (.invokevirtual 83, 3) := dk_182 0 83 (dk_at dksJ5_append_2 0 rfl rfl)
theorem dJ5_append_49 : decode cJ5_append 49 = .ok (.ifCond .eq 7, 3) := dk_153 0 7 (dk_at dksJ5_append_2 3 rfl rfl)
theorem dJ5_append_52 : decode cJ5_append 52 = .ok (.aload_n 0, 1) := dk_42 (dk_at dksJ5_append_2 6 rfl rfl)
theorem dJ5_append_53 : decode cJ5_append 53 = .ok (.invokevirtual 195, 3) := dk_182 0 195 (dk_at dksJ5_append_2 7 rfl rfl)
theorem dJ5_append_56 : decode cJ5_append 56 = .ok (.aload_n 0, 1) := dk_42 (dk_at dksJ5_append_2 10 rfl rfl)
theorem dJ5_append_57 : decode cJ5_append 57 = .ok (.getfield 15, 3) := dk_180 0 15 (dk_at dksJ5_append_2 11 rfl rfl)
theorem dJ5_append_60 : decode cJ5_append 60 = .ok (.aload_n 0, 1) := dk_42 (dk_at dksJ5_append_2 14 rfl rfl)
theorem dJ5_append_61 : decode cJ5_append 61 = .ok (.dup, 1) := dk_89 (dk_at dksJ5_append_2 15 rfl rfl)
theorem dJ5_append_62 : decode cJ5_append 62 = .ok (.getfield 79, 3) := dk_180 0 79 (dk_at dksJ5_append_2 16 rfl rfl)
theorem dJ5_append_65 : decode cJ5_append 65 = .ok (.dup_x1, 1) := dk_90 (dk_at dksJ5_append_2 19 rfl rfl)
theorem dJ5_append_66 : decode cJ5_append 66 = .ok (.iconst 1, 1) := dk_4 (dk_at dksJ5_append_2 20 rfl rfl)
theorem dJ5_append_67 : decode cJ5_append 67 = .ok (.iadd, 1) := dk_96 (dk_at dksJ5_append_2 21 rfl rfl)
theorem dJ5_append_68 : decode cJ5_append 68 = .ok (.putfield 79, 3) := dk_181 0 79 (dk_at dksJ5_append_3 0 rfl rfl)
theorem dJ5_append_71 : decode cJ5_append 71 = .ok (.iload_n 1, 1) := dk_27 (dk_at dksJ5_append_3 3 rfl rfl)
theorem dJ5_append_72 : decode cJ5_append 72 = .ok (.invokestatic 197, 3) := dk_184 0 197 (dk_at dksJ5_append_3 4 rfl rfl)
theorem dJ5_append_75 : decode cJ5_append 75 = .ok (.aload_n 0, 1) := dk_42 (dk_at dksJ5_append_3 7 rfl rfl)
theorem dJ5_append_76 : decode cJ5_append 76 = .ok (.areturn, 1) := dk_176 (dk_at dksJ5_append_3 8 rfl rfl)
abbrev cJ5_ensureCapacityInternal : ByteArray := prog_24_method_9_code
def yJ5_ensureCapacityInternal : MethodName := ⟨RJ5, "ensureCapacityInternal", "(I)V"⟩
def dkwJ5_ensureCapacityInternal_1 : List UInt8 := [182, 0, 104, 42, 180, 0, 22, 120, 184, 0, 108, 181, 0, 15, 177]
abbrev dktJ5_ensureCapacityInternal_1 : List UInt8 := dkwJ5_ensureCapacityInternal_1 ++ []
def dkwJ5_ensureCapacityInternal_0 : List UInt8 := [42, 180, 0, 15, 190, 42, 180, 0, 22, 122, 61, 27, 28, 100, 158, 0, 24, 42, 42, 180, 0, 15, 42, 27]
abbrev dktJ5_ensureCapacityInternal_0 : List UInt8 := dkwJ5_ensureCapacityInternal_0 ++ dktJ5_ensureCapacityInternal_1
theorem dksJ5_ensureCapacityInternal_0 : cJ5_ensureCapacityInternal.data.toList.drop 0 = dktJ5_ensureCapacityInternal_0 := by decide +kernel
theorem dksJ5_ensureCapacityInternal_1 : cJ5_ensureCapacityInternal.data.toList.drop 24 = dktJ5_ensureCapacityInternal_1 := dk_seg dksJ5_ensureCapacityInternal_0 24 rfl rfl
theorem dJ5_ensureCapacityInternal_0 : decode cJ5_ensureCapacityInternal 0 = .ok (.aload_n 0, 1) := dk_42 (dk_at dksJ5_ensureCapacityInternal_0 0 rfl rfl)
theorem dJ5_ensureCapacityInternal_1 : decode cJ5_ensureCapacityInternal 1 = .ok (.getfield 15, 3) := dk_180 0 15 (dk_at dksJ5_ensureCapacityInternal_0 1 rfl rfl)
theorem dJ5_ensureCapacityInternal_4 : decode cJ5_ensureCapacityInternal 4 = .ok (.arraylength, 1) := dk_190 (dk_at dksJ5_ensureCapacityInternal_0 4 rfl rfl)
theorem dJ5_ensureCapacityInternal_5 : decode cJ5_ensureCapacityInternal 5 = .ok (.aload_n 0, 1) := dk_42 (dk_at dksJ5_ensureCapacityInternal_0 5 rfl rfl)
theorem dJ5_ensureCapacityInternal_6 : decode cJ5_ensureCapacityInternal 6 = .ok (.getfield 22, 3) := dk_180 0 22 (dk_at dksJ5_ensureCapacityInternal_0 6 rfl rfl)
theorem dJ5_ensureCapacityInternal_9 : decode cJ5_ensureCapacityInternal 9 = .ok (.ishr, 1) := dk_122 (dk_at dksJ5_ensureCapacityInternal_0 9 rfl rfl)
theorem dJ5_ensureCapacityInternal_10 : decode cJ5_ensureCapacityInternal 10 = .ok (.istore_n 2, 1) := dk_61 (dk_at dksJ5_ensureCapacityInternal_0 10 rfl rfl)
theorem dJ5_ensureCapacityInternal_11 : decode cJ5_ensureCapacityInternal 11 = .ok (.iload_n 1, 1) := dk_27 (dk_at dksJ5_ensureCapacityInternal_0 11 rfl rfl)
theorem dJ5_ensureCapacityInternal_12 : decode cJ5_ensureCapacityInternal 12 = .ok (.iload_n 2, 1) := dk_28 (dk_at dksJ5_ensureCapacityInternal_0 12 rfl rfl)
theorem dJ5_ensureCapacityInternal_13 : decode cJ5_ensureCapacityInternal 13 = .ok (.isub, 1) := dk_100 (dk_at dksJ5_ensureCapacityInternal_0 13 rfl rfl)
theorem dJ5_ensureCapacityInternal_14 : decode cJ5_ensureCapacityInternal 14 = .ok (.ifCond .le 24, 3) := dk_158 0 24 (dk_at dksJ5_ensureCapacityInternal_0 14 rfl rfl)
theorem dJ5_ensureCapacityInternal_17 : decode cJ5_ensureCapacityInternal 17 = .ok (.aload_n 0, 1) := dk_42 (dk_at dksJ5_ensureCapacityInternal_0 17 rfl rfl)
theorem dJ5_ensureCapacityInternal_18 : decode cJ5_ensureCapacityInternal 18 = .ok (.aload_n 0, 1) := dk_42 (dk_at dksJ5_ensureCapacityInternal_0 18 rfl rfl)
theorem dJ5_ensureCapacityInternal_19 : decode cJ5_ensureCapacityInternal 19 = .ok (.getfield 15, 3) := dk_180 0 15 (dk_at dksJ5_ensureCapacityInternal_0 19 rfl rfl)
theorem dJ5_ensureCapacityInternal_22 : decode cJ5_ensureCapacityInternal 22 = .ok (.aload_n 0, 1) := dk_42 (dk_at dksJ5_ensureCapacityInternal_0 22 rfl rfl)
theorem dJ5_ensureCapacityInternal_23 : decode cJ5_ensureCapacityInternal 23 = .ok (.iload_n 1, 1) := dk_27 (dk_at dksJ5_ensureCapacityInternal_0 23 rfl rfl)
theorem dJ5_ensureCapacityInternal_24 : decode cJ5_ensureCapacityInternal 24 = .ok (.invokevirtual 104, 3) := dk_182 0 104 (dk_at dksJ5_ensureCapacityInternal_1 0 rfl rfl)
theorem dJ5_ensureCapacityInternal_27 : decode cJ5_ensureCapacityInternal 27 = .ok (.aload_n 0, 1) := dk_42 (dk_at dksJ5_ensureCapacityInternal_1 3 rfl rfl)
theorem dJ5_ensureCapacityInternal_28 : decode cJ5_ensureCapacityInternal 28 = .ok (.getfield 22, 3) := dk_180 0 22 (dk_at dksJ5_ensureCapacityInternal_1 4 rfl rfl)
theorem dJ5_ensureCapacityInternal_31 : decode cJ5_ensureCapacityInternal 31 = .ok (.ishl, 1) := dk_120 (dk_at dksJ5_ensureCapacityInternal_1 7 rfl rfl)
theorem dJ5_ensureCapacityInternal_32 : decode cJ5_ensureCapacityInternal 32 = .ok (.invokestatic 108, 3) := dk_184 0 108 (dk_at dksJ5_ensureCapacityInternal_1 8 rfl rfl)
theorem dJ5_ensureCapacityInternal_35 : decode cJ5_ensureCapacityInternal 35 = .ok (.putfield 15, 3) := dk_181 0 15 (dk_at dksJ5_ensureCapacityInternal_1 11 rfl rfl)
theorem dJ5_ensureCapacityInternal_38 : decode cJ5_ensureCapacityInternal 38 = .ok (.return_, 1) := dk_177 (dk_at dksJ5_ensureCapacityInternal_1 14 rfl rfl)
abbrev cJ5_newCapacity : ByteArray := prog_24_method_10_code
def yJ5_newCapacity : MethodName := ⟨RJ5, "newCapacity", "(I)I"⟩
def dkwJ5_newCapacity_2 : List UInt8 := [183, 0, 124, 191, 21, 5, 42, 180, 0, 22, 122, 172]
abbrev dktJ5_newCapacity_2 : List UInt8 := dkwJ5_newCapacity_2 ++ []
def dkwJ5_newCapacity_1 : List UInt8 := [180, 0, 22, 120, 96, 184, 0, 114, 54, 5, 21, 5, 18, 39, 160, 0, 13, 187, 0, 120, 89, 18, 122]
abbrev dktJ5_newCapacity_1 : List UInt8 := dkwJ5_newCapacity_1 ++ dktJ5_newCapacity_2
def dkwJ5_newCapacity_0 : List UInt8 := [42, 180, 0, 15, 190, 61, 27, 42, 180, 0, 22, 120, 62, 29, 28, 100, 54, 4, 28, 21, 4, 28, 5, 42]
abbrev dktJ5_newCapacity_0 : List UInt8 := dkwJ5_newCapacity_0 ++ dktJ5_newCapacity_1
theorem dksJ5_newCapacity_0 : cJ5_newCapacity.data.toList.drop 0 = dktJ5_newCapacity_0 := by decide +kernel
theorem dksJ5_newCapacity_1 : cJ5_newCapacity.data.toList.drop 24 = dktJ5_newCapacity_1 := dk_seg dksJ5_newCapacity_0 24 rfl rfl
theorem dksJ5_newCapacity_2 : cJ5_newCapacity.data.toList.drop 47 = dktJ5_newCapacity_2 := dk_seg dksJ5_newCapacity_1 23 rfl rfl
theorem dJ5_newCapacity_0 : decode cJ5_newCapacity 0 = .ok (.aload_n 0, 1) := dk_42 (dk_at dksJ5_newCapacity_0 0 rfl rfl)
theorem dJ5_newCapacity_1 : decode cJ5_newCapacity 1 = .ok (.getfield 15, 3) := dk_180 0 15 (dk_at dksJ5_newCapacity_0 1 rfl rfl)
theorem dJ5_newCapacity_4 : decode cJ5_newCapacity 4 = .ok (.arraylength, 1) := dk_190 (dk_at dksJ5_newCapacity_0 4 rfl rfl)
theorem dJ5_newCapacity_5 : decode cJ5_newCapacity 5 = .ok (.istore_n 2, 1) := dk_61 (dk_at dksJ5_newCapacity_0 5 rfl rfl)
theorem dJ5_newCapacity_6 : decode cJ5_newCapacity 6 = .ok (.iload_n 1, 1) := dk_27 (dk_at dksJ5_newCapacity_0 6 rfl rfl)
theorem dJ5_newCapacity_7 : decode cJ5_newCapacity 7 = .ok (.aload_n 0, 1) := dk_42 (dk_at dksJ5_newCapacity_0 7 rfl rfl)
theorem dJ5_newCapacity_8 : decode cJ5_newCapacity 8 = .ok (.getfield 22, 3) := dk_180 0 22 (dk_at dksJ5_newCapacity_0 8 rfl rfl)
theorem dJ5_newCapacity_11 : decode cJ5_newCapacity 11 = .ok (.ishl, 1) := dk_120 (dk_at dksJ5_newCapacity_0 11 rfl rfl)
theorem dJ5_newCapacity_12 : decode cJ5_newCapacity 12 = .ok (.istore_n 3, 1) := dk_62 (dk_at dksJ5_newCapacity_0 12 rfl rfl)
theorem dJ5_newCapacity_13 : decode cJ5_newCapacity 13 = .ok (.iload_n 3, 1) := dk_29 (dk_at dksJ5_newCapacity_0 13 rfl rfl)
theorem dJ5_newCapacity_14 : decode cJ5_newCapacity 14 = .ok (.iload_n 2, 1) := dk_28 (dk_at dksJ5_newCapacity_0 14 rfl rfl)
theorem dJ5_newCapacity_15 : decode cJ5_newCapacity 15 = .ok (.isub, 1) := dk_100 (dk_at dksJ5_newCapacity_0 15 rfl rfl)
theorem dJ5_newCapacity_16 : decode cJ5_newCapacity 16 = .ok (.istore 4, 2) := dk_54 4 (dk_at dksJ5_newCapacity_0 16 rfl rfl)
theorem dJ5_newCapacity_18 : decode cJ5_newCapacity 18 = .ok (.iload_n 2, 1) := dk_28 (dk_at dksJ5_newCapacity_0 18 rfl rfl)
theorem dJ5_newCapacity_19 : decode cJ5_newCapacity 19 = .ok (.iload 4, 2) := dk_21 4 (dk_at dksJ5_newCapacity_0 19 rfl rfl)
theorem dJ5_newCapacity_21 : decode cJ5_newCapacity 21 = .ok (.iload_n 2, 1) := dk_28 (dk_at dksJ5_newCapacity_0 21 rfl rfl)
theorem dJ5_newCapacity_22 : decode cJ5_newCapacity 22 = .ok (.iconst 2, 1) := dk_5 (dk_at dksJ5_newCapacity_0 22 rfl rfl)
theorem dJ5_newCapacity_23 : decode cJ5_newCapacity 23 = .ok (.aload_n 0, 1) := dk_42 (dk_at dksJ5_newCapacity_0 23 rfl rfl)
theorem dJ5_newCapacity_24 : decode cJ5_newCapacity 24 = .ok (.getfield 22, 3) := dk_180 0 22 (dk_at dksJ5_newCapacity_1 0 rfl rfl)
theorem dJ5_newCapacity_27 : decode cJ5_newCapacity 27 = .ok (.ishl, 1) := dk_120 (dk_at dksJ5_newCapacity_1 3 rfl rfl)
theorem dJ5_newCapacity_28 : decode cJ5_newCapacity 28 = .ok (.iadd, 1) := dk_96 (dk_at dksJ5_newCapacity_1 4 rfl rfl)
theorem dJ5_newCapacity_29 : decode cJ5_newCapacity 29 = .ok (.invokestatic 114, 3) := dk_184 0 114 (dk_at dksJ5_newCapacity_1 5 rfl rfl)
theorem dJ5_newCapacity_32 : decode cJ5_newCapacity 32 = .ok (.istore 5, 2) := dk_54 5 (dk_at dksJ5_newCapacity_1 8 rfl rfl)
theorem dJ5_newCapacity_34 : decode cJ5_newCapacity 34 = .ok (.iload 5, 2) := dk_21 5 (dk_at dksJ5_newCapacity_1 10 rfl rfl)
theorem dJ5_newCapacity_36 : decode cJ5_newCapacity 36 = .ok (.ldc 39, 2) := dk_18 39 (dk_at dksJ5_newCapacity_1 12 rfl rfl)
theorem dJ5_newCapacity_38 : decode cJ5_newCapacity 38 = .ok (.if_icmp .ne 13, 3) := dk_160 0 13 (dk_at dksJ5_newCapacity_1 14 rfl rfl)
theorem dJ5_newCapacity_41 : decode cJ5_newCapacity 41 = .ok (.new 120, 3) := dk_187 0 120 (dk_at dksJ5_newCapacity_1 17 rfl rfl)
theorem dJ5_newCapacity_44 : decode cJ5_newCapacity 44 = .ok (.dup, 1) := dk_89 (dk_at dksJ5_newCapacity_1 20 rfl rfl)
theorem dJ5_newCapacity_45 : decode cJ5_newCapacity 45 = .ok (.ldc 122, 2) := dk_18 122 (dk_at dksJ5_newCapacity_1 21 rfl rfl)
theorem dJ5_newCapacity_47 : decode cJ5_newCapacity 47 = .ok (.invokespecial 124, 3) := dk_183 0 124 (dk_at dksJ5_newCapacity_2 0 rfl rfl)
theorem dJ5_newCapacity_50 : decode cJ5_newCapacity 50 = .ok (.athrow, 1) := dk_191 (dk_at dksJ5_newCapacity_2 3 rfl rfl)
theorem dJ5_newCapacity_51 : decode cJ5_newCapacity 51 = .ok (.iload 5, 2) := dk_21 5 (dk_at dksJ5_newCapacity_2 4 rfl rfl)
theorem dJ5_newCapacity_53 : decode cJ5_newCapacity 53 = .ok (.aload_n 0, 1) := dk_42 (dk_at dksJ5_newCapacity_2 6 rfl rfl)
theorem dJ5_newCapacity_54 : decode cJ5_newCapacity 54 = .ok (.getfield 22, 3) := dk_180 0 22 (dk_at dksJ5_newCapacity_2 7 rfl rfl)
theorem dJ5_newCapacity_57 : decode cJ5_newCapacity 57 = .ok (.ishr, 1) := dk_122 (dk_at dksJ5_newCapacity_2 10 rfl rfl)
theorem dJ5_newCapacity_58 : decode cJ5_newCapacity 58 = .ok (.ireturn, 1) := dk_172 (dk_at dksJ5_newCapacity_2 11 rfl rfl)
abbrev cJ5_isLatin1 : ByteArray := prog_24_method_68_code
def yJ5_isLatin1 : MethodName := ⟨RJ5, "isLatin1", "()Z"⟩
def dkwJ5_isLatin1_0 : List UInt8 := [178, 0, 18, 153, 0, 14, 42, 180, 0, 22, 154, 0, 7, 4, 167, 0, 4, 3, 172]
abbrev dktJ5_isLatin1_0 : List UInt8 := dkwJ5_isLatin1_0 ++ []
theorem dksJ5_isLatin1_0 : cJ5_isLatin1.data.toList.drop 0 = dktJ5_isLatin1_0 := by decide +kernel
theorem dJ5_isLatin1_0 : decode cJ5_isLatin1 0 = .ok (.getstatic 18, 3) := dk_178 0 18 (dk_at dksJ5_isLatin1_0 0 rfl rfl)
theorem dJ5_isLatin1_3 : decode cJ5_isLatin1 3 = .ok (.ifCond .eq 14, 3) := dk_153 0 14 (dk_at dksJ5_isLatin1_0 3 rfl rfl)
theorem dJ5_isLatin1_6 : decode cJ5_isLatin1 6 = .ok (.aload_n 0, 1) := dk_42 (dk_at dksJ5_isLatin1_0 6 rfl rfl)
theorem dJ5_isLatin1_7 : decode cJ5_isLatin1 7 = .ok (.getfield 22, 3) := dk_180 0 22 (dk_at dksJ5_isLatin1_0 7 rfl rfl)
theorem dJ5_isLatin1_10 : decode cJ5_isLatin1 10 = .ok (.ifCond .ne 7, 3) := dk_154 0 7 (dk_at dksJ5_isLatin1_0 10 rfl rfl)
theorem dJ5_isLatin1_13 : decode cJ5_isLatin1 13 = .ok (.iconst 1, 1) := dk_4 (dk_at dksJ5_isLatin1_0 13 rfl rfl)
theorem dJ5_isLatin1_14 : decode cJ5_isLatin1 14 = .ok (.goto 4, 3) := dk_167 0 4 (dk_at dksJ5_isLatin1_0 14 rfl rfl)
theorem dJ5_isLatin1_17 : decode cJ5_isLatin1 17 = .ok (.iconst 0, 1) := dk_3 (dk_at dksJ5_isLatin1_0 17 rfl rfl)
theorem dJ5_isLatin1_18 : decode cJ5_isLatin1 18 = .ok (.ireturn, 1) := dk_172 (dk_at dksJ5_isLatin1_0 18 rfl rfl)
abbrev cJ5_inflate : ByteArray := prog_24_method_11_code
def yJ5_inflate : MethodName := ⟨RJ5, "inflate", "()V"⟩
def dkwJ5_inflate_1 : List UInt8 := [42, 180, 0, 79, 184, 0, 125, 42, 43, 181, 0, 15, 42, 4, 181, 0, 22, 177]
abbrev dktJ5_inflate_1 : List UInt8 := dkwJ5_inflate_1 ++ []
def dkwJ5_inflate_0 : List UInt8 := [42, 182, 0, 83, 154, 0, 4, 177, 42, 180, 0, 15, 190, 184, 0, 26, 76, 42, 180, 0, 15, 3, 43, 3]
abbrev dktJ5_inflate_0 : List UInt8 := dkwJ5_inflate_0 ++ dktJ5_inflate_1
theorem dksJ5_inflate_0 : cJ5_inflate.data.toList.drop 0 = dktJ5_inflate_0 := by decide +kernel
theorem dksJ5_inflate_1 : cJ5_inflate.data.toList.drop 24 = dktJ5_inflate_1 := dk_seg dksJ5_inflate_0 24 rfl rfl
theorem dJ5_inflate_0 : decode cJ5_inflate 0 = .ok (.aload_n 0, 1) := dk_42 (dk_at dksJ5_inflate_0 0 rfl rfl)
theorem dJ5_inflate_1 : decode cJ5_inflate 1 = .ok (.invokevirtual 83, 3) := dk_182 0 83 (dk_at dksJ5_inflate_0 1 rfl rfl)
theorem dJ5_inflate_4 : decode cJ5_inflate 4 = .ok (.ifCond .ne 4, 3) := dk_154 0 4 (dk_at dksJ5_inflate_0 4 rfl rfl)
theorem dJ5_inflate_7 : decode cJ5_inflate 7 = .ok (.return_, 1) := dk_177 (dk_at dksJ5_inflate_0 7 rfl rfl)
theorem dJ5_inflate_8 : decode cJ5_inflate 8 = .ok (.aload_n 0, 1) := dk_42 (dk_at dksJ5_inflate_0 8 rfl rfl)
theorem dJ5_inflate_9 : decode cJ5_inflate 9 = .ok (.getfield 15, 3) := dk_180 0 15 (dk_at dksJ5_inflate_0 9 rfl rfl)
theorem dJ5_inflate_12 : decode cJ5_inflate 12 = .ok (.arraylength, 1) := dk_190 (dk_at dksJ5_inflate_0 12 rfl rfl)
theorem dJ5_inflate_13 : decode cJ5_inflate 13 = .ok (.invokestatic 26, 3) := dk_184 0 26 (dk_at dksJ5_inflate_0 13 rfl rfl)
theorem dJ5_inflate_16 : decode cJ5_inflate 16 = .ok (.astore_n 1, 1) := dk_76 (dk_at dksJ5_inflate_0 16 rfl rfl)
theorem dJ5_inflate_17 : decode cJ5_inflate 17 = .ok (.aload_n 0, 1) := dk_42 (dk_at dksJ5_inflate_0 17 rfl rfl)
theorem dJ5_inflate_18 : decode cJ5_inflate 18 = .ok (.getfield 15, 3) := dk_180 0 15 (dk_at dksJ5_inflate_0 18 rfl rfl)
theorem dJ5_inflate_21 : decode cJ5_inflate 21 = .ok (.iconst 0, 1) := dk_3 (dk_at dksJ5_inflate_0 21 rfl rfl)
theorem dJ5_inflate_22 : decode cJ5_inflate 22 = .ok (.aload_n 1, 1) := dk_43 (dk_at dksJ5_inflate_0 22 rfl rfl)
theorem dJ5_inflate_23 : decode cJ5_inflate 23 = .ok (.iconst 0, 1) := dk_3 (dk_at dksJ5_inflate_0 23 rfl rfl)
theorem dJ5_inflate_24 : decode cJ5_inflate 24 = .ok (.aload_n 0, 1) := dk_42 (dk_at dksJ5_inflate_1 0 rfl rfl)
theorem dJ5_inflate_25 : decode cJ5_inflate 25 = .ok (.getfield 79, 3) := dk_180 0 79 (dk_at dksJ5_inflate_1 1 rfl rfl)
theorem dJ5_inflate_28 : decode cJ5_inflate 28 = .ok (.invokestatic 125, 3) := dk_184 0 125 (dk_at dksJ5_inflate_1 4 rfl rfl)
theorem dJ5_inflate_31 : decode cJ5_inflate 31 = .ok (.aload_n 0, 1) := dk_42 (dk_at dksJ5_inflate_1 7 rfl rfl)
theorem dJ5_inflate_32 : decode cJ5_inflate 32 = .ok (.aload_n 1, 1) := dk_43 (dk_at dksJ5_inflate_1 8 rfl rfl)
theorem dJ5_inflate_33 : decode cJ5_inflate 33 = .ok (.putfield 15, 3) := dk_181 0 15 (dk_at dksJ5_inflate_1 9 rfl rfl)
theorem dJ5_inflate_36 : decode cJ5_inflate 36 = .ok (.aload_n 0, 1) := dk_42 (dk_at dksJ5_inflate_1 12 rfl rfl)
theorem dJ5_inflate_37 : decode cJ5_inflate 37 = .ok (.iconst 1, 1) := dk_4 (dk_at dksJ5_inflate_1 13 rfl rfl)
theorem dJ5_inflate_38 : decode cJ5_inflate 38 = .ok (.putfield 22, 3) := dk_181 0 22 (dk_at dksJ5_inflate_1 14 rfl rfl)
theorem dJ5_inflate_41 : decode cJ5_inflate 41 = .ok (.return_, 1) := dk_177 (dk_at dksJ5_inflate_1 17 rfl rfl)
abbrev cJ5_getValue : ByteArray := prog_24_method_64_code
def yJ5_getValue : MethodName := ⟨RJ5, "getValue", "()[B"⟩
theorem dJ5_getValue_0 : decode cJ5_getValue 0 = .ok (.aload_n 0, 1) := by decide +kernel
theorem dJ5_getValue_1 : decode cJ5_getValue 1 = .ok (.getfield 15, 3) := by decide +kernel
theorem dJ5_getValue_4 : decode cJ5_getValue 4 = .ok (.areturn, 1) := by decide +kernel
abbrev cJ5_length : ByteArray := prog_24_method_6_code
def yJ5_length : MethodName := ⟨RJ5, "length", "()I"⟩
theorem dJ5_length_0 : decode cJ5_length 0 = .ok (.aload_n 0, 1) := by decide +kernel
theorem dJ5_length_1 : decode cJ5_length 1 = .ok (.getfield 79, 3) := by decide +kernel
theorem dJ5_length_4 : decode cJ5_length 4 = .ok (.ireturn, 1) := by decide +kernel
theorem q134 : (Jvm.Cond.initialized "java/lang/AbstractStringBuilder") ∈ lw_all := lw_g (lw_at lw_m1 12 rfl) rfl
theorem q528 : (Jvm.Cond.instanceMethod ({ cls := "java/lang/AbstractStringBuilder", name := "<init>", desc := "(I)V" } : Jvm.MethodName)) ∈ lw_all := lw_g (lw_at lw_m2 166 rfl) rfl
theorem q529 : (Jvm.Cond.code ({ cls := "java/lang/AbstractStringBuilder", name := "<init>", desc := "(I)V" } : Jvm.MethodName) prog_24_method_2_code (2 : Nat) (Option.none : Option Jvm.ClassFile.FieldType)) ∈ lw_all := lw_g (lw_at lw_m2 167 rfl) rfl
theorem q530 : (Jvm.Cond.methodLink "java/lang/AbstractStringBuilder" (3 : Nat) ({ cls := "java/lang/Object", name := "<init>", desc := "()V" } : Jvm.MethodName)) ∈ lw_all := lw_g (lw_at lw_m2 168 rfl) rfl
theorem q531 : (Jvm.Cond.fieldLink "java/lang/AbstractStringBuilder" (18 : Nat) "java/lang/String" "COMPACT_STRINGS" "Z") ∈ lw_all := lw_g (lw_at lw_m2 169 rfl) rfl
theorem q533 : (Jvm.Cond.methodLink "java/lang/AbstractStringBuilder" (26 : Nat) ({ cls := "java/lang/StringUTF16", name := "newBytesFor", desc := "(I)[B" } : Jvm.MethodName)) ∈ lw_all := lw_g (lw_at lw_m2 171 rfl) rfl
theorem q540 : (Jvm.Cond.fieldLink "java/lang/AbstractStringBuilder" (15 : Nat) "java/lang/AbstractStringBuilder" "value" "[B") ∈ lw_all := lw_g (lw_at lw_m2 178 rfl) rfl
theorem q541 : (Jvm.Cond.fieldLink "java/lang/AbstractStringBuilder" (22 : Nat) "java/lang/AbstractStringBuilder" "coder" "B") ∈ lw_all := lw_g (lw_at lw_m2 179 rfl) rfl
theorem q543 : (Jvm.Cond.fieldLink "java/lang/AbstractStringBuilder" (79 : Nat) "java/lang/AbstractStringBuilder" "count" "I") ∈ lw_all := lw_g (lw_at lw_m2 181 rfl) rfl
theorem q545 : (Jvm.Cond.soleField "java/lang/AbstractStringBuilder" "value") ∈ lw_all := lw_g (lw_at lw_m2 183 rfl) rfl
theorem q547 : (Jvm.Cond.soleField "java/lang/AbstractStringBuilder" "coder") ∈ lw_all := lw_g (lw_at lw_m2 185 rfl) rfl
theorem q549 : (Jvm.Cond.soleField "java/lang/AbstractStringBuilder" "maybeLatin1") ∈ lw_all := lw_g (lw_at lw_m2 187 rfl) rfl
theorem q551 : (Jvm.Cond.soleField "java/lang/AbstractStringBuilder" "count") ∈ lw_all := lw_g (lw_at lw_m2 189 rfl) rfl
theorem q558 : (Jvm.Cond.instanceMethod ({ cls := "java/lang/AbstractStringBuilder", name := "append", desc := "(C)Ljava/lang/AbstractStringBuilder;" } : Jvm.MethodName)) ∈ lw_all := lw_g (lw_at lw_m2 196 rfl) rfl
theorem q559 : (Jvm.Cond.code ({ cls := "java/lang/AbstractStringBuilder", name := "append", desc := "(C)Ljava/lang/AbstractStringBuilder;" } : Jvm.MethodName) prog_24_method_31_code (2 : Nat) (Option.some (Jvm.ClassFile.FieldType.object "java/lang/AbstractStringBuilder"))) ∈ lw_all := lw_g (lw_at lw_m2 197 rfl) rfl
theorem q560 : (Jvm.Cond.methodLink "java/lang/AbstractStringBuilder" (100 : Nat) ({ cls := "java/lang/AbstractStringBuilder", name := "ensureCapacityInternal", desc := "(I)V" } : Jvm.MethodName)) ∈ lw_all := lw_g (lw_at lw_m2 198 rfl) rfl
theorem q561 : (Jvm.Cond.privateMethod ({ cls := "java/lang/AbstractStringBuilder", name := "ensureCapacityInternal", desc := "(I)V" } : Jvm.MethodName)) ∈ lw_tbl := lw_at lw_m2 199 rfl
theorem q562 : (Jvm.Cond.instanceMethod ({ cls := "java/lang/AbstractStringBuilder", name := "ensureCapacityInternal", desc := "(I)V" } : Jvm.MethodName)) ∈ lw_all := lw_g (lw_at lw_m2 200 rfl) rfl
theorem q563 : (Jvm.Cond.code ({ cls := "java/lang/AbstractStringBuilder", name := "ensureCapacityInternal", desc := "(I)V" } : Jvm.MethodName) prog_24_method_9_code (3 : Nat) (Option.none : Option Jvm.ClassFile.FieldType)) ∈ lw_all := lw_g (lw_at lw_m2 201 rfl) rfl
theorem q564 : (Jvm.Cond.methodLink "java/lang/AbstractStringBuilder" (104 : Nat) ({ cls := "java/lang/AbstractStringBuilder", name := "newCapacity", desc := "(I)I" } : Jvm.MethodName)) ∈ lw_all := lw_g (lw_at lw_m2 202 rfl) rfl
theorem q565 : (Jvm.Cond.privateMethod ({ cls := "java/lang/AbstractStringBuilder", name := "newCapacity", desc := "(I)I" } : Jvm.MethodName)) ∈ lw_tbl := lw_at lw_m2 203 rfl
theorem q566 : (Jvm.Cond.instanceMethod ({ cls := "java/lang/AbstractStringBuilder", name := "newCapacity", desc := "(I)I" } : Jvm.MethodName)) ∈ lw_all := lw_g (lw_at lw_m2 204 rfl) rfl
theorem q567 : (Jvm.Cond.code ({ cls := "java/lang/AbstractStringBuilder", name := "newCapacity", desc := "(I)I" } : Jvm.MethodName) prog_24_method_10_code (6 : Nat) (Option.some Jvm.ClassFile.FieldType.int)) ∈ lw_all := lw_g (lw_at lw_m2 205 rfl) rfl
theorem q568 : (Jvm.Cond.methodLink "java/lang/AbstractStringBuilder" (114 : Nat) ({ cls := "jdk/internal/util/ArraysSupport", name := "newLength", desc := "(III)I" } : Jvm.MethodName)) ∈ lw_all := lw_g (lw_at lw_m2 206 rfl) rfl
theorem q578 : (Jvm.Cond.constant "java/lang/AbstractStringBuilder" (39 : Nat) (2147483647 : Int32)) ∈ lw_all := lw_g (lw_at lw_m2 216 rfl) rfl
theorem q579 : (Jvm.Cond.methodLink "java/lang/AbstractStringBuilder" (108 : Nat) ({ cls := "java/util/Arrays", name := "copyOf", desc := "([BI)[B" } : Jvm.MethodName)) ∈ lw_all := lw_g (lw_at lw_m2 217 rfl) rfl
theorem q595 : (Jvm.Cond.methodLink "java/lang/AbstractStringBuilder" (83 : Nat) ({ cls := "java/lang/AbstractStringBuilder", name := "isLatin1", desc := "()Z" } : Jvm.MethodName)) ∈ lw_all := lw_g (lw_at lw_m2 233 rfl) rfl
theorem q596 : (Jvm.Cond.instanceMethod ({ cls := "java/lang/AbstractStringBuilder", name := "isLatin1", desc := "()Z" } : Jvm.MethodName)) ∈ lw_all := lw_g (lw_at lw_m2 234 rfl) rfl
theorem q597 : (Jvm.Cond.sameMethod "java/lang/AbstractStringBuilder" "java/lang/AbstractStringBuilder" "isLatin1" "()Z") ∈ lw_all := lw_g (lw_at lw_m2 235 rfl) rfl
theorem q599 : (Jvm.Cond.code ({ cls := "java/lang/AbstractStringBuilder", name := "isLatin1", desc := "()Z" } : Jvm.MethodName) prog_24_method_68_code (1 : Nat) (Option.some Jvm.ClassFile.FieldType.boolean)) ∈ lw_all := lw_g (lw_at lw_m2 237 rfl) rfl
theorem q600 : (Jvm.Cond.methodLink "java/lang/AbstractStringBuilder" (191 : Nat) ({ cls := "java/lang/StringLatin1", name := "canEncode", desc := "(C)Z" } : Jvm.MethodName)) ∈ lw_all := lw_g (lw_at lw_m2 238 rfl) rfl
theorem q603 : (Jvm.Cond.methodLink "java/lang/AbstractStringBuilder" (195 : Nat) ({ cls := "java/lang/AbstractStringBuilder", name := "inflate", desc := "()V" } : Jvm.MethodName)) ∈ lw_all := lw_g (lw_at lw_m3 1 rfl) rfl
theorem q604 : (Jvm.Cond.privateMethod ({ cls := "java/lang/AbstractStringBuilder", name := "inflate", desc := "()V" } : Jvm.MethodName)) ∈ lw_tbl := lw_at lw_m3 2 rfl
theorem q605 : (Jvm.Cond.instanceMethod ({ cls := "java/lang/AbstractStringBuilder", name := "inflate", desc := "()V" } : Jvm.MethodName)) ∈ lw_all := lw_g (lw_at lw_m3 3 rfl) rfl
theorem q606 : (Jvm.Cond.code ({ cls := "java/lang/AbstractStringBuilder", name := "inflate", desc := "()V" } : Jvm.MethodName) prog_24_method_11_code (2 : Nat) (Option.none : Option Jvm.ClassFile.FieldType)) ∈ lw_all := lw_g (lw_at lw_m3 4 rfl) rfl
theorem q607 : (Jvm.Cond.methodLink "java/lang/AbstractStringBuilder" (125 : Nat) ({ cls := "java/lang/StringLatin1", name := "inflate", desc := "([BI[BII)V" } : Jvm.MethodName)) ∈ lw_all := lw_g (lw_at lw_m3 5 rfl) rfl
theorem q636 : (Jvm.Cond.methodLink "java/lang/AbstractStringBuilder" (197 : Nat) ({ cls := "java/lang/StringUTF16", name := "putCharSB", desc := "([BII)V" } : Jvm.MethodName)) ∈ lw_all := lw_g (lw_at lw_m3 34 rfl) rfl
theorem q660 : (Jvm.Cond.instanceMethod ({ cls := "java/lang/AbstractStringBuilder", name := "getValue", desc := "()[B" } : Jvm.MethodName)) ∈ lw_all := lw_g (lw_at lw_m3 58 rfl) rfl
theorem q661 : (Jvm.Cond.sameMethod "java/lang/AbstractStringBuilder" "java/lang/AbstractStringBuilder" "getValue" "()[B") ∈ lw_all := lw_g (lw_at lw_m3 59 rfl) rfl
theorem q663 : (Jvm.Cond.code ({ cls := "java/lang/AbstractStringBuilder", name := "getValue", desc := "()[B" } : Jvm.MethodName) prog_24_method_64_code (1 : Nat) (Option.some (Jvm.ClassFile.FieldType.array Jvm.ClassFile.FieldType.byte))) ∈ lw_all := lw_g (lw_at lw_m3 61 rfl) rfl
theorem q665 : (Jvm.Cond.instanceMethod ({ cls := "java/lang/AbstractStringBuilder", name := "length", desc := "()I" } : Jvm.MethodName)) ∈ lw_all := lw_g (lw_at lw_m3 63 rfl) rfl
theorem q666 : (Jvm.Cond.sameMethod "java/lang/AbstractStringBuilder" "java/lang/AbstractStringBuilder" "length" "()I") ∈ lw_all := lw_g (lw_at lw_m3 64 rfl) rfl
theorem q671 : (Jvm.Cond.code ({ cls := "java/lang/AbstractStringBuilder", name := "length", desc := "()I" } : Jvm.MethodName) prog_24_method_6_code (1 : Nat) (Option.some Jvm.ClassFile.FieldType.int)) ∈ lw_all := lw_g (lw_at lw_m3 69 rfl) rfl
theorem q2252 : (Jvm.Cond.sameMethod "java/lang/AbstractStringBuilder" "java/lang/AbstractStringBuilder" "append" "(C)Ljava/lang/AbstractStringBuilder;") ∈ lw_all := lw_g (lw_at lw_m9 210 rfl) rfl
theorem q2253 : (Jvm.Cond.sameMethod "java/lang/AbstractStringBuilder" "java/lang/AbstractStringBuilder" "ensureCapacityInternal" "(I)V") ∈ lw_all := lw_g (lw_at lw_m9 211 rfl) rfl
theorem q2254 : (Jvm.Cond.sameMethod "java/lang/AbstractStringBuilder" "java/lang/AbstractStringBuilder" "newCapacity" "(I)I") ∈ lw_all := lw_g (lw_at lw_m9 212 rfl) rfl
theorem q2255 : (Jvm.Cond.sameMethod "java/lang/AbstractStringBuilder" "java/lang/AbstractStringBuilder" "inflate" "()V") ∈ lw_all := lw_g (lw_at lw_m9 213 rfl) rfl

/-! java/lang/StringBuilder -/
set_option maxRecDepth 100000
def RJ6 : String := "java/lang/StringBuilder"
def TJ6 : u_T := fun k => match k with
  | 0 => ("java/lang/AbstractStringBuilder", "value", "[B", false)
  | 1 => ("java/lang/AbstractStringBuilder", "coder", "B", false)
  | 2 => ("java/lang/AbstractStringBuilder", "maybeLatin1", "Z", false)
  | _ => ("java/lang/AbstractStringBuilder", "count", "I", false)
def tyJ6 : Nat → FieldType := fun k => match k with
  | 0 => .array .byte
  | 1 => .byte
  | 2 => .boolean
  | _ => .int
abbrev wsJ60 : List Cond := u_ws RJ6 TJ6 4
theorem nmJ6 : ∀ a, a < 4 → ∀ b, b < 4 → a ≠ b → (TJ6 a).2.1 ≠ (TJ6 b).2.1 := by decide +kernel
theorem tyJ6_ok : ∀ k, k < 4 → parseFieldDescriptor (TJ6 k).2.2.1 = some (tyJ6 k) := by decide +kernel
abbrev cJ6_init : ByteArray := prog_35_method_2_code
def yJ6_init : MethodName := ⟨RJ6, "<init>", "(I)V"⟩
def dkwJ6_init_0 : List UInt8 := [42, 27, 183, 0, 1, 177]
abbrev dktJ6_init_0 : List UInt8 := dkwJ6_init_0 ++ []
theorem dksJ6_init_0 : cJ6_init.data.toList.drop 0 = dktJ6_init_0 := by decide +kernel
theorem dJ6_init_0 : decode cJ6_init 0 = .ok (.aload_n 0, 1) := dk_42 (dk_at dksJ6_init_0 0 rfl rfl)
theorem dJ6_init_1 : decode cJ6_init 1 = .ok (.iload_n 1, 1) := dk_27 (dk_at dksJ6_init_0 1 rfl rfl)
theorem dJ6_init_2 : decode cJ6_init 2 = .ok (.invokespecial 1, 3) := dk_183 0 1 (dk_at dksJ6_init_0 2 rfl rfl)
theorem dJ6_init_5 : decode cJ6_init 5 = .ok (.return_, 1) := dk_177 (dk_at dksJ6_init_0 5 rfl rfl)
abbrev cJ6_append : ByteArray := prog_35_method_14_code
def yJ6_append : MethodName := ⟨RJ6, "append", "(C)Ljava/lang/StringBuilder;"⟩
def dkwJ6_append_0 : List UInt8 := [42, 27, 183, 0, 50, 87, 42, 176]
abbrev dktJ6_append_0 : List UInt8 := dkwJ6_append_0 ++ []
theorem dksJ6_append_0 : cJ6_append.data.toList.drop 0 = dktJ6_append_0 := by decide +kernel
theorem dJ6_append_0 : decode cJ6_append 0 = .ok (.aload_n 0, 1) := dk_42 (dk_at dksJ6_append_0 0 rfl rfl)
theorem dJ6_append_1 : decode cJ6_append 1 = .ok (.iload_n 1, 1) := dk_27 (dk_at dksJ6_append_0 1 rfl rfl)
theorem dJ6_append_2 : decode cJ6_append 2 = .ok (.invokespecial 50, 3) := dk_183 0 50 (dk_at dksJ6_append_0 2 rfl rfl)
theorem dJ6_append_5 : decode cJ6_append 5 = .ok (.pop, 1) := dk_87 (dk_at dksJ6_append_0 5 rfl rfl)
theorem dJ6_append_6 : decode cJ6_append 6 = .ok (.aload_n 0, 1) := dk_42 (dk_at dksJ6_append_0 6 rfl rfl)
theorem dJ6_append_7 : decode cJ6_append 7 = .ok (.areturn, 1) := dk_176 (dk_at dksJ6_append_0 7 rfl rfl)
abbrev cJ6_toString : ByteArray := prog_35_method_42_code
def yJ6_toString : MethodName := ⟨RJ6, "toString", "()Ljava/lang/String;"⟩
def dkwJ6_toString_0 : List UInt8 := [187, 0, 18, 89, 42, 183, 0, 137, 176]
abbrev dktJ6_toString_0 : List UInt8 := dkwJ6_toString_0 ++ []
theorem dksJ6_toString_0 : cJ6_toString.data.toList.drop 0 = dktJ6_toString_0 := by decide +kernel
theorem dJ6_toString_0 : decode cJ6_toString 0 = .ok (.new 18, 3) := dk_187 0 18 (dk_at dksJ6_toString_0 0 rfl rfl)
theorem dJ6_toString_3 : decode cJ6_toString 3 = .ok (.dup, 1) := dk_89 (dk_at dksJ6_toString_0 3 rfl rfl)
theorem dJ6_toString_4 : decode cJ6_toString 4 = .ok (.aload_n 0, 1) := dk_42 (dk_at dksJ6_toString_0 4 rfl rfl)
theorem dJ6_toString_5 : decode cJ6_toString 5 = .ok (.invokespecial 137, 3) := dk_183 0 137 (dk_at dksJ6_toString_0 5 rfl rfl)
theorem dJ6_toString_8 : decode cJ6_toString 8 = .ok (.areturn, 1) := dk_176 (dk_at dksJ6_toString_0 8 rfl rfl)
abbrev cJ6_length : ByteArray := prog_35_method_93_code
def yJ6_length : MethodName := ⟨RJ6, "length", "()I"⟩
theorem dJ6_length_0 : decode cJ6_length 0 = .ok (.aload_n 0, 1) := by decide +kernel
theorem dJ6_length_1 : decode cJ6_length 1 = .ok (.invokespecial 343, 3) := by decide +kernel
theorem dJ6_length_4 : decode cJ6_length 4 = .ok (.ireturn, 1) := by decide +kernel
theorem q135 : (Jvm.Cond.initialized "java/lang/StringBuilder") ∈ lw_all := lw_g (lw_at lw_m1 13 rfl) rfl
theorem q523 : (Jvm.Cond.instantiable "java/lang/StringBuilder" (4 : Nat)) ∈ lw_all := lw_g (lw_at lw_m2 161 rfl) rfl
theorem q525 : (Jvm.Cond.instanceMethod ({ cls := "java/lang/StringBuilder", name := "<init>", desc := "(I)V" } : Jvm.MethodName)) ∈ lw_all := lw_g (lw_at lw_m2 163 rfl) rfl
theorem q526 : (Jvm.Cond.code ({ cls := "java/lang/StringBuilder", name := "<init>", desc := "(I)V" } : Jvm.MethodName) prog_35_method_2_code (2 : Nat) (Option.none : Option Jvm.ClassFile.FieldType)) ∈ lw_all := lw_g (lw_at lw_m2 164 rfl) rfl
theorem q527 : (Jvm.Cond.methodLink "java/lang/StringBuilder" (1 : Nat) ({ cls := "java/lang/AbstractStringBuilder", name := "<init>", desc := "(I)V" } : Jvm.MethodName)) ∈ lw_all := lw_g (lw_at lw_m2 165 rfl) rfl
theorem q544 : (Jvm.Cond.lays "java/lang/StringBuilder" "java/lang/AbstractStringBuilder" "value" "[B") ∈ lw_all := lw_g (lw_at lw_m2 182 rfl) rfl
theorem q546 : (Jvm.Cond.lays "java/lang/StringBuilder" "java/lang/AbstractStringBuilder" "coder" "B") ∈ lw_all := lw_g (lw_at lw_m2 184 rfl) rfl
theorem q548 : (Jvm.Cond.lays "java/lang/StringBuilder" "java/lang/AbstractStringBuilder" "maybeLatin1" "Z") ∈ lw_all := lw_g (lw_at lw_m2 186 rfl) rfl
theorem q550 : (Jvm.Cond.lays "java/lang/StringBuilder" "java/lang/AbstractStringBuilder" "count" "I") ∈ lw_all := lw_g (lw_at lw_m2 188 rfl) rfl
theorem q552 : (Jvm.Cond.superclass "java/lang/StringBuilder" "java/lang/AbstractStringBuilder") ∈ lw_all := lw_g (lw_at lw_m2 190 rfl) rfl
theorem q554 : (Jvm.Cond.instanceMethod ({ cls := "java/lang/StringBuilder", name := "append", desc := "(C)Ljava/lang/StringBuilder;" } : Jvm.MethodName)) ∈ lw_all := lw_g (lw_at lw_m2 192 rfl) rfl
theorem q555 : (Jvm.Cond.selects "java/lang/StringBuilder" ({ cls := "java/lang/StringBuilder", name := "append", desc := "(C)Ljava/lang/StringBuilder;" } : Jvm.MethodName) ({ cls := "java/lang/StringBuilder", name := "append", desc := "(C)Ljava/lang/StringBuilder;" } : Jvm.MethodName)) ∈ lw_all := lw_g (lw_at lw_m2 193 rfl) rfl
theorem q556 : (Jvm.Cond.code ({ cls := "java/lang/StringBuilder", name := "append", desc := "(C)Ljava/lang/StringBuilder;" } : Jvm.MethodName) prog_35_method_14_code (2 : Nat) (Option.some (Jvm.ClassFile.FieldType.object "java/lang/StringBuilder"))) ∈ lw_all := lw_g (lw_at lw_m2 194 rfl) rfl
theorem q557 : (Jvm.Cond.methodLink "java/lang/StringBuilder" (50 : Nat) ({ cls := "java/lang/AbstractStringBuilder", name := "append", desc := "(C)Ljava/lang/AbstractStringBuilder;" } : Jvm.MethodName)) ∈ lw_all := lw_g (lw_at lw_m2 195 rfl) rfl
theorem q598 : (Jvm.Cond.selects "java/lang/StringBuilder" ({ cls := "java/lang/AbstractStringBuilder", name := "isLatin1", desc := "()Z" } : Jvm.MethodName) ({ cls := "java/lang/AbstractStringBuilder", name := "isLatin1", desc := "()Z" } : Jvm.MethodName)) ∈ lw_all := lw_g (lw_at lw_m2 236 rfl) rfl
theorem q647 : (Jvm.Cond.instanceMethod ({ cls := "java/lang/StringBuilder", name := "toString", desc := "()Ljava/lang/String;" } : Jvm.MethodName)) ∈ lw_all := lw_g (lw_at lw_m3 45 rfl) rfl
theorem q648 : (Jvm.Cond.selects "java/lang/StringBuilder" ({ cls := "java/lang/StringBuilder", name := "toString", desc := "()Ljava/lang/String;" } : Jvm.MethodName) ({ cls := "java/lang/StringBuilder", name := "toString", desc := "()Ljava/lang/String;" } : Jvm.MethodName)) ∈ lw_all := lw_g (lw_at lw_m3 46 rfl) rfl
theorem q649 : (Jvm.Cond.code ({ cls := "java/lang/StringBuilder", name := "toString", desc := "()Ljava/lang/String;" } : Jvm.MethodName) prog_35_method_42_code (1 : Nat) (Option.some (Jvm.ClassFile.FieldType.object "java/lang/String"))) ∈ lw_all := lw_g (lw_at lw_m3 47 rfl) rfl
theorem q650 : (Jvm.Cond.classLink "java/lang/StringBuilder" (18 : Nat) "java/lang/String") ∈ lw_all := lw_g (lw_at lw_m3 48 rfl) rfl
theorem q652 : (Jvm.Cond.methodLink "java/lang/StringBuilder" (137 : Nat) ({ cls := "java/lang/String", name := "<init>", desc := "(Ljava/lang/StringBuilder;)V" } : Jvm.MethodName)) ∈ lw_all := lw_g (lw_at lw_m3 50 rfl) rfl
theorem q662 : (Jvm.Cond.selects "java/lang/StringBuilder" ({ cls := "java/lang/AbstractStringBuilder", name := "getValue", desc := "()[B" } : Jvm.MethodName) ({ cls := "java/lang/AbstractStringBuilder", name := "getValue", desc := "()[B" } : Jvm.MethodName)) ∈ lw_all := lw_g (lw_at lw_m3 60 rfl) rfl
theorem q667 : (Jvm.Cond.selects "java/lang/StringBuilder" ({ cls := "java/lang/AbstractStringBuilder", name := "length", desc := "()I" } : Jvm.MethodName) ({ cls := "java/lang/StringBuilder", name := "length", desc := "()I" } : Jvm.MethodName)) ∈ lw_all := lw_g (lw_at lw_m3 65 rfl) rfl
theorem q668 : (Jvm.Cond.instanceMethod ({ cls := "java/lang/StringBuilder", name := "length", desc := "()I" } : Jvm.MethodName)) ∈ lw_all := lw_g (lw_at lw_m3 66 rfl) rfl
theorem q669 : (Jvm.Cond.code ({ cls := "java/lang/StringBuilder", name := "length", desc := "()I" } : Jvm.MethodName) prog_35_method_93_code (1 : Nat) (Option.some Jvm.ClassFile.FieldType.int)) ∈ lw_all := lw_g (lw_at lw_m3 67 rfl) rfl
theorem q670 : (Jvm.Cond.methodLink "java/lang/StringBuilder" (343 : Nat) ({ cls := "java/lang/AbstractStringBuilder", name := "length", desc := "()I" } : Jvm.MethodName)) ∈ lw_all := lw_g (lw_at lw_m3 68 rfl) rfl
theorem q976 : (Jvm.Cond.selects "java/lang/StringBuilder" ({ cls := "java/lang/Object", name := "getClass", desc := "()Ljava/lang/Class;" } : Jvm.MethodName) ({ cls := "java/lang/Object", name := "getClass", desc := "()Ljava/lang/Class;" } : Jvm.MethodName)) ∈ lw_all := lw_g (lw_at lw_m4 134 rfl) rfl
theorem q2267 : (Jvm.Cond.castable "java/lang/StringBuilder" "java/lang/Object") ∈ lw_tbl := lw_at lw_m9 225 rfl
theorem in_J6 : ∀ w ∈ wsJ60, w ∈ lw_all := lw_in wsJ60 [544, 546, 548, 550] (by decide +kernel) (by decide +kernel)

/-! java/lang/String -/
set_option maxRecDepth 100000
def RJ7 : String := "java/lang/String"
def TJ7 : u_T := fun k => match k with
  | 0 => ("java/lang/String", "value", "[B", true)
  | 1 => ("java/lang/String", "coder", "B", true)
  | 2 => ("java/lang/String", "hash", "I", false)
  | _ => ("java/lang/String", "hashIsZero", "Z", false)
def tyJ7 : Nat → FieldType := fun k => match k with
  | 0 => .array .byte
  | 1 => .byte
  | 2 => .int
  | _ => .boolean
abbrev wsJ70 : List Cond := u_ws RJ7 TJ7 4
theorem nmJ7 : ∀ a, a < 4 → ∀ b, b < 4 → a ≠ b → (TJ7 a).2.1 ≠ (TJ7 b).2.1 := by decide +kernel
theorem tyJ7_ok : ∀ k, k < 4 → parseFieldDescriptor (TJ7 k).2.2.1 = some (tyJ7 k) := by decide +kernel
abbrev cJ7_checkBoundsOffCount : ByteArray := prog_34_method_157_code
def yJ7_checkBoundsOffCount : MethodName := ⟨RJ7, "checkBoundsOffCount", "(III)I"⟩
def dkwJ7_checkBoundsOffCount_0 : List UInt8 := [26, 27, 28, 178, 4, 29, 184, 4, 41, 172]
abbrev dktJ7_checkBoundsOffCount_0 : List UInt8 := dkwJ7_checkBoundsOffCount_0 ++ []
theorem dksJ7_checkBoundsOffCount_0 : cJ7_checkBoundsOffCount.data.toList.drop 0 = dktJ7_checkBoundsOffCount_0 := by decide +kernel
theorem dJ7_checkBoundsOffCount_0 : decode cJ7_checkBoundsOffCount 0 = .ok (.iload_n 0, 1) := dk_26 (dk_at dksJ7_checkBoundsOffCount_0 0 rfl rfl)
theorem dJ7_checkBoundsOffCount_1 : decode cJ7_checkBoundsOffCount 1 = .ok (.iload_n 1, 1) := dk_27 (dk_at dksJ7_checkBoundsOffCount_0 1 rfl rfl)
theorem dJ7_checkBoundsOffCount_2 : decode cJ7_checkBoundsOffCount 2 = .ok (.iload_n 2, 1) := dk_28 (dk_at dksJ7_checkBoundsOffCount_0 2 rfl rfl)
theorem dJ7_checkBoundsOffCount_3 : decode cJ7_checkBoundsOffCount 3 = .ok (.getstatic 1053, 3) := dk_178 4 29 (dk_at dksJ7_checkBoundsOffCount_0 3 rfl rfl)
theorem dJ7_checkBoundsOffCount_6 : decode cJ7_checkBoundsOffCount 6 = .ok (.invokestatic 1065, 3) := dk_184 4 41 (dk_at dksJ7_checkBoundsOffCount_0 6 rfl rfl)
theorem dJ7_checkBoundsOffCount_9 : decode cJ7_checkBoundsOffCount 9 = .ok (.ireturn, 1) := dk_172 (dk_at dksJ7_checkBoundsOffCount_0 9 rfl rfl)
abbrev cJ7_checkIndex : ByteArray := prog_34_method_155_code
def yJ7_checkIndex : MethodName := ⟨RJ7, "checkIndex", "(II)V"⟩
def dkwJ7_checkIndex_0 : List UInt8 := [26, 27, 178, 4, 29, 184, 4, 35, 87, 177]
abbrev dktJ7_checkIndex_0 : List UInt8 := dkwJ7_checkIndex_0 ++ []
theorem dksJ7_checkIndex_0 : cJ7_checkIndex.data.toList.drop 0 = dktJ7_checkIndex_0 := by decide +kernel
theorem dJ7_checkIndex_0 : decode cJ7_checkIndex 0 = .ok (.iload_n 0, 1) := dk_26 (dk_at dksJ7_checkIndex_0 0 rfl rfl)
theorem dJ7_checkIndex_1 : decode cJ7_checkIndex 1 = .ok (.iload_n 1, 1) := dk_27 (dk_at dksJ7_checkIndex_0 1 rfl rfl)
theorem dJ7_checkIndex_2 : decode cJ7_checkIndex 2 = .ok (.getstatic 1053, 3) := dk_178 4 29 (dk_at dksJ7_checkIndex_0 2 rfl rfl)
theorem dJ7_checkIndex_5 : decode cJ7_checkIndex 5 = .ok (.invokestatic 1059, 3) := dk_184 4 35 (dk_at dksJ7_checkIndex_0 5 rfl rfl)
theorem dJ7_checkIndex_8 : decode cJ7_checkIndex 8 = .ok (.pop, 1) := dk_87 (dk_at dksJ7_checkIndex_0 8 rfl rfl)
theorem dJ7_checkIndex_9 : decode cJ7_checkIndex 9 = .ok (.return_, 1) := dk_177 (dk_at dksJ7_checkIndex_0 9 rfl rfl)
abbrev cJ7_init : ByteArray := prog_34_method_53_code
def yJ7_init : MethodName := ⟨RJ7, "<init>", "(Ljava/lang/StringBuilder;)V"⟩
def dkwJ7_init_0 : List UInt8 := [42, 43, 1, 183, 1, 233, 177]
abbrev dktJ7_init_0 : List UInt8 := dkwJ7_init_0 ++ []
theorem dksJ7_init_0 : cJ7_init.data.toList.drop 0 = dktJ7_init_0 := by decide +kernel
theorem dJ7_init_0 : decode cJ7_init 0 = .ok (.aload_n 0, 1) := dk_42 (dk_at dksJ7_init_0 0 rfl rfl)
theorem dJ7_init_1 : decode cJ7_init 1 = .ok (.aload_n 1, 1) := dk_43 (dk_at dksJ7_init_0 1 rfl rfl)
theorem dJ7_init_2 : decode cJ7_init 2 = .ok (.aconst_null, 1) := dk_1 (dk_at dksJ7_init_0 2 rfl rfl)
theorem dJ7_init_3 : decode cJ7_init 3 = .ok (.invokespecial 489, 3) := dk_183 1 233 (dk_at dksJ7_init_0 3 rfl rfl)
theorem dJ7_init_6 : decode cJ7_init 6 = .ok (.return_, 1) := dk_177 (dk_at dksJ7_init_0 6 rfl rfl)
abbrev cJ7_init_2 : ByteArray := prog_34_method_150_code
def yJ7_init_2 : MethodName := ⟨RJ7, "<init>", "(Ljava/lang/AbstractStringBuilder;Ljava/lang/Void;)V"⟩
def dkwJ7_init_2_4 : List UInt8 := [181, 0, 9, 177]
abbrev dktJ7_init_2_4 : List UInt8 := dkwJ7_init_2_4 ++ []
def dkwJ7_init_2_3 : List UInt8 := [184, 0, 47, 181, 0, 15, 177, 42, 4, 181, 0, 15, 42, 45, 3, 21, 4, 4, 120, 184, 0, 54]
abbrev dktJ7_init_2_3 : List UInt8 := dkwJ7_init_2_3 ++ dktJ7_init_2_4
def dkwJ7_init_2_2 : List UInt8 := [180, 4, 24, 153, 0, 28, 42, 45, 3, 21, 4, 184, 4, 27, 181, 0, 9, 42, 42, 180, 0, 9, 21, 4]
abbrev dktJ7_init_2_2 : List UInt8 := dkwJ7_init_2_2 ++ dktJ7_init_2_3
def dkwJ7_init_2_1 : List UInt8 := [181, 0, 15, 42, 45, 3, 21, 4, 184, 0, 54, 181, 0, 9, 167, 0, 59, 178, 0, 38, 153, 0, 35, 43]
abbrev dktJ7_init_2_1 : List UInt8 := dkwJ7_init_2_1 ++ dktJ7_init_2_2
def dkwJ7_init_2_0 : List UInt8 := [42, 183, 0, 1, 43, 182, 2, 40, 78, 43, 182, 2, 37, 54, 4, 43, 182, 4, 23, 153, 0, 22, 42, 3]
abbrev dktJ7_init_2_0 : List UInt8 := dkwJ7_init_2_0 ++ dktJ7_init_2_1
theorem dksJ7_init_2_0 : cJ7_init_2.data.toList.drop 0 = dktJ7_init_2_0 := by decide +kernel
theorem dksJ7_init_2_1 : cJ7_init_2.data.toList.drop 24 = dktJ7_init_2_1 := dk_seg dksJ7_init_2_0 24 rfl rfl
theorem dksJ7_init_2_2 : cJ7_init_2.data.toList.drop 48 = dktJ7_init_2_2 := dk_seg dksJ7_init_2_1 24 rfl rfl
theorem dksJ7_init_2_3 : cJ7_init_2.data.toList.drop 72 = dktJ7_init_2_3 := dk_seg dksJ7_init_2_2 24 rfl rfl
theorem dksJ7_init_2_4 : cJ7_init_2.data.toList.drop 94 = dktJ7_init_2_4 := dk_seg dksJ7_init_2_3 22 rfl rfl
theorem dJ7_init_2_0 : decode cJ7_init_2 0 = .ok (.aload_n 0, 1) := dk_42 (dk_at dksJ7_init_2_0 0 rfl rfl)
theorem dJ7_init_2_1 : decode cJ7_init_2 1 = .ok (.invokespecial 1, 3) := dk_183 0 1 (dk_at dksJ7_init_2_0 1 rfl rfl)
theorem dJ7_init_2_4 : decode cJ7_init_2 4 = .ok (.aload_n 1, 1) := dk_43 (dk_at dksJ7_init_2_0 4 rfl rfl)
theorem dJ7_init_2_5 : decode cJ7_init_2 5 = .ok (.invokevirtual 552, 3) := dk_182 2 40 (dk_at dksJ7_init_2_0 5 rfl rfl)
theorem dJ7_init_2_8 : decode cJ7_init_2 8 = .ok (.astore_n 3, 1) := dk_78 (dk_at dksJ7_init_2_0 8 rfl rfl)
theorem dJ7_init_2_9 : decode cJ7_init_2 9 = .ok (.aload_n 1, 1) := dk_43 (dk_at dksJ7_init_2_0 9 rfl rfl)
theorem dJ7_init_2_10 : decode cJ7_init_2 10 = .ok (.invokevirtual 549, 3) := dk_182 2 37 (dk_at dksJ7_init_2_0 10 rfl rfl)
theorem dJ7_init_2_13 : decode cJ7_init_2 13 = .ok (.istore 4, 2) := dk_54 4 (dk_at dksJ7_init_2_0 13 rfl rfl)
theorem dJ7_init_2_15 : decode cJ7_init_2 15 = .ok (.aload_n 1, 1) := dk_43 (dk_at dksJ7_init_2_0 15 rfl rfl)
theorem dJ7_init_2_16 : decode cJ7_init_2 16 = .ok (.invokevirtual 1047, 3) := dk_182 4 23 (dk_at dksJ7_init_2_0 16 rfl rfl)
theorem dJ7_init_2_19 : decode cJ7_init_2 19 = .ok (.ifCond .eq 22, 3) := dk_153 0 22 (dk_at dksJ7_init_2_0 19 rfl rfl)
theorem dJ7_init_2_22 : decode cJ7_init_2 22 = .ok (.aload_n 0, 1) := dk_42 (dk_at dksJ7_init_2_0 22 rfl rfl)
theorem dJ7_init_2_23 : decode cJ7_init_2 23 = .ok (.iconst 0, 1) := dk_3 (dk_at dksJ7_init_2_0 23 rfl rfl)
theorem dJ7_init_2_24 : decode cJ7_init_2 24 = .ok (.putfield 15, 3) := dk_181 0 15 (dk_at dksJ7_init_2_1 0 rfl rfl)
theorem dJ7_init_2_27 : decode cJ7_init_2 27 = .ok (.aload_n 0, 1) := dk_42 (dk_at dksJ7_init_2_1 3 rfl rfl)
theorem dJ7_init_2_28 : decode cJ7_init_2 28 = .ok (.aload_n 3, 1) := dk_45 (dk_at dksJ7_init_2_1 4 rfl rfl)
theorem dJ7_init_2_29 : decode cJ7_init_2 29 = .ok (.iconst 0, 1) := dk_3 (dk_at dksJ7_init_2_1 5 rfl rfl)
theorem dJ7_init_2_30 : decode cJ7_init_2 30 = .ok (.iload 4, 2) := dk_21 4 (dk_at dksJ7_init_2_1 6 rfl rfl)
theorem dJ7_init_2_32 : decode cJ7_init_2 32 = .ok (.invokestatic 54, 3) := dk_184 0 54 (dk_at dksJ7_init_2_1 8 rfl rfl)
theorem dJ7_init_2_35 : decode cJ7_init_2 35 = .ok (.putfield 9, 3) := dk_181 0 9 (dk_at dksJ7_init_2_1 11 rfl rfl)
theorem dJ7_init_2_38 : decode cJ7_init_2 38 = .ok (.goto 59, 3) := dk_167 0 59 (dk_at dksJ7_init_2_1 14 rfl rfl)
theorem dJ7_init_2_41 : decode cJ7_init_2 41 = .ok (.getstatic 38, 3) := dk_178 0 38 (dk_at dksJ7_init_2_1 17 rfl rfl)
theorem dJ7_init_2_44 : decode cJ7_init_2 44 = .ok (.ifCond .eq 35, 3) := dk_153 0 35 (dk_at dksJ7_init_2_1 20 rfl rfl)
theorem dJ7_init_2_47 : decode cJ7_init_2 47 = .ok (.aload_n 1, 1) := dk_43 (dk_at dksJ7_init_2_1 23 rfl rfl)
theorem dJ7_init_2_48 : decode cJ7_init_2 48 = .ok (.getfield 1048, 3) := dk_180 4 24 (dk_at dksJ7_init_2_2 0 rfl rfl)
theorem dJ7_init_2_51 : decode cJ7_init_2 51 = .ok (.ifCond .eq 28, 3) := dk_153 0 28 (dk_at dksJ7_init_2_2 3 rfl rfl)
theorem dJ7_init_2_54 : decode cJ7_init_2 54 = .ok (.aload_n 0, 1) := dk_42 (dk_at dksJ7_init_2_2 6 rfl rfl)
theorem dJ7_init_2_55 : decode cJ7_init_2 55 = .ok (.aload_n 3, 1) := dk_45 (dk_at dksJ7_init_2_2 7 rfl rfl)
theorem dJ7_init_2_56 : decode cJ7_init_2 56 = .ok (.iconst 0, 1) := dk_3 (dk_at dksJ7_init_2_2 8 rfl rfl)
theorem dJ7_init_2_57 : decode cJ7_init_2 57 = .ok (.iload 4, 2) := dk_21 4 (dk_at dksJ7_init_2_2 9 rfl rfl)
theorem dJ7_init_2_59 : decode cJ7_init_2 59 = .ok (.invokestatic 1051, 3) := dk_184 4 27 (dk_at dksJ7_init_2_2 11 rfl rfl)
theorem dJ7_init_2_62 : decode cJ7_init_2 62 = .ok (.putfield 9, 3) := dk_181 0 9 (dk_at dksJ7_init_2_2 14 rfl rfl)
theorem dJ7_init_2_65 : decode cJ7_init_2 65 = .ok (.aload_n 0, 1) := dk_42 (dk_at dksJ7_init_2_2 17 rfl rfl)
theorem dJ7_init_2_66 : decode cJ7_init_2 66 = .ok (.aload_n 0, 1) := dk_42 (dk_at dksJ7_init_2_2 18 rfl rfl)
theorem dJ7_init_2_67 : decode cJ7_init_2 67 = .ok (.getfield 9, 3) := dk_180 0 9 (dk_at dksJ7_init_2_2 19 rfl rfl)
theorem dJ7_init_2_70 : decode cJ7_init_2 70 = .ok (.iload 4, 2) := dk_21 4 (dk_at dksJ7_init_2_2 22 rfl rfl)
theorem dJ7_init_2_72 : decode cJ7_init_2 72 = .ok (.invokestatic 47, 3) := dk_184 0 47 (dk_at dksJ7_init_2_3 0 rfl rfl)
theorem dJ7_init_2_75 : decode cJ7_init_2 75 = .ok (.putfield 15, 3) := dk_181 0 15 (dk_at dksJ7_init_2_3 3 rfl rfl)
theorem dJ7_init_2_78 : decode cJ7_init_2 78 = .ok (.return_, 1) := dk_177 (dk_at dksJ7_init_2_3 6 rfl rfl)
theorem dJ7_init_2_79 : decode cJ7_init_2 79 = .ok (.aload_n 0, 1) := dk_42 (dk_at dksJ7_init_2_3 7 rfl rfl)
theorem dJ7_init_2_80 : decode cJ7_init_2 80 = .ok (.iconst 1, 1) := dk_4 (dk_at dksJ7_init_2_3 8 rfl rfl)
theorem dJ7_init_2_81 : decode cJ7_init_2 81 = .ok (.putfield 15, 3) := dk_181 0 15 (dk_at dksJ7_init_2_3 9 rfl rfl)
theorem dJ7_init_2_84 : decode cJ7_init_2 84 = .ok (.aload_n 0, 1) := dk_42 (dk_at dksJ7_init_2_3 12 rfl rfl)
theorem dJ7_init_2_85 : decode cJ7_init_2 85 = .ok (.aload_n 3, 1) := dk_45 (dk_at dksJ7_init_2_3 13 rfl rfl)
theorem dJ7_init_2_86 : decode cJ7_init_2 86 = .ok (.iconst 0, 1) := dk_3 (dk_at dksJ7_init_2_3 14 rfl rfl)
theorem dJ7_init_2_87 : decode cJ7_init_2 87 = .ok (.iload 4, 2) := dk_21 4 (dk_at dksJ7_init_2_3 15 rfl rfl)
theorem dJ7_init_2_89 : decode cJ7_init_2 89 = .ok (.iconst 1, 1) := dk_4 (dk_at dksJ7_init_2_3 17 rfl rfl)
theorem dJ7_init_2_90 : decode cJ7_init_2 90 = .ok (.ishl, 1) := dk_120 (dk_at dksJ7_init_2_3 18 rfl rfl)
theorem dJ7_init_2_91 : decode cJ7_init_2 91 = .ok (.invokestatic 54, 3) := dk_184 0 54 (dk_at dksJ7_init_2_3 19 rfl rfl)
theorem dJ7_init_2_94 : decode cJ7_init_2 94 = .ok (.putfield 9, 3) := dk_181 0 9 (dk_at dksJ7_init_2_4 0 rfl rfl)
theorem dJ7_init_2_97 : decode cJ7_init_2 97 = .ok (.return_, 1) := dk_177 (dk_at dksJ7_init_2_4 3 rfl rfl)
abbrev cJ7_equals : ByteArray := prog_34_method_66_code
def yJ7_equals : MethodName := ⟨RJ7, "equals", "(Ljava/lang/Object;)Z"⟩
def dkwJ7_equals_2 : List UInt8 := [184, 2, 29, 153, 0, 7, 4, 167, 0, 4, 3, 172]
abbrev dktJ7_equals_2 : List UInt8 := dkwJ7_equals_2 ++ []
def dkwJ7_equals_1 : List UInt8 := [153, 0, 14, 42, 180, 0, 15, 44, 180, 0, 15, 160, 0, 21, 42, 180, 0, 9, 44, 180, 0, 9]
abbrev dktJ7_equals_1 : List UInt8 := dkwJ7_equals_1 ++ dktJ7_equals_2
def dkwJ7_equals_0 : List UInt8 := [42, 43, 166, 0, 5, 4, 172, 43, 193, 0, 10, 153, 0, 43, 43, 192, 0, 10, 77, 178, 0, 38]
abbrev dktJ7_equals_0 : List UInt8 := dkwJ7_equals_0 ++ dktJ7_equals_1
theorem dksJ7_equals_0 : cJ7_equals.data.toList.drop 0 = dktJ7_equals_0 := by decide +kernel
theorem dksJ7_equals_1 : cJ7_equals.data.toList.drop 22 = dktJ7_equals_1 := dk_seg dksJ7_equals_0 22 rfl rfl
theorem dksJ7_equals_2 : cJ7_equals.data.toList.drop 44 = dktJ7_equals_2 := dk_seg dksJ7_equals_1 22 rfl rfl
theorem dJ7_equals_0 : decode cJ7_equals 0 = .ok (.aload_n 0, 1) := dk_42 (dk_at dksJ7_equals_0 0 rfl rfl)
theorem dJ7_equals_1 : decode cJ7_equals 1 = .ok (.aload_n 1, 1) := dk_43 (dk_at dksJ7_equals_0 1 rfl rfl)
theorem dJ7_equals_2 : decode cJ7_equals 2 = .ok (.if_acmp .ne 5, 3) := dk_166 0 5 (dk_at dksJ7_equals_0 2 rfl rfl)
theorem dJ7_equals_5 : decode cJ7_equals 5 = .ok (.iconst 1, 1) := dk_4 (dk_at dksJ7_equals_0 5 rfl rfl)
theorem dJ7_equals_6 : decode cJ7_equals 6 = .ok (.ireturn, 1) := dk_172 (dk_at dksJ7_equals_0 6 rfl rfl)
theorem dJ7_equals_7 : decode cJ7_equals 7 = .ok (.aload_n 1, 1) := dk_43 (dk_at dksJ7_equals_0 7 rfl rfl)
theorem dJ7_equals_8 : decode cJ7_equals 8 = .ok (.instanceof 10, 3) := dk_193 0 10 (dk_at dksJ7_equals_0 8 rfl rfl)
theorem dJ7_equals_11 : decode cJ7_equals 11 = .ok (.ifCond .eq 43, 3) := dk_153 0 43 (dk_at dksJ7_equals_0 11 rfl rfl)
theorem dJ7_equals_14 : decode cJ7_equals 14 = .ok (.aload_n 1, 1) := dk_43 (dk_at dksJ7_equals_0 14 rfl rfl)
theorem dJ7_equals_15 : decode cJ7_equals 15 = .ok (.checkcast 10, 3) := dk_192 0 10 (dk_at dksJ7_equals_0 15 rfl rfl)
theorem dJ7_equals_18 : decode cJ7_equals 18 = .ok (.astore_n 2, 1) := dk_77 (dk_at dksJ7_equals_0 18 rfl rfl)
theorem dJ7_equals_19 : decode cJ7_equals 19 = .ok (.getstatic 38, 3) := dk_178 0 38 (dk_at dksJ7_equals_0 19 rfl rfl)
theorem dJ7_equals_22 : decode cJ7_equals 22 = .ok (.ifCond .eq 14, 3) := dk_153 0 14 (dk_at dksJ7_equals_1 0 rfl rfl)
theorem dJ7_equals_25 : decode cJ7_equals 25 = .ok (.aload_n 0, 1) := dk_42 (dk_at dksJ7_equals_1 3 rfl rfl)
theorem dJ7_equals_26 : decode cJ7_equals 26 = .ok (.getfield 15, 3) := dk_180 0 15 (dk_at dksJ7_equals_1 4 rfl rfl)
theorem dJ7_equals_29 : decode cJ7_equals 29 = .ok (.aload_n 2, 1) := dk_44 (dk_at dksJ7_equals_1 7 rfl rfl)
theorem dJ7_equals_30 : decode cJ7_equals 30 = .ok (.getfield 15, 3) := dk_180 0 15 (dk_at dksJ7_equals_1 8 rfl rfl)
theorem dJ7_equals_33 : decode cJ7_equals 33 = .ok (.if_icmp .ne 21, 3) := dk_160 0 21 (dk_at dksJ7_equals_1 11 rfl rfl)
theorem dJ7_equals_36 : decode cJ7_equals 36 = .ok (.aload_n 0, 1) := dk_42 (dk_at dksJ7_equals_1 14 rfl rfl)
theorem dJ7_equals_37 : decode cJ7_equals 37 = .ok (.getfield 9, 3) := dk_180 0 9 (dk_at dksJ7_equals_1 15 rfl rfl)
theorem dJ7_equals_40 : decode cJ7_equals 40 = .ok (.aload_n 2, 1) := dk_44 (dk_at dksJ7_equals_1 18 rfl rfl)
theorem dJ7_equals_41 : decode cJ7_equals 41 = .ok (.getfield 9, 3) := dk_180 0 9 (dk_at dksJ7_equals_1 19 rfl rfl)
theorem dJ7_equals_44 : decode cJ7_equals 44 = .ok (.invokestatic 541, 3) := dk_184 2 29 (dk_at dksJ7_equals_2 0 rfl rfl)
theorem dJ7_equals_47 : decode cJ7_equals 47 = .ok (.ifCond .eq 7, 3) := dk_153 0 7 (dk_at dksJ7_equals_2 3 rfl rfl)
theorem dJ7_equals_50 : decode cJ7_equals 50 = .ok (.iconst 1, 1) := dk_4 (dk_at dksJ7_equals_2 6 rfl rfl)
theorem dJ7_equals_51 : decode cJ7_equals 51 = .ok (.goto 4, 3) := dk_167 0 4 (dk_at dksJ7_equals_2 7 rfl rfl)
theorem dJ7_equals_54 : decode cJ7_equals 54 = .ok (.iconst 0, 1) := dk_3 (dk_at dksJ7_equals_2 10 rfl rfl)
theorem dJ7_equals_55 : decode cJ7_equals 55 = .ok (.ireturn, 1) := dk_172 (dk_at dksJ7_equals_2 11 rfl rfl)
abbrev cJ7_hashCode : ByteArray := prog_34_method_78_code
def yJ7_hashCode : MethodName := ⟨RJ7, "hashCode", "()I"⟩
def dkwJ7_hashCode_2 : List UInt8 := [181, 0, 23, 167, 0, 8, 42, 27, 181, 0, 19, 27, 172]
abbrev dktJ7_hashCode_2 : List UInt8 := dkwJ7_hashCode_2 ++ []
def dkwJ7_hashCode_1 : List UInt8 := [180, 0, 9, 184, 2, 116, 167, 0, 10, 42, 180, 0, 9, 184, 2, 120, 60, 27, 154, 0, 11, 42, 4]
abbrev dktJ7_hashCode_1 : List UInt8 := dkwJ7_hashCode_1 ++ dktJ7_hashCode_2
def dkwJ7_hashCode_0 : List UInt8 := [42, 180, 0, 19, 60, 27, 154, 0, 52, 42, 180, 0, 23, 154, 0, 45, 42, 182, 1, 236, 153, 0, 13, 42]
abbrev dktJ7_hashCode_0 : List UInt8 := dkwJ7_hashCode_0 ++ dktJ7_hashCode_1
theorem dksJ7_hashCode_0 : cJ7_hashCode.data.toList.drop 0 = dktJ7_hashCode_0 := by decide +kernel
theorem dksJ7_hashCode_1 : cJ7_hashCode.data.toList.drop 24 = dktJ7_hashCode_1 := dk_seg dksJ7_hashCode_0 24 rfl rfl
theorem dksJ7_hashCode_2 : cJ7_hashCode.data.toList.drop 47 = dktJ7_hashCode_2 := dk_seg dksJ7_hashCode_1 23 rfl rfl
theorem dJ7_hashCode_0 : decode cJ7_hashCode 0 = .ok (.aload_n 0, 1) := dk_42 (dk_at dksJ7_hashCode_0 0 rfl rfl)
theorem dJ7_hashCode_1 : decode cJ7_hashCode 1 = .ok (.getfield 19, 3) := dk_180 0 19 (dk_at dksJ7_hashCode_0 1 rfl rfl)
theorem dJ7_hashCode_4 : decode cJ7_hashCode 4 = .ok (.istore_n 1, 1) := dk_60 (dk_at dksJ7_hashCode_0 4 rfl rfl)
theorem dJ7_hashCode_5 : decode cJ7_hashCode 5 = .ok (.iload_n 1, 1) := dk_27 (dk_at dksJ7_hashCode_0 5 rfl rfl)
theorem dJ7_hashCode_6 : decode cJ7_hashCode 6 = .ok (.ifCond .ne 52, 3) := dk_154 0 52 (dk_at dksJ7_hashCode_0 6 rfl rfl)
theorem dJ7_hashCode_9 : decode cJ7_hashCode 9 = .ok (.aload_n 0, 1) := dk_42 (dk_at dksJ7_hashCode_0 9 rfl rfl)
theorem dJ7_hashCode_10 : decode cJ7_hashCode 10 = .ok (.getfield 23, 3) := dk_180 0 23 (dk_at dksJ7_hashCode_0 10 rfl rfl)
theorem dJ7_hashCode_13 : decode cJ7_hashCode 13 = .ok (.ifCond .ne 45, 3) := dk_154 0 45 (dk_at dksJ7_hashCode_0 13 rfl rfl)
theorem dJ7_hashCode_16 : decode cJ7_hashCode 16 = .ok (.aload_n 0, 1) := dk_42 (dk_at dksJ7_hashCode_0 16 rfl rfl)
theorem dJ7_hashCode_17 : decode cJ7_hashCode 17 = .ok (.invokevirtual 492, 3) := dk_182 1 236 (dk_at dksJ7_hashCode_0 17 rfl rfl)
theorem dJ7_hashCode_20 : decode cJ7_hashCode 20 = .ok (.ifCond .eq 13, 3) := dk_153 0 13 (dk_at dksJ7_hashCode_0 20 rfl rfl)
theorem dJ7_hashCode_23 : decode cJ7_hashCode 23 = .ok (.aload_n 0, 1) := dk_42 (dk_at dksJ7_hashCode_0 23 rfl rfl)
theorem dJ7_hashCode_24 : decode cJ7_hashCode 24 = .ok (.getfield 9, 3) := dk_180 0 9 (dk_at dksJ7_hashCode_1 0 rfl rfl)
theorem dJ7_hashCode_27 : decode cJ7_hashCode 27 = .ok (.invokestatic 628, 3) := dk_184 2 116 (dk_at dksJ7_hashCode_1 3 rfl rfl)
theorem dJ7_hashCode_30 : decode cJ7_hashCode 30 = .ok (.goto 10, 3) := dk_167 0 10 (dk_at dksJ7_hashCode_1 6 rfl rfl)
theorem dJ7_hashCode_33 : decode cJ7_hashCode 33 = .ok (.aload_n 0, 1) := dk_42 (dk_at dksJ7_hashCode_1 9 rfl rfl)
theorem dJ7_hashCode_34 : decode cJ7_hashCode 34 = .ok (.getfield 9, 3) := dk_180 0 9 (dk_at dksJ7_hashCode_1 10 rfl rfl)
theorem dJ7_hashCode_37 : decode cJ7_hashCode 37 = .ok (.invokestatic 632, 3) := dk_184 2 120 (dk_at dksJ7_hashCode_1 13 rfl rfl)
theorem dJ7_hashCode_40 : decode cJ7_hashCode 40 = .ok (.istore_n 1, 1) := dk_60 (dk_at dksJ7_hashCode_1 16 rfl rfl)
theorem dJ7_hashCode_41 : decode cJ7_hashCode 41 = .ok (.iload_n 1, 1) := dk_27 (dk_at dksJ7_hashCode_1 17 rfl rfl)
theorem dJ7_hashCode_42 : decode cJ7_hashCode 42 = .ok (.ifCond .ne 11, 3) := dk_154 0 11 (dk_at dksJ7_hashCode_1 18 rfl rfl)
theorem dJ7_hashCode_45 : decode cJ7_hashCode 45 = .ok (.aload_n 0, 1) := dk_42 (dk_at dksJ7_hashCode_1 21 rfl rfl)
theorem dJ7_hashCode_46 : decode cJ7_hashCode 46 = .ok (.iconst 1, 1) := dk_4 (dk_at dksJ7_hashCode_1 22 rfl rfl)
theorem dJ7_hashCode_47 : decode cJ7_hashCode 47 = .ok (.putfield 23, 3) := dk_181 0 23 (dk_at dksJ7_hashCode_2 0 rfl rfl)
theorem dJ7_hashCode_50 : decode cJ7_hashCode 50 = .ok (.goto 8, 3) := dk_167 0 8 (dk_at dksJ7_hashCode_2 3 rfl rfl)
theorem dJ7_hashCode_53 : decode cJ7_hashCode 53 = .ok (.aload_n 0, 1) := dk_42 (dk_at dksJ7_hashCode_2 6 rfl rfl)
theorem dJ7_hashCode_54 : decode cJ7_hashCode 54 = .ok (.iload_n 1, 1) := dk_27 (dk_at dksJ7_hashCode_2 7 rfl rfl)
theorem dJ7_hashCode_55 : decode cJ7_hashCode 55 = .ok (.putfield 19, 3) := dk_181 0 19 (dk_at dksJ7_hashCode_2 8 rfl rfl)
theorem dJ7_hashCode_58 : decode cJ7_hashCode 58 = .ok (.iload_n 1, 1) := dk_27 (dk_at dksJ7_hashCode_2 11 rfl rfl)
theorem dJ7_hashCode_59 : decode cJ7_hashCode 59 = .ok (.ireturn, 1) := dk_172 (dk_at dksJ7_hashCode_2 12 rfl rfl)
abbrev cJ7_isLatin1 : ByteArray := prog_34_method_154_code
def yJ7_isLatin1 : MethodName := ⟨RJ7, "isLatin1", "()Z"⟩
def dkwJ7_isLatin1_0 : List UInt8 := [178, 0, 38, 153, 0, 14, 42, 180, 0, 15, 154, 0, 7, 4, 167, 0, 4, 3, 172]
abbrev dktJ7_isLatin1_0 : List UInt8 := dkwJ7_isLatin1_0 ++ []
theorem dksJ7_isLatin1_0 : cJ7_isLatin1.data.toList.drop 0 = dktJ7_isLatin1_0 := by decide +kernel
theorem dJ7_isLatin1_0 : decode cJ7_isLatin1 0 = .ok (.getstatic 38, 3) := dk_178 0 38 (dk_at dksJ7_isLatin1_0 0 rfl rfl)
theorem dJ7_isLatin1_3 : decode cJ7_isLatin1 3 = .ok (.ifCond .eq 14, 3) := dk_153 0 14 (dk_at dksJ7_isLatin1_0 3 rfl rfl)
theorem dJ7_isLatin1_6 : decode cJ7_isLatin1 6 = .ok (.aload_n 0, 1) := dk_42 (dk_at dksJ7_isLatin1_0 6 rfl rfl)
theorem dJ7_isLatin1_7 : decode cJ7_isLatin1 7 = .ok (.getfield 15, 3) := dk_180 0 15 (dk_at dksJ7_isLatin1_0 7 rfl rfl)
theorem dJ7_isLatin1_10 : decode cJ7_isLatin1 10 = .ok (.ifCond .ne 7, 3) := dk_154 0 7 (dk_at dksJ7_isLatin1_0 10 rfl rfl)
theorem dJ7_isLatin1_13 : decode cJ7_isLatin1 13 = .ok (.iconst 1, 1) := dk_4 (dk_at dksJ7_isLatin1_0 13 rfl rfl)
theorem dJ7_isLatin1_14 : decode cJ7_isLatin1 14 = .ok (.goto 4, 3) := dk_167 0 4 (dk_at dksJ7_isLatin1_0 14 rfl rfl)
theorem dJ7_isLatin1_17 : decode cJ7_isLatin1 17 = .ok (.iconst 0, 1) := dk_3 (dk_at dksJ7_isLatin1_0 17 rfl rfl)
theorem dJ7_isLatin1_18 : decode cJ7_isLatin1 18 = .ok (.ireturn, 1) := dk_172 (dk_at dksJ7_isLatin1_0 18 rfl rfl)
theorem q136 : (Jvm.Cond.initialized "java/lang/String") ∈ lw_all := lw_g (lw_at lw_m1 14 rfl) rfl
theorem q532 : (Jvm.Cond.laysStatic "java/lang/String" "COMPACT_STRINGS" "Z") ∈ lw_tbl := lw_at lw_m2 170 rfl
theorem q542 : (Jvm.Cond.fieldLink "java/lang/String" (1048 : Nat) "java/lang/AbstractStringBuilder" "maybeLatin1" "Z") ∈ lw_all := lw_g (lw_at lw_m2 180 rfl) rfl
theorem q620 : (Jvm.Cond.static ({ cls := "java/lang/String", name := "checkBoundsOffCount", desc := "(III)I" } : Jvm.MethodName)) ∈ lw_all := lw_g (lw_at lw_m3 18 rfl) rfl
theorem q621 : (Jvm.Cond.code ({ cls := "java/lang/String", name := "checkBoundsOffCount", desc := "(III)I" } : Jvm.MethodName) prog_34_method_157_code (3 : Nat) (Option.some Jvm.ClassFile.FieldType.int)) ∈ lw_all := lw_g (lw_at lw_m3 19 rfl) rfl
theorem q622 : (Jvm.Cond.fieldLink "java/lang/String" (1053 : Nat) "jdk/internal/util/Preconditions" "SIOOBE_FORMATTER" "Ljava/util/function/BiFunction;") ∈ lw_all := lw_g (lw_at lw_m3 20 rfl) rfl
theorem q624 : (Jvm.Cond.methodLink "java/lang/String" (1065 : Nat) ({ cls := "jdk/internal/util/Preconditions", name := "checkFromIndexSize", desc := "(IIILjava/util/function/BiFunction;)I" } : Jvm.MethodName)) ∈ lw_all := lw_g (lw_at lw_m3 22 rfl) rfl
theorem q643 : (Jvm.Cond.static ({ cls := "java/lang/String", name := "checkIndex", desc := "(II)V" } : Jvm.MethodName)) ∈ lw_all := lw_g (lw_at lw_m3 41 rfl) rfl
theorem q644 : (Jvm.Cond.code ({ cls := "java/lang/String", name := "checkIndex", desc := "(II)V" } : Jvm.MethodName) prog_34_method_155_code (2 : Nat) (Option.none : Option Jvm.ClassFile.FieldType)) ∈ lw_all := lw_g (lw_at lw_m3 42 rfl) rfl
theorem q645 : (Jvm.Cond.methodLink "java/lang/String" (1059 : Nat) ({ cls := "jdk/internal/util/Preconditions", name := "checkIndex", desc := "(IILjava/util/function/BiFunction;)I" } : Jvm.MethodName)) ∈ lw_all := lw_g (lw_at lw_m3 43 rfl) rfl
theorem q651 : (Jvm.Cond.instantiable "java/lang/String" (4 : Nat)) ∈ lw_all := lw_g (lw_at lw_m3 49 rfl) rfl
theorem q653 : (Jvm.Cond.instanceMethod ({ cls := "java/lang/String", name := "<init>", desc := "(Ljava/lang/StringBuilder;)V" } : Jvm.MethodName)) ∈ lw_all := lw_g (lw_at lw_m3 51 rfl) rfl
theorem q654 : (Jvm.Cond.code ({ cls := "java/lang/String", name := "<init>", desc := "(Ljava/lang/StringBuilder;)V" } : Jvm.MethodName) prog_34_method_53_code (2 : Nat) (Option.none : Option Jvm.ClassFile.FieldType)) ∈ lw_all := lw_g (lw_at lw_m3 52 rfl) rfl
theorem q655 : (Jvm.Cond.methodLink "java/lang/String" (489 : Nat) ({ cls := "java/lang/String", name := "<init>", desc := "(Ljava/lang/AbstractStringBuilder;Ljava/lang/Void;)V" } : Jvm.MethodName)) ∈ lw_all := lw_g (lw_at lw_m3 53 rfl) rfl
theorem q656 : (Jvm.Cond.instanceMethod ({ cls := "java/lang/String", name := "<init>", desc := "(Ljava/lang/AbstractStringBuilder;Ljava/lang/Void;)V" } : Jvm.MethodName)) ∈ lw_all := lw_g (lw_at lw_m3 54 rfl) rfl
theorem q657 : (Jvm.Cond.code ({ cls := "java/lang/String", name := "<init>", desc := "(Ljava/lang/AbstractStringBuilder;Ljava/lang/Void;)V" } : Jvm.MethodName) prog_34_method_150_code (5 : Nat) (Option.none : Option Jvm.ClassFile.FieldType)) ∈ lw_all := lw_g (lw_at lw_m3 55 rfl) rfl
theorem q658 : (Jvm.Cond.methodLink "java/lang/String" (1 : Nat) ({ cls := "java/lang/Object", name := "<init>", desc := "()V" } : Jvm.MethodName)) ∈ lw_all := lw_g (lw_at lw_m3 56 rfl) rfl
theorem q659 : (Jvm.Cond.methodLink "java/lang/String" (552 : Nat) ({ cls := "java/lang/AbstractStringBuilder", name := "getValue", desc := "()[B" } : Jvm.MethodName)) ∈ lw_all := lw_g (lw_at lw_m3 57 rfl) rfl
theorem q664 : (Jvm.Cond.methodLink "java/lang/String" (549 : Nat) ({ cls := "java/lang/AbstractStringBuilder", name := "length", desc := "()I" } : Jvm.MethodName)) ∈ lw_all := lw_g (lw_at lw_m3 62 rfl) rfl
theorem q672 : (Jvm.Cond.methodLink "java/lang/String" (1047 : Nat) ({ cls := "java/lang/AbstractStringBuilder", name := "isLatin1", desc := "()Z" } : Jvm.MethodName)) ∈ lw_all := lw_g (lw_at lw_m3 70 rfl) rfl
theorem q673 : (Jvm.Cond.methodLink "java/lang/String" (54 : Nat) ({ cls := "java/util/Arrays", name := "copyOfRange", desc := "([BII)[B" } : Jvm.MethodName)) ∈ lw_all := lw_g (lw_at lw_m3 71 rfl) rfl
theorem q682 : (Jvm.Cond.fieldLink "java/lang/String" (38 : Nat) "java/lang/String" "COMPACT_STRINGS" "Z") ∈ lw_all := lw_g (lw_at lw_m3 80 rfl) rfl
theorem q683 : (Jvm.Cond.methodLink "java/lang/String" (1051 : Nat) ({ cls := "java/lang/StringUTF16", name := "compress", desc := "([BII)[B" } : Jvm.MethodName)) ∈ lw_all := lw_g (lw_at lw_m3 81 rfl) rfl
theorem q693 : (Jvm.Cond.methodLink "java/lang/String" (47 : Nat) ({ cls := "java/lang/StringUTF16", name := "coderFromArrayLen", desc := "([BI)B" } : Jvm.MethodName)) ∈ lw_all := lw_g (lw_at lw_m3 91 rfl) rfl
theorem q696 : (Jvm.Cond.fieldLink "java/lang/String" (9 : Nat) "java/lang/String" "value" "[B") ∈ lw_all := lw_g (lw_at lw_m3 94 rfl) rfl
theorem q697 : (Jvm.Cond.fieldLink "java/lang/String" (15 : Nat) "java/lang/String" "coder" "B") ∈ lw_all := lw_g (lw_at lw_m3 95 rfl) rfl
theorem q698 : (Jvm.Cond.fieldLink "java/lang/String" (19 : Nat) "java/lang/String" "hash" "I") ∈ lw_all := lw_g (lw_at lw_m3 96 rfl) rfl
theorem q699 : (Jvm.Cond.fieldLink "java/lang/String" (23 : Nat) "java/lang/String" "hashIsZero" "Z") ∈ lw_all := lw_g (lw_at lw_m3 97 rfl) rfl
theorem q700 : (Jvm.Cond.laysFinal "java/lang/String" "java/lang/String" "value" "[B") ∈ lw_all := lw_g (lw_at lw_m3 98 rfl) rfl
theorem q701 : (Jvm.Cond.soleField "java/lang/String" "value") ∈ lw_all := lw_g (lw_at lw_m3 99 rfl) rfl
theorem q702 : (Jvm.Cond.laysFinal "java/lang/String" "java/lang/String" "coder" "B") ∈ lw_all := lw_g (lw_at lw_m3 100 rfl) rfl
theorem q703 : (Jvm.Cond.soleField "java/lang/String" "coder") ∈ lw_all := lw_g (lw_at lw_m3 101 rfl) rfl
theorem q704 : (Jvm.Cond.lays "java/lang/String" "java/lang/String" "hash" "I") ∈ lw_all := lw_g (lw_at lw_m3 102 rfl) rfl
theorem q705 : (Jvm.Cond.soleField "java/lang/String" "hash") ∈ lw_all := lw_g (lw_at lw_m3 103 rfl) rfl
theorem q706 : (Jvm.Cond.lays "java/lang/String" "java/lang/String" "hashIsZero" "Z") ∈ lw_all := lw_g (lw_at lw_m3 104 rfl) rfl
theorem q707 : (Jvm.Cond.soleField "java/lang/String" "hashIsZero") ∈ lw_all := lw_g (lw_at lw_m3 105 rfl) rfl
theorem q708 : (Jvm.Cond.superclass "java/lang/String" "java/lang/Object") ∈ lw_all := lw_g (lw_at lw_m3 106 rfl) rfl
theorem q726 : (Jvm.Cond.instanceMethod ({ cls := "java/lang/String", name := "equals", desc := "(Ljava/lang/Object;)Z" } : Jvm.MethodName)) ∈ lw_all := lw_g (lw_at lw_m3 124 rfl) rfl
theorem q727 : (Jvm.Cond.selects "java/lang/String" ({ cls := "java/lang/String", name := "equals", desc := "(Ljava/lang/Object;)Z" } : Jvm.MethodName) ({ cls := "java/lang/String", name := "equals", desc := "(Ljava/lang/Object;)Z" } : Jvm.MethodName)) ∈ lw_all := lw_g (lw_at lw_m3 125 rfl) rfl
theorem q728 : (Jvm.Cond.code ({ cls := "java/lang/String", name := "equals", desc := "(Ljava/lang/Object;)Z" } : Jvm.MethodName) prog_34_method_66_code (3 : Nat) (Option.some Jvm.ClassFile.FieldType.boolean)) ∈ lw_all := lw_g (lw_at lw_m3 126 rfl) rfl
theorem q729 : (Jvm.Cond.classLink "java/lang/String" (10 : Nat) "java/lang/String") ∈ lw_all := lw_g (lw_at lw_m3 127 rfl) rfl
theorem q730 : (Jvm.Cond.methodLink "java/lang/String" (541 : Nat) ({ cls := "java/lang/StringLatin1", name := "equals", desc := "([B[B)Z" } : Jvm.MethodName)) ∈ lw_all := lw_g (lw_at lw_m3 128 rfl) rfl
theorem q749 : (Jvm.Cond.instanceMethod ({ cls := "java/lang/String", name := "hashCode", desc := "()I" } : Jvm.MethodName)) ∈ lw_all := lw_g (lw_at lw_m3 147 rfl) rfl
theorem q750 : (Jvm.Cond.selects "java/lang/String" ({ cls := "java/lang/String", name := "hashCode", desc := "()I" } : Jvm.MethodName) ({ cls := "java/lang/String", name := "hashCode", desc := "()I" } : Jvm.MethodName)) ∈ lw_all := lw_g (lw_at lw_m3 148 rfl) rfl
theorem q751 : (Jvm.Cond.code ({ cls := "java/lang/String", name := "hashCode", desc := "()I" } : Jvm.MethodName) prog_34_method_78_code (2 : Nat) (Option.some Jvm.ClassFile.FieldType.int)) ∈ lw_all := lw_g (lw_at lw_m3 149 rfl) rfl
theorem q752 : (Jvm.Cond.methodLink "java/lang/String" (492 : Nat) ({ cls := "java/lang/String", name := "isLatin1", desc := "()Z" } : Jvm.MethodName)) ∈ lw_all := lw_g (lw_at lw_m3 150 rfl) rfl
theorem q753 : (Jvm.Cond.instanceMethod ({ cls := "java/lang/String", name := "isLatin1", desc := "()Z" } : Jvm.MethodName)) ∈ lw_all := lw_g (lw_at lw_m3 151 rfl) rfl
theorem q754 : (Jvm.Cond.selects "java/lang/String" ({ cls := "java/lang/String", name := "isLatin1", desc := "()Z" } : Jvm.MethodName) ({ cls := "java/lang/String", name := "isLatin1", desc := "()Z" } : Jvm.MethodName)) ∈ lw_all := lw_g (lw_at lw_m3 152 rfl) rfl
theorem q755 : (Jvm.Cond.code ({ cls := "java/lang/String", name := "isLatin1", desc := "()Z" } : Jvm.MethodName) prog_34_method_154_code (1 : Nat) (Option.some Jvm.ClassFile.FieldType.boolean)) ∈ lw_all := lw_g (lw_at lw_m3 153 rfl) rfl
theorem q756 : (Jvm.Cond.methodLink "java/lang/String" (628 : Nat) ({ cls := "java/lang/StringLatin1", name := "hashCode", desc := "([B)I" } : Jvm.MethodName)) ∈ lw_all := lw_g (lw_at lw_m3 154 rfl) rfl
theorem q797 : (Jvm.Cond.methodLink "java/lang/String" (632 : Nat) ({ cls := "java/lang/StringUTF16", name := "hashCode", desc := "([B)I" } : Jvm.MethodName)) ∈ lw_all := lw_g (lw_at lw_m3 195 rfl) rfl
theorem q975 : (Jvm.Cond.selects "java/lang/String" ({ cls := "java/lang/Object", name := "getClass", desc := "()Ljava/lang/Class;" } : Jvm.MethodName) ({ cls := "java/lang/Object", name := "getClass", desc := "()Ljava/lang/Class;" } : Jvm.MethodName)) ∈ lw_all := lw_g (lw_at lw_m4 133 rfl) rfl
theorem q2268 : (Jvm.Cond.castable "java/lang/String" "java/lang/Object") ∈ lw_tbl := lw_at lw_m9 226 rfl
theorem in_J7 : ∀ w ∈ wsJ70, w ∈ lw_all := lw_in wsJ70 [700, 702, 704, 706] (by decide +kernel) (by decide +kernel)

/-! java/lang/StringUTF16 -/
set_option maxRecDepth 100000
def RJ8 : String := "java/lang/StringUTF16"
abbrev cJ8_newBytesFor : ByteArray := prog_37_method_2_code
def yJ8_newBytesFor : MethodName := ⟨RJ8, "newBytesFor", "(I)[B"⟩
def dkwJ8_newBytesFor_0 : List UInt8 := [26, 184, 0, 11, 188, 8, 176]
abbrev dktJ8_newBytesFor_0 : List UInt8 := dkwJ8_newBytesFor_0 ++ []
theorem dksJ8_newBytesFor_0 : cJ8_newBytesFor.data.toList.drop 0 = dktJ8_newBytesFor_0 := by decide +kernel
theorem dJ8_newBytesFor_0 : decode cJ8_newBytesFor 0 = .ok (.iload_n 0, 1) := dk_26 (dk_at dksJ8_newBytesFor_0 0 rfl rfl)
theorem dJ8_newBytesFor_1 : decode cJ8_newBytesFor 1 = .ok (.invokestatic 11, 3) := dk_184 0 11 (dk_at dksJ8_newBytesFor_0 1 rfl rfl)
theorem dJ8_newBytesFor_4 : decode cJ8_newBytesFor 4 = .ok (.newarray .byte, 2) := dk_188_8 (dk_at dksJ8_newBytesFor_0 4 rfl rfl)
theorem dJ8_newBytesFor_6 : decode cJ8_newBytesFor 6 = .ok (.areturn, 1) := dk_176 (dk_at dksJ8_newBytesFor_0 6 rfl rfl)
abbrev cJ8_newBytesLength : ByteArray := prog_37_method_3_code
def yJ8_newBytesLength : MethodName := ⟨RJ8, "newBytesLength", "(I)I"⟩
def dkwJ8_newBytesLength_2 : List UInt8 := [182, 0, 32, 182, 0, 37, 183, 0, 41, 191, 26, 4, 120, 172]
abbrev dktJ8_newBytesLength_2 : List UInt8 := dkwJ8_newBytesLength_2 ++ []
def dkwJ8_newBytesLength_1 : List UInt8 := [187, 0, 23, 89, 183, 0, 25, 18, 26, 182, 0, 28, 26, 182, 0, 32, 18, 35, 182, 0, 28, 18, 20]
abbrev dktJ8_newBytesLength_1 : List UInt8 := dkwJ8_newBytesLength_1 ++ dktJ8_newBytesLength_2
def dkwJ8_newBytesLength_0 : List UInt8 := [26, 156, 0, 11, 187, 0, 17, 89, 183, 0, 19, 191, 26, 18, 20, 161, 0, 40, 187, 0, 21, 89]
abbrev dktJ8_newBytesLength_0 : List UInt8 := dkwJ8_newBytesLength_0 ++ dktJ8_newBytesLength_1
theorem dksJ8_newBytesLength_0 : cJ8_newBytesLength.data.toList.drop 0 = dktJ8_newBytesLength_0 := by decide +kernel
theorem dksJ8_newBytesLength_1 : cJ8_newBytesLength.data.toList.drop 22 = dktJ8_newBytesLength_1 := dk_seg dksJ8_newBytesLength_0 22 rfl rfl
theorem dksJ8_newBytesLength_2 : cJ8_newBytesLength.data.toList.drop 45 = dktJ8_newBytesLength_2 := dk_seg dksJ8_newBytesLength_1 23 rfl rfl
theorem dJ8_newBytesLength_0 : decode cJ8_newBytesLength 0 = .ok (.iload_n 0, 1) := dk_26 (dk_at dksJ8_newBytesLength_0 0 rfl rfl)
theorem dJ8_newBytesLength_1 : decode cJ8_newBytesLength 1 = .ok (.ifCond .ge 11, 3) := dk_156 0 11 (dk_at dksJ8_newBytesLength_0 1 rfl rfl)
theorem dJ8_newBytesLength_4 : decode cJ8_newBytesLength 4 = .ok (.new 17, 3) := dk_187 0 17 (dk_at dksJ8_newBytesLength_0 4 rfl rfl)
theorem dJ8_newBytesLength_7 : decode cJ8_newBytesLength 7 = .ok (.dup, 1) := dk_89 (dk_at dksJ8_newBytesLength_0 7 rfl rfl)
theorem dJ8_newBytesLength_8 : decode cJ8_newBytesLength 8 = .ok (.invokespecial 19, 3) := dk_183 0 19 (dk_at dksJ8_newBytesLength_0 8 rfl rfl)
theorem dJ8_newBytesLength_11 : decode cJ8_newBytesLength 11 = .ok (.athrow, 1) := dk_191 (dk_at dksJ8_newBytesLength_0 11 rfl rfl)
theorem dJ8_newBytesLength_12 : decode cJ8_newBytesLength 12 = .ok (.iload_n 0, 1) := dk_26 (dk_at dksJ8_newBytesLength_0 12 rfl rfl)
theorem dJ8_newBytesLength_13 : decode cJ8_newBytesLength 13 = .ok (.ldc 20, 2) := dk_18 20 (dk_at dksJ8_newBytesLength_0 13 rfl rfl)
theorem dJ8_newBytesLength_15 : decode cJ8_newBytesLength 15 = .ok (.if_icmp .lt 40, 3) := dk_161 0 40 (dk_at dksJ8_newBytesLength_0 15 rfl rfl)
theorem dJ8_newBytesLength_18 : decode cJ8_newBytesLength 18 = .ok (.new 21, 3) := dk_187 0 21 (dk_at dksJ8_newBytesLength_0 18 rfl rfl)
theorem dJ8_newBytesLength_21 : decode cJ8_newBytesLength 21 = .ok (.dup, 1) := dk_89 (dk_at dksJ8_newBytesLength_0 21 rfl rfl)
theorem dJ8_newBytesLength_22 : decode cJ8_newBytesLength 22 = .ok (.new 23, 3) := dk_187 0 23 (dk_at dksJ8_newBytesLength_1 0 rfl rfl)
theorem dJ8_newBytesLength_25 : decode cJ8_newBytesLength 25 = .ok (.dup, 1) := dk_89 (dk_at dksJ8_newBytesLength_1 3 rfl rfl)
theorem dJ8_newBytesLength_26 : decode cJ8_newBytesLength 26 = .ok (.invokespecial 25, 3) := dk_183 0 25 (dk_at dksJ8_newBytesLength_1 4 rfl rfl)
theorem dJ8_newBytesLength_29 : decode cJ8_newBytesLength 29 = .ok (.ldc 26, 2) := dk_18 26 (dk_at dksJ8_newBytesLength_1 7 rfl rfl)
theorem dJ8_newBytesLength_31 : decode cJ8_newBytesLength 31 = .ok (.invokevirtual 28, 3) := dk_182 0 28 (dk_at dksJ8_newBytesLength_1 9 rfl rfl)
theorem dJ8_newBytesLength_34 : decode cJ8_newBytesLength 34 = .ok (.iload_n 0, 1) := dk_26 (dk_at dksJ8_newBytesLength_1 12 rfl rfl)
theorem dJ8_newBytesLength_35 : decode cJ8_newBytesLength 35 = .ok (.invokevirtual 32, 3) := dk_182 0 32 (dk_at dksJ8_newBytesLength_1 13 rfl rfl)
theorem dJ8_newBytesLength_38 : decode cJ8_newBytesLength 38 = .ok (.ldc 35, 2) := dk_18 35 (dk_at dksJ8_newBytesLength_1 16 rfl rfl)
theorem dJ8_newBytesLength_40 : decode cJ8_newBytesLength 40 = .ok (.invokevirtual 28, 3) := dk_182 0 28 (dk_at dksJ8_newBytesLength_1 18 rfl rfl)
theorem dJ8_newBytesLength_43 : decode cJ8_newBytesLength 43 = .ok (.ldc 20, 2) := dk_18 20 (dk_at dksJ8_newBytesLength_1 21 rfl rfl)
theorem dJ8_newBytesLength_45 : decode cJ8_newBytesLength 45 = .ok (.invokevirtual 32, 3) := dk_182 0 32 (dk_at dksJ8_newBytesLength_2 0 rfl rfl)
theorem dJ8_newBytesLength_48 : decode cJ8_newBytesLength 48 = .ok (.invokevirtual 37, 3) := dk_182 0 37 (dk_at dksJ8_newBytesLength_2 3 rfl rfl)
theorem dJ8_newBytesLength_51 : decode cJ8_newBytesLength 51 = .ok (.invokespecial 41, 3) := dk_183 0 41 (dk_at dksJ8_newBytesLength_2 6 rfl rfl)
theorem dJ8_newBytesLength_54 : decode cJ8_newBytesLength 54 = .ok (.athrow, 1) := dk_191 (dk_at dksJ8_newBytesLength_2 9 rfl rfl)
theorem dJ8_newBytesLength_55 : decode cJ8_newBytesLength 55 = .ok (.iload_n 0, 1) := dk_26 (dk_at dksJ8_newBytesLength_2 10 rfl rfl)
theorem dJ8_newBytesLength_56 : decode cJ8_newBytesLength 56 = .ok (.iconst 1, 1) := dk_4 (dk_at dksJ8_newBytesLength_2 11 rfl rfl)
theorem dJ8_newBytesLength_57 : decode cJ8_newBytesLength 57 = .ok (.ishl, 1) := dk_120 (dk_at dksJ8_newBytesLength_2 12 rfl rfl)
theorem dJ8_newBytesLength_58 : decode cJ8_newBytesLength 58 = .ok (.ireturn, 1) := dk_172 (dk_at dksJ8_newBytesLength_2 13 rfl rfl)
abbrev cJ8_inflate : ByteArray := prog_37_method_86_code
def yJ8_inflate : MethodName := ⟨RJ8, "inflate", "([BI[BII)V"⟩
def dkwJ8_inflate_1 : List UInt8 := [132, 1, 1, 51, 17, 0, 255, 126, 184, 0, 111, 132, 5, 1, 167, 255, 228, 177]
abbrev dktJ8_inflate_1 : List UInt8 := dkwJ8_inflate_1 ++ []
def dkwJ8_inflate_0 : List UInt8 := [29, 21, 4, 44, 184, 0, 173, 3, 54, 5, 21, 5, 21, 4, 162, 0, 27, 44, 29, 132, 3, 1, 42, 27]
abbrev dktJ8_inflate_0 : List UInt8 := dkwJ8_inflate_0 ++ dktJ8_inflate_1
theorem dksJ8_inflate_0 : cJ8_inflate.data.toList.drop 0 = dktJ8_inflate_0 := by decide +kernel
theorem dksJ8_inflate_1 : cJ8_inflate.data.toList.drop 24 = dktJ8_inflate_1 := dk_seg dksJ8_inflate_0 24 rfl rfl
theorem dJ8_inflate_0 : decode cJ8_inflate 0 = .ok (.iload_n 3, 1) := dk_29 (dk_at dksJ8_inflate_0 0 rfl rfl)
theorem dJ8_inflate_1 : decode cJ8_inflate 1 = .ok (.iload 4, 2) := dk_21 4 (dk_at dksJ8_inflate_0 1 rfl rfl)
theorem dJ8_inflate_3 : decode cJ8_inflate 3 = .ok (.aload_n 2, 1) := dk_44 (dk_at dksJ8_inflate_0 3 rfl rfl)
theorem dJ8_inflate_4 : decode cJ8_inflate 4 = .ok (.invokestatic 173, 3) := dk_184 0 173 (dk_at dksJ8_inflate_0 4 rfl rfl)
theorem dJ8_inflate_7 : decode cJ8_inflate 7 = .ok (.iconst 0, 1) := dk_3 (dk_at dksJ8_inflate_0 7 rfl rfl)
theorem dJ8_inflate_8 : decode cJ8_inflate 8 = .ok (.istore 5, 2) := dk_54 5 (dk_at dksJ8_inflate_0 8 rfl rfl)
theorem dJ8_inflate_10 : decode cJ8_inflate 10 = .ok (.iload 5, 2) := dk_21 5 (dk_at dksJ8_inflate_0 10 rfl rfl)
theorem dJ8_inflate_12 : decode cJ8_inflate 12 = .ok (.iload 4, 2) := dk_21 4 (dk_at dksJ8_inflate_0 12 rfl rfl)
theorem dJ8_inflate_14 : decode cJ8_inflate 14 = .ok (.if_icmp .ge 27, 3) := dk_162 0 27 (dk_at dksJ8_inflate_0 14 rfl rfl)
theorem dJ8_inflate_17 : decode cJ8_inflate 17 = .ok (.aload_n 2, 1) := dk_44 (dk_at dksJ8_inflate_0 17 rfl rfl)
theorem dJ8_inflate_18 : decode cJ8_inflate 18 = .ok (.iload_n 3, 1) := dk_29 (dk_at dksJ8_inflate_0 18 rfl rfl)
theorem dJ8_inflate_19 : decode cJ8_inflate 19 = .ok (.iinc 3 1, 3) := dk_132 3 1 (dk_at dksJ8_inflate_0 19 rfl rfl)
theorem dJ8_inflate_22 : decode cJ8_inflate 22 = .ok (.aload_n 0, 1) := dk_42 (dk_at dksJ8_inflate_0 22 rfl rfl)
theorem dJ8_inflate_23 : decode cJ8_inflate 23 = .ok (.iload_n 1, 1) := dk_27 (dk_at dksJ8_inflate_0 23 rfl rfl)
theorem dJ8_inflate_24 : decode cJ8_inflate 24 = .ok (.iinc 1 1, 3) := dk_132 1 1 (dk_at dksJ8_inflate_1 0 rfl rfl)
theorem dJ8_inflate_27 : decode cJ8_inflate 27 = .ok (.baload, 1) := dk_51 (dk_at dksJ8_inflate_1 3 rfl rfl)
theorem dJ8_inflate_28 : decode cJ8_inflate 28 = .ok (.sipush 255, 3) := dk_17 0 255 (dk_at dksJ8_inflate_1 4 rfl rfl)
theorem dJ8_inflate_31 : decode cJ8_inflate 31 = .ok (.iand, 1) := dk_126 (dk_at dksJ8_inflate_1 7 rfl rfl)
theorem dJ8_inflate_32 : decode cJ8_inflate 32 = .ok (.invokestatic 111, 3) := dk_184 0 111 (dk_at dksJ8_inflate_1 8 rfl rfl)
theorem dJ8_inflate_35 : decode cJ8_inflate 35 = .ok (.iinc 5 1, 3) := dk_132 5 1 (dk_at dksJ8_inflate_1 11 rfl rfl)
theorem dJ8_inflate_38 : decode cJ8_inflate 38 = .ok (.goto (-28), 3) := dk_167 255 228 (dk_at dksJ8_inflate_1 14 rfl rfl)
theorem dJ8_inflate_41 : decode cJ8_inflate 41 = .ok (.return_, 1) := dk_177 (dk_at dksJ8_inflate_1 17 rfl rfl)
abbrev cJ8_checkBoundsOffCount : ByteArray := prog_37_method_94_code
def yJ8_checkBoundsOffCount : MethodName := ⟨RJ8, "checkBoundsOffCount", "(II[B)V"⟩
def dkwJ8_checkBoundsOffCount_0 : List UInt8 := [26, 27, 44, 184, 0, 48, 184, 1, 163, 87, 177]
abbrev dktJ8_checkBoundsOffCount_0 : List UInt8 := dkwJ8_checkBoundsOffCount_0 ++ []
theorem dksJ8_checkBoundsOffCount_0 : cJ8_checkBoundsOffCount.data.toList.drop 0 = dktJ8_checkBoundsOffCount_0 := by decide +kernel
theorem dJ8_checkBoundsOffCount_0 : decode cJ8_checkBoundsOffCount 0 = .ok (.iload_n 0, 1) := dk_26 (dk_at dksJ8_checkBoundsOffCount_0 0 rfl rfl)
theorem dJ8_checkBoundsOffCount_1 : decode cJ8_checkBoundsOffCount 1 = .ok (.iload_n 1, 1) := dk_27 (dk_at dksJ8_checkBoundsOffCount_0 1 rfl rfl)
theorem dJ8_checkBoundsOffCount_2 : decode cJ8_checkBoundsOffCount 2 = .ok (.aload_n 2, 1) := dk_44 (dk_at dksJ8_checkBoundsOffCount_0 2 rfl rfl)
theorem dJ8_checkBoundsOffCount_3 : decode cJ8_checkBoundsOffCount 3 = .ok (.invokestatic 48, 3) := dk_184 0 48 (dk_at dksJ8_checkBoundsOffCount_0 3 rfl rfl)
theorem dJ8_checkBoundsOffCount_6 : decode cJ8_checkBoundsOffCount 6 = .ok (.invokestatic 419, 3) := dk_184 1 163 (dk_at dksJ8_checkBoundsOffCount_0 6 rfl rfl)
theorem dJ8_checkBoundsOffCount_9 : decode cJ8_checkBoundsOffCount 9 = .ok (.pop, 1) := dk_87 (dk_at dksJ8_checkBoundsOffCount_0 9 rfl rfl)
theorem dJ8_checkBoundsOffCount_10 : decode cJ8_checkBoundsOffCount 10 = .ok (.return_, 1) := dk_177 (dk_at dksJ8_checkBoundsOffCount_0 10 rfl rfl)
abbrev cJ8_length : ByteArray := prog_37_method_6_code
def yJ8_length : MethodName := ⟨RJ8, "length", "([B)I"⟩
def dkwJ8_length_0 : List UInt8 := [42, 190, 4, 122, 172]
abbrev dktJ8_length_0 : List UInt8 := dkwJ8_length_0 ++ []
theorem dksJ8_length_0 : cJ8_length.data.toList.drop 0 = dktJ8_length_0 := by decide +kernel
theorem dJ8_length_0 : decode cJ8_length 0 = .ok (.aload_n 0, 1) := dk_42 (dk_at dksJ8_length_0 0 rfl rfl)
theorem dJ8_length_1 : decode cJ8_length 1 = .ok (.arraylength, 1) := dk_190 (dk_at dksJ8_length_0 1 rfl rfl)
theorem dJ8_length_2 : decode cJ8_length 2 = .ok (.iconst 1, 1) := dk_4 (dk_at dksJ8_length_0 2 rfl rfl)
theorem dJ8_length_3 : decode cJ8_length 3 = .ok (.ishr, 1) := dk_122 (dk_at dksJ8_length_0 3 rfl rfl)
theorem dJ8_length_4 : decode cJ8_length 4 = .ok (.ireturn, 1) := dk_172 (dk_at dksJ8_length_0 4 rfl rfl)
abbrev cJ8_putChar : ByteArray := prog_37_method_4_code
def yJ8_putChar : MethodName := ⟨RJ8, "putChar", "([BII)V"⟩
def dkwJ8_putChar_2 : List UInt8 := [178, 0, 63, 122, 145, 84, 177]
abbrev dktJ8_putChar_2 : List UInt8 := dkwJ8_putChar_2 ++ []
def dkwJ8_putChar_1 : List UInt8 := [183, 0, 56, 191, 27, 4, 120, 60, 42, 27, 132, 1, 1, 28, 178, 0, 59, 122, 145, 84, 42, 27, 28]
abbrev dktJ8_putChar_1 : List UInt8 := dkwJ8_putChar_1 ++ dktJ8_putChar_2
def dkwJ8_putChar_0 : List UInt8 := [178, 0, 44, 154, 0, 25, 27, 155, 0, 11, 27, 42, 184, 0, 48, 161, 0, 13, 187, 0, 52, 89, 18, 54]
abbrev dktJ8_putChar_0 : List UInt8 := dkwJ8_putChar_0 ++ dktJ8_putChar_1
theorem dksJ8_putChar_0 : cJ8_putChar.data.toList.drop 0 = dktJ8_putChar_0 := by decide +kernel
theorem dksJ8_putChar_1 : cJ8_putChar.data.toList.drop 24 = dktJ8_putChar_1 := dk_seg dksJ8_putChar_0 24 rfl rfl
theorem dksJ8_putChar_2 : cJ8_putChar.data.toList.drop 47 = dktJ8_putChar_2 := dk_seg dksJ8_putChar_1 23 rfl rfl
theorem dJ8_putChar_0 : decode cJ8_putChar 0 = .ok (.getstatic 44, 3) := dk_178 0 44 (dk_at dksJ8_putChar_0 0 rfl rfl)
theorem dJ8_putChar_3 : decode cJ8_putChar 3 = .ok (.ifCond .ne 25, 3) := dk_154 0 25 (dk_at dksJ8_putChar_0 3 rfl rfl)
theorem dJ8_putChar_6 : decode cJ8_putChar 6 = .ok (.iload_n 1, 1) := dk_27 (dk_at dksJ8_putChar_0 6 rfl rfl)
theorem dJ8_putChar_7 : decode cJ8_putChar 7 = .ok (.ifCond .lt 11, 3) := dk_155 0 11 (dk_at dksJ8_putChar_0 7 rfl rfl)
theorem dJ8_putChar_10 : decode cJ8_putChar 10 = .ok (.iload_n 1, 1) := dk_27 (dk_at dksJ8_putChar_0 10 rfl rfl)
theorem dJ8_putChar_11 : decode cJ8_putChar 11 = .ok (.aload_n 0, 1) := dk_42 (dk_at dksJ8_putChar_0 11 rfl rfl)
theorem dJ8_putChar_12 : decode cJ8_putChar 12 = .ok (.invokestatic 48, 3) := dk_184 0 48 (dk_at dksJ8_putChar_0 12 rfl rfl)
theorem dJ8_putChar_15 : decode cJ8_putChar 15 = .ok (.if_icmp .lt 13, 3) := dk_161 0 13 (dk_at dksJ8_putChar_0 15 rfl rfl)
theorem dJ8_putChar_18 : decode cJ8_putChar 18 = .ok (.new 52, 3) := dk_187 0 52 (dk_at dksJ8_putChar_0 18 rfl rfl)
theorem dJ8_putChar_21 : decode cJ8_putChar 21 = .ok (.dup, 1) := dk_89 (dk_at dksJ8_putChar_0 21 rfl rfl)
theorem dJ8_putChar_22 : decode cJ8_putChar 22 = .ok (.ldc 54, 2) := dk_18 54 (dk_at dksJ8_putChar_0 22 rfl rfl)
theorem dJ8_putChar_24 : decode cJ8_putChar 24 = .ok (.invokespecial 56, 3) := dk_183 0 56 (dk_at dksJ8_putChar_1 0 rfl rfl)
theorem dJ8_putChar_27 : decode cJ8_putChar 27 = .ok (.athrow, 1) := dk_191 (dk_at dksJ8_putChar_1 3 rfl rfl)
theorem dJ8_putChar_28 : decode cJ8_putChar 28 = .ok (.iload_n 1, 1) := dk_27 (dk_at dksJ8_putChar_1 4 rfl rfl)
theorem dJ8_putChar_29 : decode cJ8_putChar 29 = .ok (.iconst 1, 1) := dk_4 (dk_at dksJ8_putChar_1 5 rfl rfl)
theorem dJ8_putChar_30 : decode cJ8_putChar 30 = .ok (.ishl, 1) := dk_120 (dk_at dksJ8_putChar_1 6 rfl rfl)
theorem dJ8_putChar_31 : decode cJ8_putChar 31 = .ok (.istore_n 1, 1) := dk_60 (dk_at dksJ8_putChar_1 7 rfl rfl)
theorem dJ8_putChar_32 : decode cJ8_putChar 32 = .ok (.aload_n 0, 1) := dk_42 (dk_at dksJ8_putChar_1 8 rfl rfl)
theorem dJ8_putChar_33 : decode cJ8_putChar 33 = .ok (.iload_n 1, 1) := dk_27 (dk_at dksJ8_putChar_1 9 rfl rfl)
theorem dJ8_putChar_34 : decode cJ8_putChar 34 = .ok (.iinc 1 1, 3) := dk_132 1 1 (dk_at dksJ8_putChar_1 10 rfl rfl)
theorem dJ8_putChar_37 : decode cJ8_putChar 37 = .ok (.iload_n 2, 1) := dk_28 (dk_at dksJ8_putChar_1 13 rfl rfl)
theorem dJ8_putChar_38 : decode cJ8_putChar 38 = .ok (.getstatic 59, 3) := dk_178 0 59 (dk_at dksJ8_putChar_1 14 rfl rfl)
theorem dJ8_putChar_41 : decode cJ8_putChar 41 = .ok (.ishr, 1) := dk_122 (dk_at dksJ8_putChar_1 17 rfl rfl)
theorem dJ8_putChar_42 : decode cJ8_putChar 42 = .ok (.i2b, 1) := dk_145 (dk_at dksJ8_putChar_1 18 rfl rfl)
theorem dJ8_putChar_43 : decode cJ8_putChar 43 = .ok (.bastore, 1) := dk_84 (dk_at dksJ8_putChar_1 19 rfl rfl)
theorem dJ8_putChar_44 : decode cJ8_putChar 44 = .ok (.aload_n 0, 1) := dk_42 (dk_at dksJ8_putChar_1 20 rfl rfl)
theorem dJ8_putChar_45 : decode cJ8_putChar 45 = .ok (.iload_n 1, 1) := dk_27 (dk_at dksJ8_putChar_1 21 rfl rfl)
theorem dJ8_putChar_46 : decode cJ8_putChar 46 = .ok (.iload_n 2, 1) := dk_28 (dk_at dksJ8_putChar_1 22 rfl rfl)
theorem dJ8_putChar_47 : decode cJ8_putChar 47 = .ok (.getstatic 63, 3) := dk_178 0 63 (dk_at dksJ8_putChar_2 0 rfl rfl)
theorem dJ8_putChar_50 : decode cJ8_putChar 50 = .ok (.ishr, 1) := dk_122 (dk_at dksJ8_putChar_2 3 rfl rfl)
theorem dJ8_putChar_51 : decode cJ8_putChar 51 = .ok (.i2b, 1) := dk_145 (dk_at dksJ8_putChar_2 4 rfl rfl)
theorem dJ8_putChar_52 : decode cJ8_putChar 52 = .ok (.bastore, 1) := dk_84 (dk_at dksJ8_putChar_2 5 rfl rfl)
theorem dJ8_putChar_53 : decode cJ8_putChar 53 = .ok (.return_, 1) := dk_177 (dk_at dksJ8_putChar_2 6 rfl rfl)
abbrev cJ8_putCharSB : ByteArray := prog_37_method_71_code
def yJ8_putCharSB : MethodName := ⟨RJ8, "putCharSB", "([BII)V"⟩
def dkwJ8_putCharSB_0 : List UInt8 := [27, 42, 184, 0, 67, 42, 27, 28, 184, 0, 111, 177]
abbrev dktJ8_putCharSB_0 : List UInt8 := dkwJ8_putCharSB_0 ++ []
theorem dksJ8_putCharSB_0 : cJ8_putCharSB.data.toList.drop 0 = dktJ8_putCharSB_0 := by decide +kernel
theorem dJ8_putCharSB_0 : decode cJ8_putCharSB 0 = .ok (.iload_n 1, 1) := dk_27 (dk_at dksJ8_putCharSB_0 0 rfl rfl)
theorem dJ8_putCharSB_1 : decode cJ8_putCharSB 1 = .ok (.aload_n 0, 1) := dk_42 (dk_at dksJ8_putCharSB_0 1 rfl rfl)
theorem dJ8_putCharSB_2 : decode cJ8_putCharSB 2 = .ok (.invokestatic 67, 3) := dk_184 0 67 (dk_at dksJ8_putCharSB_0 2 rfl rfl)
theorem dJ8_putCharSB_5 : decode cJ8_putCharSB 5 = .ok (.aload_n 0, 1) := dk_42 (dk_at dksJ8_putCharSB_0 5 rfl rfl)
theorem dJ8_putCharSB_6 : decode cJ8_putCharSB 6 = .ok (.iload_n 1, 1) := dk_27 (dk_at dksJ8_putCharSB_0 6 rfl rfl)
theorem dJ8_putCharSB_7 : decode cJ8_putCharSB 7 = .ok (.iload_n 2, 1) := dk_28 (dk_at dksJ8_putCharSB_0 7 rfl rfl)
theorem dJ8_putCharSB_8 : decode cJ8_putCharSB 8 = .ok (.invokestatic 111, 3) := dk_184 0 111 (dk_at dksJ8_putCharSB_0 8 rfl rfl)
theorem dJ8_putCharSB_11 : decode cJ8_putCharSB 11 = .ok (.return_, 1) := dk_177 (dk_at dksJ8_putCharSB_0 11 rfl rfl)
abbrev cJ8_checkIndex : ByteArray := prog_37_method_91_code
def yJ8_checkIndex : MethodName := ⟨RJ8, "checkIndex", "(I[B)V"⟩
def dkwJ8_checkIndex_0 : List UInt8 := [26, 43, 184, 0, 48, 184, 1, 158, 177]
abbrev dktJ8_checkIndex_0 : List UInt8 := dkwJ8_checkIndex_0 ++ []
theorem dksJ8_checkIndex_0 : cJ8_checkIndex.data.toList.drop 0 = dktJ8_checkIndex_0 := by decide +kernel
theorem dJ8_checkIndex_0 : decode cJ8_checkIndex 0 = .ok (.iload_n 0, 1) := dk_26 (dk_at dksJ8_checkIndex_0 0 rfl rfl)
theorem dJ8_checkIndex_1 : decode cJ8_checkIndex 1 = .ok (.aload_n 1, 1) := dk_43 (dk_at dksJ8_checkIndex_0 1 rfl rfl)
theorem dJ8_checkIndex_2 : decode cJ8_checkIndex 2 = .ok (.invokestatic 48, 3) := dk_184 0 48 (dk_at dksJ8_checkIndex_0 2 rfl rfl)
theorem dJ8_checkIndex_5 : decode cJ8_checkIndex 5 = .ok (.invokestatic 414, 3) := dk_184 1 158 (dk_at dksJ8_checkIndex_0 5 rfl rfl)
theorem dJ8_checkIndex_8 : decode cJ8_checkIndex 8 = .ok (.return_, 1) := dk_177 (dk_at dksJ8_checkIndex_0 8 rfl rfl)
abbrev cJ8_compress : ByteArray := prog_37_method_17_code
def yJ8_compress : MethodName := ⟨RJ8, "compress", "([BII)[B"⟩
def dkwJ8_compress_2 : List UInt8 := [25, 5, 3, 45, 3, 28, 184, 0, 123, 28, 159, 0, 6, 25, 5, 176, 45, 176]
abbrev dktJ8_compress_2 : List UInt8 := dkwJ8_compress_2 ++ []
def dkwJ8_compress_1 : List UInt8 := [27, 28, 96, 184, 0, 11, 184, 0, 126, 58, 5, 25, 5, 21, 4, 184, 0, 71, 17, 0, 255, 163, 0, 16]
abbrev dktJ8_compress_1 : List UInt8 := dkwJ8_compress_1 ++ dktJ8_compress_2
def dkwJ8_compress_0 : List UInt8 := [28, 188, 8, 78, 42, 27, 45, 3, 28, 184, 0, 123, 54, 4, 21, 4, 28, 159, 0, 47, 42, 27, 4, 120]
abbrev dktJ8_compress_0 : List UInt8 := dkwJ8_compress_0 ++ dktJ8_compress_1
theorem dksJ8_compress_0 : cJ8_compress.data.toList.drop 0 = dktJ8_compress_0 := by decide +kernel
theorem dksJ8_compress_1 : cJ8_compress.data.toList.drop 24 = dktJ8_compress_1 := dk_seg dksJ8_compress_0 24 rfl rfl
theorem dksJ8_compress_2 : cJ8_compress.data.toList.drop 48 = dktJ8_compress_2 := dk_seg dksJ8_compress_1 24 rfl rfl
theorem dJ8_compress_0 : decode cJ8_compress 0 = .ok (.iload_n 2, 1) := dk_28 (dk_at dksJ8_compress_0 0 rfl rfl)
theorem dJ8_compress_1 : decode cJ8_compress 1 = .ok (.newarray .byte, 2) := dk_188_8 (dk_at dksJ8_compress_0 1 rfl rfl)
theorem dJ8_compress_3 : decode cJ8_compress 3 = .ok (.astore_n 3, 1) := dk_78 (dk_at dksJ8_compress_0 3 rfl rfl)
theorem dJ8_compress_4 : decode cJ8_compress 4 = .ok (.aload_n 0, 1) := dk_42 (dk_at dksJ8_compress_0 4 rfl rfl)
theorem dJ8_compress_5 : decode cJ8_compress 5 = .ok (.iload_n 1, 1) := dk_27 (dk_at dksJ8_compress_0 5 rfl rfl)
theorem dJ8_compress_6 : decode cJ8_compress 6 = .ok (.aload_n 3, 1) := dk_45 (dk_at dksJ8_compress_0 6 rfl rfl)
theorem dJ8_compress_7 : decode cJ8_compress 7 = .ok (.iconst 0, 1) := dk_3 (dk_at dksJ8_compress_0 7 rfl rfl)
theorem dJ8_compress_8 : decode cJ8_compress 8 = .ok (.iload_n 2, 1) := dk_28 (dk_at dksJ8_compress_0 8 rfl rfl)
theorem dJ8_compress_9 : decode cJ8_compress 9 = .ok (.invokestatic 123, 3) := dk_184 0 123 (dk_at dksJ8_compress_0 9 rfl rfl)
theorem dJ8_compress_12 : decode cJ8_compress 12 = .ok (.istore 4, 2) := dk_54 4 (dk_at dksJ8_compress_0 12 rfl rfl)
theorem dJ8_compress_14 : decode cJ8_compress 14 = .ok (.iload 4, 2) := dk_21 4 (dk_at dksJ8_compress_0 14 rfl rfl)
theorem dJ8_compress_16 : decode cJ8_compress 16 = .ok (.iload_n 2, 1) := dk_28 (dk_at dksJ8_compress_0 16 rfl rfl)
theorem dJ8_compress_17 : decode cJ8_compress 17 = .ok (.if_icmp .eq 47, 3) := dk_159 0 47 (dk_at dksJ8_compress_0 17 rfl rfl)
theorem dJ8_compress_20 : decode cJ8_compress 20 = .ok (.aload_n 0, 1) := dk_42 (dk_at dksJ8_compress_0 20 rfl rfl)
theorem dJ8_compress_21 : decode cJ8_compress 21 = .ok (.iload_n 1, 1) := dk_27 (dk_at dksJ8_compress_0 21 rfl rfl)
theorem dJ8_compress_22 : decode cJ8_compress 22 = .ok (.iconst 1, 1) := dk_4 (dk_at dksJ8_compress_0 22 rfl rfl)
theorem dJ8_compress_23 : decode cJ8_compress 23 = .ok (.ishl, 1) := dk_120 (dk_at dksJ8_compress_0 23 rfl rfl)
theorem dJ8_compress_24 : decode cJ8_compress 24 = .ok (.iload_n 1, 1) := dk_27 (dk_at dksJ8_compress_1 0 rfl rfl)
theorem dJ8_compress_25 : decode cJ8_compress 25 = .ok (.iload_n 2, 1) := dk_28 (dk_at dksJ8_compress_1 1 rfl rfl)
theorem dJ8_compress_26 : decode cJ8_compress 26 = .ok (.iadd, 1) := dk_96 (dk_at dksJ8_compress_1 2 rfl rfl)
theorem dJ8_compress_27 : decode cJ8_compress 27 = .ok (.invokestatic 11, 3) := dk_184 0 11 (dk_at dksJ8_compress_1 3 rfl rfl)
theorem dJ8_compress_30 : decode cJ8_compress 30 = .ok (.invokestatic 126, 3) := dk_184 0 126 (dk_at dksJ8_compress_1 6 rfl rfl)
theorem dJ8_compress_33 : decode cJ8_compress 33 = .ok (.astore 5, 2) := dk_58 5 (dk_at dksJ8_compress_1 9 rfl rfl)
theorem dJ8_compress_35 : decode cJ8_compress 35 = .ok (.aload 5, 2) := dk_25 5 (dk_at dksJ8_compress_1 11 rfl rfl)
theorem dJ8_compress_37 : decode cJ8_compress 37 = .ok (.iload 4, 2) := dk_21 4 (dk_at dksJ8_compress_1 13 rfl rfl)
theorem dJ8_compress_39 : decode cJ8_compress 39 = .ok (.invokestatic 71, 3) := dk_184 0 71 (dk_at dksJ8_compress_1 15 rfl rfl)
theorem dJ8_compress_42 : decode cJ8_compress 42 = .ok (.sipush 255, 3) := dk_17 0 255 (dk_at dksJ8_compress_1 18 rfl rfl)
theorem dJ8_compress_45 : decode cJ8_compress 45 = .ok (.if_icmp .gt 16, 3) := dk_163 0 16 (dk_at dksJ8_compress_1 21 rfl rfl)
theorem dJ8_compress_48 : decode cJ8_compress 48 = .ok (.aload 5, 2) := dk_25 5 (dk_at dksJ8_compress_2 0 rfl rfl)
theorem dJ8_compress_50 : decode cJ8_compress 50 = .ok (.iconst 0, 1) := dk_3 (dk_at dksJ8_compress_2 2 rfl rfl)
theorem dJ8_compress_51 : decode cJ8_compress 51 = .ok (.aload_n 3, 1) := dk_45 (dk_at dksJ8_compress_2 3 rfl rfl)
theorem dJ8_compress_52 : decode cJ8_compress 52 = .ok (.iconst 0, 1) := dk_3 (dk_at dksJ8_compress_2 4 rfl rfl)
theorem dJ8_compress_53 : decode cJ8_compress 53 = .ok (.iload_n 2, 1) := dk_28 (dk_at dksJ8_compress_2 5 rfl rfl)
theorem dJ8_compress_54 : decode cJ8_compress 54 = .ok (.invokestatic 123, 3) := dk_184 0 123 (dk_at dksJ8_compress_2 6 rfl rfl)
theorem dJ8_compress_57 : decode cJ8_compress 57 = .ok (.iload_n 2, 1) := dk_28 (dk_at dksJ8_compress_2 9 rfl rfl)
theorem dJ8_compress_58 : decode cJ8_compress 58 = .ok (.if_icmp .eq 6, 3) := dk_159 0 6 (dk_at dksJ8_compress_2 10 rfl rfl)
theorem dJ8_compress_61 : decode cJ8_compress 61 = .ok (.aload 5, 2) := dk_25 5 (dk_at dksJ8_compress_2 13 rfl rfl)
theorem dJ8_compress_63 : decode cJ8_compress 63 = .ok (.areturn, 1) := dk_176 (dk_at dksJ8_compress_2 15 rfl rfl)
theorem dJ8_compress_64 : decode cJ8_compress 64 = .ok (.aload_n 3, 1) := dk_45 (dk_at dksJ8_compress_2 16 rfl rfl)
theorem dJ8_compress_65 : decode cJ8_compress 65 = .ok (.areturn, 1) := dk_176 (dk_at dksJ8_compress_2 17 rfl rfl)
abbrev cJ8_compress_2 : ByteArray := prog_37_method_22_code
def yJ8_compress_2 : MethodName := ⟨RJ8, "compress", "([BI[BII)I"⟩
def dkwJ8_compress_2_2 : List UInt8 := [132, 5, 1, 167, 255, 216, 21, 4, 172]
abbrev dktJ8_compress_2_2 : List UInt8 := dkwJ8_compress_2_2 ++ []
def dkwJ8_compress_2_1 : List UInt8 := [21, 6, 17, 0, 255, 164, 0, 6, 21, 5, 172, 44, 29, 21, 6, 145, 84, 132, 1, 1, 132, 3, 1]
abbrev dktJ8_compress_2_1 : List UInt8 := dkwJ8_compress_2_1 ++ dktJ8_compress_2_2
def dkwJ8_compress_2_0 : List UInt8 := [27, 21, 4, 42, 184, 0, 173, 3, 54, 5, 21, 5, 21, 4, 162, 0, 39, 42, 27, 184, 0, 71, 54, 6]
abbrev dktJ8_compress_2_0 : List UInt8 := dkwJ8_compress_2_0 ++ dktJ8_compress_2_1
theorem dksJ8_compress_2_0 : cJ8_compress_2.data.toList.drop 0 = dktJ8_compress_2_0 := by decide +kernel
theorem dksJ8_compress_2_1 : cJ8_compress_2.data.toList.drop 24 = dktJ8_compress_2_1 := dk_seg dksJ8_compress_2_0 24 rfl rfl
theorem dksJ8_compress_2_2 : cJ8_compress_2.data.toList.drop 47 = dktJ8_compress_2_2 := dk_seg dksJ8_compress_2_1 23 rfl rfl
theorem dJ8_compress_2_0 : decode cJ8_compress_2 0 = .ok (.iload_n 1, 1) := dk_27 (dk_at dksJ8_compress_2_0 0 rfl rfl)
theorem dJ8_compress_2_1 : decode cJ8_compress_2 1 = .ok (.iload 4, 2) := dk_21 4 (dk_at dksJ8_compress_2_0 1 rfl rfl)
theorem dJ8_compress_2_3 : decode cJ8_compress_2 3 = .ok (.aload_n 0, 1) := dk_42 (dk_at dksJ8_compress_2_0 3 rfl rfl)
theorem dJ8_compress_2_4 : decode cJ8_compress_2 4 = .ok (.invokestatic 173, 3) := dk_184 0 173 (dk_at dksJ8_compress_2_0 4 rfl rfl)
theorem dJ8_compress_2_7 : decode cJ8_compress_2 7 = .ok (.iconst 0, 1) := dk_3 (dk_at dksJ8_compress_2_0 7 rfl rfl)
theorem dJ8_compress_2_8 : decode cJ8_compress_2 8 = .ok (.istore 5, 2) := dk_54 5 (dk_at dksJ8_compress_2_0 8 rfl rfl)
theorem dJ8_compress_2_10 : decode cJ8_compress_2 10 = .ok (.iload 5, 2) := dk_21 5 (dk_at dksJ8_compress_2_0 10 rfl rfl)
theorem dJ8_compress_2_12 : decode cJ8_compress_2 12 = .ok (.iload 4, 2) := dk_21 4 (dk_at dksJ8_compress_2_0 12 rfl rfl)
theorem dJ8_compress_2_14 : decode cJ8_compress_2 14 = .ok (.if_icmp .ge 39, 3) := dk_162 0 39 (dk_at dksJ8_compress_2_0 14 rfl rfl)
theorem dJ8_compress_2_17 : decode cJ8_compress_2 17 = .ok (.aload_n 0, 1) := dk_42 (dk_at dksJ8_compress_2_0 17 rfl rfl)
theorem dJ8_compress_2_18 : decode cJ8_compress_2 18 = .ok (.iload_n 1, 1) := dk_27 (dk_at dksJ8_compress_2_0 18 rfl rfl)
theorem dJ8_compress_2_19 : decode cJ8_compress_2 19 = .ok (.invokestatic 71, 3) := dk_184 0 71 (dk_at dksJ8_compress_2_0 19 rfl rfl)
theorem dJ8_compress_2_22 : decode cJ8_compress_2 22 = .ok (.istore 6, 2) := dk_54 6 (dk_at dksJ8_compress_2_0 22 rfl rfl)
theorem dJ8_compress_2_24 : decode cJ8_compress_2 24 = .ok (.iload 6, 2) := dk_21 6 (dk_at dksJ8_compress_2_1 0 rfl rfl)
theorem dJ8_compress_2_26 : decode cJ8_compress_2 26 = .ok (.sipush 255, 3) := dk_17 0 255 (dk_at dksJ8_compress_2_1 2 rfl rfl)
theorem dJ8_compress_2_29 : decode cJ8_compress_2 29 = .ok (.if_icmp .le 6, 3) := dk_164 0 6 (dk_at dksJ8_compress_2_1 5 rfl rfl)
theorem dJ8_compress_2_32 : decode cJ8_compress_2 32 = .ok (.iload 5, 2) := dk_21 5 (dk_at dksJ8_compress_2_1 8 rfl rfl)
theorem dJ8_compress_2_34 : decode cJ8_compress_2 34 = .ok (.ireturn, 1) := dk_172 (dk_at dksJ8_compress_2_1 10 rfl rfl)
theorem dJ8_compress_2_35 : decode cJ8_compress_2 35 = .ok (.aload_n 2, 1) := dk_44 (dk_at dksJ8_compress_2_1 11 rfl rfl)
theorem dJ8_compress_2_36 : decode cJ8_compress_2 36 = .ok (.iload_n 3, 1) := dk_29 (dk_at dksJ8_compress_2_1 12 rfl rfl)
theorem dJ8_compress_2_37 : decode cJ8_compress_2 37 = .ok (.iload 6, 2) := dk_21 6 (dk_at dksJ8_compress_2_1 13 rfl rfl)
theorem dJ8_compress_2_39 : decode cJ8_compress_2 39 = .ok (.i2b, 1) := dk_145 (dk_at dksJ8_compress_2_1 15 rfl rfl)
theorem dJ8_compress_2_40 : decode cJ8_compress_2 40 = .ok (.bastore, 1) := dk_84 (dk_at dksJ8_compress_2_1 16 rfl rfl)
theorem dJ8_compress_2_41 : decode cJ8_compress_2 41 = .ok (.iinc 1 1, 3) := dk_132 1 1 (dk_at dksJ8_compress_2_1 17 rfl rfl)
theorem dJ8_compress_2_44 : decode cJ8_compress_2 44 = .ok (.iinc 3 1, 3) := dk_132 3 1 (dk_at dksJ8_compress_2_1 20 rfl rfl)
theorem dJ8_compress_2_47 : decode cJ8_compress_2 47 = .ok (.iinc 5 1, 3) := dk_132 5 1 (dk_at dksJ8_compress_2_2 0 rfl rfl)
theorem dJ8_compress_2_50 : decode cJ8_compress_2 50 = .ok (.goto (-40), 3) := dk_167 255 216 (dk_at dksJ8_compress_2_2 3 rfl rfl)
theorem dJ8_compress_2_53 : decode cJ8_compress_2 53 = .ok (.iload 4, 2) := dk_21 4 (dk_at dksJ8_compress_2_2 6 rfl rfl)
theorem dJ8_compress_2_55 : decode cJ8_compress_2 55 = .ok (.ireturn, 1) := dk_172 (dk_at dksJ8_compress_2_2 8 rfl rfl)
abbrev cJ8_getChar : ByteArray := prog_37_method_5_code
def yJ8_getChar : MethodName := ⟨RJ8, "getChar", "([BI)C"⟩
def dkwJ8_getChar_2 : List UInt8 := [51, 17, 0, 255, 126, 178, 0, 63, 120, 128, 146, 172]
abbrev dktJ8_getChar_2 : List UInt8 := dkwJ8_getChar_2 ++ []
def dkwJ8_getChar_1 : List UInt8 := [183, 0, 56, 191, 27, 4, 120, 60, 42, 27, 132, 1, 1, 51, 17, 0, 255, 126, 178, 0, 59, 120, 42, 27]
abbrev dktJ8_getChar_1 : List UInt8 := dkwJ8_getChar_1 ++ dktJ8_getChar_2
def dkwJ8_getChar_0 : List UInt8 := [178, 0, 44, 154, 0, 25, 27, 155, 0, 11, 27, 42, 184, 0, 48, 161, 0, 13, 187, 0, 52, 89, 18, 54]
abbrev dktJ8_getChar_0 : List UInt8 := dkwJ8_getChar_0 ++ dktJ8_getChar_1
theorem dksJ8_getChar_0 : cJ8_getChar.data.toList.drop 0 = dktJ8_getChar_0 := by decide +kernel
theorem dksJ8_getChar_1 : cJ8_getChar.data.toList.drop 24 = dktJ8_getChar_1 := dk_seg dksJ8_getChar_0 24 rfl rfl
theorem dksJ8_getChar_2 : cJ8_getChar.data.toList.drop 48 = dktJ8_getChar_2 := dk_seg dksJ8_getChar_1 24 rfl rfl
theorem dJ8_getChar_0 : decode cJ8_getChar 0 = .ok (.getstatic 44, 3) := dk_178 0 44 (dk_at dksJ8_getChar_0 0 rfl rfl)
theorem dJ8_getChar_3 : decode cJ8_getChar 3 = .ok (.ifCond .ne 25, 3) := dk_154 0 25 (dk_at dksJ8_getChar_0 3 rfl rfl)
theorem dJ8_getChar_6 : decode cJ8_getChar 6 = .ok (.iload_n 1, 1) := dk_27 (dk_at dksJ8_getChar_0 6 rfl rfl)
theorem dJ8_getChar_7 : decode cJ8_getChar 7 = .ok (.ifCond .lt 11, 3) := dk_155 0 11 (dk_at dksJ8_getChar_0 7 rfl rfl)
theorem dJ8_getChar_10 : decode cJ8_getChar 10 = .ok (.iload_n 1, 1) := dk_27 (dk_at dksJ8_getChar_0 10 rfl rfl)
theorem dJ8_getChar_11 : decode cJ8_getChar 11 = .ok (.aload_n 0, 1) := dk_42 (dk_at dksJ8_getChar_0 11 rfl rfl)
theorem dJ8_getChar_12 : decode cJ8_getChar 12 = .ok (.invokestatic 48, 3) := dk_184 0 48 (dk_at dksJ8_getChar_0 12 rfl rfl)
theorem dJ8_getChar_15 : decode cJ8_getChar 15 = .ok (.if_icmp .lt 13, 3) := dk_161 0 13 (dk_at dksJ8_getChar_0 15 rfl rfl)
theorem dJ8_getChar_18 : decode cJ8_getChar 18 = .ok (.new 52, 3) := dk_187 0 52 (dk_at dksJ8_getChar_0 18 rfl rfl)
theorem dJ8_getChar_21 : decode cJ8_getChar 21 = .ok (.dup, 1) := dk_89 (dk_at dksJ8_getChar_0 21 rfl rfl)
theorem dJ8_getChar_22 : decode cJ8_getChar 22 = .ok (.ldc 54, 2) := dk_18 54 (dk_at dksJ8_getChar_0 22 rfl rfl)
theorem dJ8_getChar_24 : decode cJ8_getChar 24 = .ok (.invokespecial 56, 3) := dk_183 0 56 (dk_at dksJ8_getChar_1 0 rfl rfl)
theorem dJ8_getChar_27 : decode cJ8_getChar 27 = .ok (.athrow, 1) := dk_191 (dk_at dksJ8_getChar_1 3 rfl rfl)
theorem dJ8_getChar_28 : decode cJ8_getChar 28 = .ok (.iload_n 1, 1) := dk_27 (dk_at dksJ8_getChar_1 4 rfl rfl)
theorem dJ8_getChar_29 : decode cJ8_getChar 29 = .ok (.iconst 1, 1) := dk_4 (dk_at dksJ8_getChar_1 5 rfl rfl)
theorem dJ8_getChar_30 : decode cJ8_getChar 30 = .ok (.ishl, 1) := dk_120 (dk_at dksJ8_getChar_1 6 rfl rfl)
theorem dJ8_getChar_31 : decode cJ8_getChar 31 = .ok (.istore_n 1, 1) := dk_60 (dk_at dksJ8_getChar_1 7 rfl rfl)
theorem dJ8_getChar_32 : decode cJ8_getChar 32 = .ok (.aload_n 0, 1) := dk_42 (dk_at dksJ8_getChar_1 8 rfl rfl)
theorem dJ8_getChar_33 : decode cJ8_getChar 33 = .ok (.iload_n 1, 1) := dk_27 (dk_at dksJ8_getChar_1 9 rfl rfl)
theorem dJ8_getChar_34 : decode cJ8_getChar 34 = .ok (.iinc 1 1, 3) := dk_132 1 1 (dk_at dksJ8_getChar_1 10 rfl rfl)
theorem dJ8_getChar_37 : decode cJ8_getChar 37 = .ok (.baload, 1) := dk_51 (dk_at dksJ8_getChar_1 13 rfl rfl)
theorem dJ8_getChar_38 : decode cJ8_getChar 38 = .ok (.sipush 255, 3) := dk_17 0 255 (dk_at dksJ8_getChar_1 14 rfl rfl)
theorem dJ8_getChar_41 : decode cJ8_getChar 41 = .ok (.iand, 1) := dk_126 (dk_at dksJ8_getChar_1 17 rfl rfl)
theorem dJ8_getChar_42 : decode cJ8_getChar 42 = .ok (.getstatic 59, 3) := dk_178 0 59 (dk_at dksJ8_getChar_1 18 rfl rfl)
theorem dJ8_getChar_45 : decode cJ8_getChar 45 = .ok (.ishl, 1) := dk_120 (dk_at dksJ8_getChar_1 21 rfl rfl)
theorem dJ8_getChar_46 : decode cJ8_getChar 46 = .ok (.aload_n 0, 1) := dk_42 (dk_at dksJ8_getChar_1 22 rfl rfl)
theorem dJ8_getChar_47 : decode cJ8_getChar 47 = .ok (.iload_n 1, 1) := dk_27 (dk_at dksJ8_getChar_1 23 rfl rfl)
theorem dJ8_getChar_48 : decode cJ8_getChar 48 = .ok (.baload, 1) := dk_51 (dk_at dksJ8_getChar_2 0 rfl rfl)
theorem dJ8_getChar_49 : decode cJ8_getChar 49 = .ok (.sipush 255, 3) := dk_17 0 255 (dk_at dksJ8_getChar_2 1 rfl rfl)
theorem dJ8_getChar_52 : decode cJ8_getChar 52 = .ok (.iand, 1) := dk_126 (dk_at dksJ8_getChar_2 4 rfl rfl)
theorem dJ8_getChar_53 : decode cJ8_getChar 53 = .ok (.getstatic 63, 3) := dk_178 0 63 (dk_at dksJ8_getChar_2 5 rfl rfl)
theorem dJ8_getChar_56 : decode cJ8_getChar 56 = .ok (.ishl, 1) := dk_120 (dk_at dksJ8_getChar_2 8 rfl rfl)
theorem dJ8_getChar_57 : decode cJ8_getChar 57 = .ok (.ior, 1) := dk_128 (dk_at dksJ8_getChar_2 9 rfl rfl)
theorem dJ8_getChar_58 : decode cJ8_getChar 58 = .ok (.i2c, 1) := dk_146 (dk_at dksJ8_getChar_2 10 rfl rfl)
theorem dJ8_getChar_59 : decode cJ8_getChar 59 = .ok (.ireturn, 1) := dk_172 (dk_at dksJ8_getChar_2 11 rfl rfl)
abbrev cJ8_coderFromArrayLen : ByteArray := prog_37_method_15_code
def yJ8_coderFromArrayLen : MethodName := ⟨RJ8, "coderFromArrayLen", "([BI)B"⟩
def dkwJ8_coderFromArrayLen_0 : List UInt8 := [27, 42, 190, 100, 16, 31, 124, 145, 172]
abbrev dktJ8_coderFromArrayLen_0 : List UInt8 := dkwJ8_coderFromArrayLen_0 ++ []
theorem dksJ8_coderFromArrayLen_0 : cJ8_coderFromArrayLen.data.toList.drop 0 = dktJ8_coderFromArrayLen_0 := by decide +kernel
theorem dJ8_coderFromArrayLen_0 : decode cJ8_coderFromArrayLen 0 = .ok (.iload_n 1, 1) := dk_27 (dk_at dksJ8_coderFromArrayLen_0 0 rfl rfl)
theorem dJ8_coderFromArrayLen_1 : decode cJ8_coderFromArrayLen 1 = .ok (.aload_n 0, 1) := dk_42 (dk_at dksJ8_coderFromArrayLen_0 1 rfl rfl)
theorem dJ8_coderFromArrayLen_2 : decode cJ8_coderFromArrayLen 2 = .ok (.arraylength, 1) := dk_190 (dk_at dksJ8_coderFromArrayLen_0 2 rfl rfl)
theorem dJ8_coderFromArrayLen_3 : decode cJ8_coderFromArrayLen 3 = .ok (.isub, 1) := dk_100 (dk_at dksJ8_coderFromArrayLen_0 3 rfl rfl)
theorem dJ8_coderFromArrayLen_4 : decode cJ8_coderFromArrayLen 4 = .ok (.bipush 31, 2) := dk_16 31 (dk_at dksJ8_coderFromArrayLen_0 4 rfl rfl)
theorem dJ8_coderFromArrayLen_6 : decode cJ8_coderFromArrayLen 6 = .ok (.iushr, 1) := dk_124 (dk_at dksJ8_coderFromArrayLen_0 6 rfl rfl)
theorem dJ8_coderFromArrayLen_7 : decode cJ8_coderFromArrayLen 7 = .ok (.i2b, 1) := dk_145 (dk_at dksJ8_coderFromArrayLen_0 7 rfl rfl)
theorem dJ8_coderFromArrayLen_8 : decode cJ8_coderFromArrayLen 8 = .ok (.ireturn, 1) := dk_172 (dk_at dksJ8_coderFromArrayLen_0 8 rfl rfl)
abbrev cJ8_hashCode : ByteArray := prog_37_method_39_code
def yJ8_hashCode : MethodName := ⟨RJ8, "hashCode", "([B)I"⟩
def dkwJ8_hashCode_2 : List UInt8 := [3, 167, 0, 22, 42, 3, 184, 0, 71, 167, 0, 14, 42, 3, 42, 190, 4, 122, 3, 8, 184, 0, 220, 172]
abbrev dktJ8_hashCode_2 : List UInt8 := dkwJ8_hashCode_2 ++ []
def dkwJ8_hashCode_1 : List UInt8 := [171, 0, 0, 0, 0, 38, 0, 0, 0, 2, 0, 0, 0, 0, 0, 0, 0, 26, 0, 0, 0, 2, 0, 0, 0, 30]
abbrev dktJ8_hashCode_1 : List UInt8 := dkwJ8_hashCode_1 ++ dktJ8_hashCode_2
def dkwJ8_hashCode_0 : List UInt8 := [42, 190]
abbrev dktJ8_hashCode_0 : List UInt8 := dkwJ8_hashCode_0 ++ dktJ8_hashCode_1
theorem dksJ8_hashCode_0 : cJ8_hashCode.data.toList.drop 0 = dktJ8_hashCode_0 := by decide +kernel
theorem dksJ8_hashCode_1 : cJ8_hashCode.data.toList.drop 2 = dktJ8_hashCode_1 := dk_seg dksJ8_hashCode_0 2 rfl rfl
theorem dksJ8_hashCode_2 : cJ8_hashCode.data.toList.drop 28 = dktJ8_hashCode_2 := dk_seg dksJ8_hashCode_1 26 rfl rfl
theorem dJ8_hashCode_0 : decode cJ8_hashCode 0 = .ok (.aload_n 0, 1) := dk_42 (dk_at dksJ8_hashCode_0 0 rfl rfl)
theorem dJ8_hashCode_1 : decode cJ8_hashCode 1 = .ok (.arraylength, 1) := dk_190 (dk_at dksJ8_hashCode_0 1 rfl rfl)
theorem dJ8_hashCode_2 : decode cJ8_hashCode 2 = .ok (.lookupswitch 38 #[(0, 26), (2, 30)], 26) := by decide +kernel
theorem dJ8_hashCode_28 : decode cJ8_hashCode 28 = .ok (.iconst 0, 1) := dk_3 (dk_at dksJ8_hashCode_2 0 rfl rfl)
theorem dJ8_hashCode_29 : decode cJ8_hashCode 29 = .ok (.goto 22, 3) := dk_167 0 22 (dk_at dksJ8_hashCode_2 1 rfl rfl)
theorem dJ8_hashCode_32 : decode cJ8_hashCode 32 = .ok (.aload_n 0, 1) := dk_42 (dk_at dksJ8_hashCode_2 4 rfl rfl)
theorem dJ8_hashCode_33 : decode cJ8_hashCode 33 = .ok (.iconst 0, 1) := dk_3 (dk_at dksJ8_hashCode_2 5 rfl rfl)
theorem dJ8_hashCode_34 : decode cJ8_hashCode 34 = .ok (.invokestatic 71, 3) := dk_184 0 71 (dk_at dksJ8_hashCode_2 6 rfl rfl)
theorem dJ8_hashCode_37 : decode cJ8_hashCode 37 = .ok (.goto 14, 3) := dk_167 0 14 (dk_at dksJ8_hashCode_2 9 rfl rfl)
theorem dJ8_hashCode_40 : decode cJ8_hashCode 40 = .ok (.aload_n 0, 1) := dk_42 (dk_at dksJ8_hashCode_2 12 rfl rfl)
theorem dJ8_hashCode_41 : decode cJ8_hashCode 41 = .ok (.iconst 0, 1) := dk_3 (dk_at dksJ8_hashCode_2 13 rfl rfl)
theorem dJ8_hashCode_42 : decode cJ8_hashCode 42 = .ok (.aload_n 0, 1) := dk_42 (dk_at dksJ8_hashCode_2 14 rfl rfl)
theorem dJ8_hashCode_43 : decode cJ8_hashCode 43 = .ok (.arraylength, 1) := dk_190 (dk_at dksJ8_hashCode_2 15 rfl rfl)
theorem dJ8_hashCode_44 : decode cJ8_hashCode 44 = .ok (.iconst 1, 1) := dk_4 (dk_at dksJ8_hashCode_2 16 rfl rfl)
theorem dJ8_hashCode_45 : decode cJ8_hashCode 45 = .ok (.ishr, 1) := dk_122 (dk_at dksJ8_hashCode_2 17 rfl rfl)
theorem dJ8_hashCode_46 : decode cJ8_hashCode 46 = .ok (.iconst 0, 1) := dk_3 (dk_at dksJ8_hashCode_2 18 rfl rfl)
theorem dJ8_hashCode_47 : decode cJ8_hashCode 47 = .ok (.iconst 5, 1) := dk_8 (dk_at dksJ8_hashCode_2 19 rfl rfl)
theorem dJ8_hashCode_48 : decode cJ8_hashCode 48 = .ok (.invokestatic 220, 3) := dk_184 0 220 (dk_at dksJ8_hashCode_2 20 rfl rfl)
theorem dJ8_hashCode_51 : decode cJ8_hashCode 51 = .ok (.ireturn, 1) := dk_172 (dk_at dksJ8_hashCode_2 23 rfl rfl)
theorem q137 : (Jvm.Cond.initialized "java/lang/StringUTF16") ∈ lw_all := lw_g (lw_at lw_m1 15 rfl) rfl
theorem q534 : (Jvm.Cond.static ({ cls := "java/lang/StringUTF16", name := "newBytesFor", desc := "(I)[B" } : Jvm.MethodName)) ∈ lw_all := lw_g (lw_at lw_m2 172 rfl) rfl
theorem q535 : (Jvm.Cond.code ({ cls := "java/lang/StringUTF16", name := "newBytesFor", desc := "(I)[B" } : Jvm.MethodName) prog_37_method_2_code (1 : Nat) (Option.some (Jvm.ClassFile.FieldType.array Jvm.ClassFile.FieldType.byte))) ∈ lw_all := lw_g (lw_at lw_m2 173 rfl) rfl
theorem q536 : (Jvm.Cond.methodLink "java/lang/StringUTF16" (11 : Nat) ({ cls := "java/lang/StringUTF16", name := "newBytesLength", desc := "(I)I" } : Jvm.MethodName)) ∈ lw_all := lw_g (lw_at lw_m2 174 rfl) rfl
theorem q537 : (Jvm.Cond.static ({ cls := "java/lang/StringUTF16", name := "newBytesLength", desc := "(I)I" } : Jvm.MethodName)) ∈ lw_all := lw_g (lw_at lw_m2 175 rfl) rfl
theorem q538 : (Jvm.Cond.code ({ cls := "java/lang/StringUTF16", name := "newBytesLength", desc := "(I)I" } : Jvm.MethodName) prog_37_method_3_code (1 : Nat) (Option.some Jvm.ClassFile.FieldType.int)) ∈ lw_all := lw_g (lw_at lw_m2 176 rfl) rfl
theorem q539 : (Jvm.Cond.constant "java/lang/StringUTF16" (20 : Nat) (1073741823 : Int32)) ∈ lw_all := lw_g (lw_at lw_m2 177 rfl) rfl
theorem q611 : (Jvm.Cond.static ({ cls := "java/lang/StringUTF16", name := "inflate", desc := "([BI[BII)V" } : Jvm.MethodName)) ∈ lw_all := lw_g (lw_at lw_m3 9 rfl) rfl
theorem q612 : (Jvm.Cond.code ({ cls := "java/lang/StringUTF16", name := "inflate", desc := "([BI[BII)V" } : Jvm.MethodName) prog_37_method_86_code (6 : Nat) (Option.none : Option Jvm.ClassFile.FieldType)) ∈ lw_all := lw_g (lw_at lw_m3 10 rfl) rfl
theorem q613 : (Jvm.Cond.methodLink "java/lang/StringUTF16" (173 : Nat) ({ cls := "java/lang/StringUTF16", name := "checkBoundsOffCount", desc := "(II[B)V" } : Jvm.MethodName)) ∈ lw_all := lw_g (lw_at lw_m3 11 rfl) rfl
theorem q614 : (Jvm.Cond.static ({ cls := "java/lang/StringUTF16", name := "checkBoundsOffCount", desc := "(II[B)V" } : Jvm.MethodName)) ∈ lw_all := lw_g (lw_at lw_m3 12 rfl) rfl
theorem q615 : (Jvm.Cond.code ({ cls := "java/lang/StringUTF16", name := "checkBoundsOffCount", desc := "(II[B)V" } : Jvm.MethodName) prog_37_method_94_code (3 : Nat) (Option.none : Option Jvm.ClassFile.FieldType)) ∈ lw_all := lw_g (lw_at lw_m3 13 rfl) rfl
theorem q616 : (Jvm.Cond.methodLink "java/lang/StringUTF16" (48 : Nat) ({ cls := "java/lang/StringUTF16", name := "length", desc := "([B)I" } : Jvm.MethodName)) ∈ lw_all := lw_g (lw_at lw_m3 14 rfl) rfl
theorem q617 : (Jvm.Cond.static ({ cls := "java/lang/StringUTF16", name := "length", desc := "([B)I" } : Jvm.MethodName)) ∈ lw_all := lw_g (lw_at lw_m3 15 rfl) rfl
theorem q618 : (Jvm.Cond.code ({ cls := "java/lang/StringUTF16", name := "length", desc := "([B)I" } : Jvm.MethodName) prog_37_method_6_code (1 : Nat) (Option.some Jvm.ClassFile.FieldType.int)) ∈ lw_all := lw_g (lw_at lw_m3 16 rfl) rfl
theorem q619 : (Jvm.Cond.methodLink "java/lang/StringUTF16" (419 : Nat) ({ cls := "java/lang/String", name := "checkBoundsOffCount", desc := "(III)I" } : Jvm.MethodName)) ∈ lw_all := lw_g (lw_at lw_m3 17 rfl) rfl
theorem q627 : (Jvm.Cond.methodLink "java/lang/StringUTF16" (111 : Nat) ({ cls := "java/lang/StringUTF16", name := "putChar", desc := "([BII)V" } : Jvm.MethodName)) ∈ lw_all := lw_g (lw_at lw_m3 25 rfl) rfl
theorem q628 : (Jvm.Cond.static ({ cls := "java/lang/StringUTF16", name := "putChar", desc := "([BII)V" } : Jvm.MethodName)) ∈ lw_all := lw_g (lw_at lw_m3 26 rfl) rfl
theorem q629 : (Jvm.Cond.code ({ cls := "java/lang/StringUTF16", name := "putChar", desc := "([BII)V" } : Jvm.MethodName) prog_37_method_4_code (3 : Nat) (Option.none : Option Jvm.ClassFile.FieldType)) ∈ lw_all := lw_g (lw_at lw_m3 27 rfl) rfl
theorem q630 : (Jvm.Cond.fieldLink "java/lang/StringUTF16" (44 : Nat) "java/lang/StringUTF16" "$assertionsDisabled" "Z") ∈ lw_all := lw_g (lw_at lw_m3 28 rfl) rfl
theorem q631 : (Jvm.Cond.laysStatic "java/lang/StringUTF16" "$assertionsDisabled" "Z") ∈ lw_tbl := lw_at lw_m3 29 rfl
theorem q632 : (Jvm.Cond.fieldLink "java/lang/StringUTF16" (59 : Nat) "java/lang/StringUTF16" "HI_BYTE_SHIFT" "I") ∈ lw_all := lw_g (lw_at lw_m3 30 rfl) rfl
theorem q633 : (Jvm.Cond.laysStatic "java/lang/StringUTF16" "HI_BYTE_SHIFT" "I") ∈ lw_tbl := lw_at lw_m3 31 rfl
theorem q634 : (Jvm.Cond.fieldLink "java/lang/StringUTF16" (63 : Nat) "java/lang/StringUTF16" "LO_BYTE_SHIFT" "I") ∈ lw_all := lw_g (lw_at lw_m3 32 rfl) rfl
theorem q635 : (Jvm.Cond.laysStatic "java/lang/StringUTF16" "LO_BYTE_SHIFT" "I") ∈ lw_tbl := lw_at lw_m3 33 rfl
theorem q637 : (Jvm.Cond.static ({ cls := "java/lang/StringUTF16", name := "putCharSB", desc := "([BII)V" } : Jvm.MethodName)) ∈ lw_all := lw_g (lw_at lw_m3 35 rfl) rfl
theorem q638 : (Jvm.Cond.code ({ cls := "java/lang/StringUTF16", name := "putCharSB", desc := "([BII)V" } : Jvm.MethodName) prog_37_method_71_code (3 : Nat) (Option.none : Option Jvm.ClassFile.FieldType)) ∈ lw_all := lw_g (lw_at lw_m3 36 rfl) rfl
theorem q639 : (Jvm.Cond.methodLink "java/lang/StringUTF16" (67 : Nat) ({ cls := "java/lang/StringUTF16", name := "checkIndex", desc := "(I[B)V" } : Jvm.MethodName)) ∈ lw_all := lw_g (lw_at lw_m3 37 rfl) rfl
theorem q640 : (Jvm.Cond.static ({ cls := "java/lang/StringUTF16", name := "checkIndex", desc := "(I[B)V" } : Jvm.MethodName)) ∈ lw_all := lw_g (lw_at lw_m3 38 rfl) rfl
theorem q641 : (Jvm.Cond.code ({ cls := "java/lang/StringUTF16", name := "checkIndex", desc := "(I[B)V" } : Jvm.MethodName) prog_37_method_91_code (2 : Nat) (Option.none : Option Jvm.ClassFile.FieldType)) ∈ lw_all := lw_g (lw_at lw_m3 39 rfl) rfl
theorem q642 : (Jvm.Cond.methodLink "java/lang/StringUTF16" (414 : Nat) ({ cls := "java/lang/String", name := "checkIndex", desc := "(II)V" } : Jvm.MethodName)) ∈ lw_all := lw_g (lw_at lw_m3 40 rfl) rfl
theorem q684 : (Jvm.Cond.static ({ cls := "java/lang/StringUTF16", name := "compress", desc := "([BII)[B" } : Jvm.MethodName)) ∈ lw_all := lw_g (lw_at lw_m3 82 rfl) rfl
theorem q685 : (Jvm.Cond.code ({ cls := "java/lang/StringUTF16", name := "compress", desc := "([BII)[B" } : Jvm.MethodName) prog_37_method_17_code (6 : Nat) (Option.some (Jvm.ClassFile.FieldType.array Jvm.ClassFile.FieldType.byte))) ∈ lw_all := lw_g (lw_at lw_m3 83 rfl) rfl
theorem q686 : (Jvm.Cond.methodLink "java/lang/StringUTF16" (123 : Nat) ({ cls := "java/lang/StringUTF16", name := "compress", desc := "([BI[BII)I" } : Jvm.MethodName)) ∈ lw_all := lw_g (lw_at lw_m3 84 rfl) rfl
theorem q687 : (Jvm.Cond.static ({ cls := "java/lang/StringUTF16", name := "compress", desc := "([BI[BII)I" } : Jvm.MethodName)) ∈ lw_all := lw_g (lw_at lw_m3 85 rfl) rfl
theorem q688 : (Jvm.Cond.code ({ cls := "java/lang/StringUTF16", name := "compress", desc := "([BI[BII)I" } : Jvm.MethodName) prog_37_method_22_code (7 : Nat) (Option.some Jvm.ClassFile.FieldType.int)) ∈ lw_all := lw_g (lw_at lw_m3 86 rfl) rfl
theorem q689 : (Jvm.Cond.methodLink "java/lang/StringUTF16" (71 : Nat) ({ cls := "java/lang/StringUTF16", name := "getChar", desc := "([BI)C" } : Jvm.MethodName)) ∈ lw_all := lw_g (lw_at lw_m3 87 rfl) rfl
theorem q690 : (Jvm.Cond.static ({ cls := "java/lang/StringUTF16", name := "getChar", desc := "([BI)C" } : Jvm.MethodName)) ∈ lw_all := lw_g (lw_at lw_m3 88 rfl) rfl
theorem q691 : (Jvm.Cond.code ({ cls := "java/lang/StringUTF16", name := "getChar", desc := "([BI)C" } : Jvm.MethodName) prog_37_method_5_code (2 : Nat) (Option.some Jvm.ClassFile.FieldType.char)) ∈ lw_all := lw_g (lw_at lw_m3 89 rfl) rfl
theorem q692 : (Jvm.Cond.methodLink "java/lang/StringUTF16" (126 : Nat) ({ cls := "java/util/Arrays", name := "copyOfRange", desc := "([BII)[B" } : Jvm.MethodName)) ∈ lw_all := lw_g (lw_at lw_m3 90 rfl) rfl
theorem q694 : (Jvm.Cond.static ({ cls := "java/lang/StringUTF16", name := "coderFromArrayLen", desc := "([BI)B" } : Jvm.MethodName)) ∈ lw_all := lw_g (lw_at lw_m3 92 rfl) rfl
theorem q695 : (Jvm.Cond.code ({ cls := "java/lang/StringUTF16", name := "coderFromArrayLen", desc := "([BI)B" } : Jvm.MethodName) prog_37_method_15_code (2 : Nat) (Option.some Jvm.ClassFile.FieldType.byte)) ∈ lw_all := lw_g (lw_at lw_m3 93 rfl) rfl
theorem q798 : (Jvm.Cond.static ({ cls := "java/lang/StringUTF16", name := "hashCode", desc := "([B)I" } : Jvm.MethodName)) ∈ lw_all := lw_g (lw_at lw_m3 196 rfl) rfl
theorem q799 : (Jvm.Cond.code ({ cls := "java/lang/StringUTF16", name := "hashCode", desc := "([B)I" } : Jvm.MethodName) prog_37_method_39_code (1 : Nat) (Option.some Jvm.ClassFile.FieldType.int)) ∈ lw_all := lw_g (lw_at lw_m3 197 rfl) rfl
theorem q800 : (Jvm.Cond.methodLink "java/lang/StringUTF16" (220 : Nat) ({ cls := "jdk/internal/util/ArraysSupport", name := "vectorizedHashCode", desc := "(Ljava/lang/Object;IIII)I" } : Jvm.MethodName)) ∈ lw_all := lw_g (lw_at lw_m3 198 rfl) rfl

/-! jdk/internal/util/ArraysSupport -/
set_option maxRecDepth 100000
def RJ9 : String := "jdk/internal/util/ArraysSupport"
abbrev cJ9_newLength : ByteArray := prog_53_method_27_code
def yJ9_newLength : MethodName := ⟨RJ9, "newLength", "(III)I"⟩
def dkwJ9_newLength_1 : List UInt8 := [184, 0, 201, 172]
abbrev dktJ9_newLength_1 : List UInt8 := dkwJ9_newLength_1 ++ []
def dkwJ9_newLength_0 : List UInt8 := [26, 27, 28, 184, 0, 194, 96, 62, 3, 29, 162, 0, 11, 29, 18, 200, 163, 0, 5, 29, 172, 26, 27]
abbrev dktJ9_newLength_0 : List UInt8 := dkwJ9_newLength_0 ++ dktJ9_newLength_1
theorem dksJ9_newLength_0 : cJ9_newLength.data.toList.drop 0 = dktJ9_newLength_0 := by decide +kernel
theorem dksJ9_newLength_1 : cJ9_newLength.data.toList.drop 23 = dktJ9_newLength_1 := dk_seg dksJ9_newLength_0 23 rfl rfl
theorem dJ9_newLength_0 : decode cJ9_newLength 0 = .ok (.iload_n 0, 1) := dk_26 (dk_at dksJ9_newLength_0 0 rfl rfl)
theorem dJ9_newLength_1 : decode cJ9_newLength 1 = .ok (.iload_n 1, 1) := dk_27 (dk_at dksJ9_newLength_0 1 rfl rfl)
theorem dJ9_newLength_2 : decode cJ9_newLength 2 = .ok (.iload_n 2, 1) := dk_28 (dk_at dksJ9_newLength_0 2 rfl rfl)
theorem dJ9_newLength_3 : decode cJ9_newLength 3 = .ok (.invokestatic 194, 3) := dk_184 0 194 (dk_at dksJ9_newLength_0 3 rfl rfl)
theorem dJ9_newLength_6 : decode cJ9_newLength 6 = .ok (.iadd, 1) := dk_96 (dk_at dksJ9_newLength_0 6 rfl rfl)
theorem dJ9_newLength_7 : decode cJ9_newLength 7 = .ok (.istore_n 3, 1) := dk_62 (dk_at dksJ9_newLength_0 7 rfl rfl)
theorem dJ9_newLength_8 : decode cJ9_newLength 8 = .ok (.iconst 0, 1) := dk_3 (dk_at dksJ9_newLength_0 8 rfl rfl)
theorem dJ9_newLength_9 : decode cJ9_newLength 9 = .ok (.iload_n 3, 1) := dk_29 (dk_at dksJ9_newLength_0 9 rfl rfl)
theorem dJ9_newLength_10 : decode cJ9_newLength 10 = .ok (.if_icmp .ge 11, 3) := dk_162 0 11 (dk_at dksJ9_newLength_0 10 rfl rfl)
theorem dJ9_newLength_13 : decode cJ9_newLength 13 = .ok (.iload_n 3, 1) := dk_29 (dk_at dksJ9_newLength_0 13 rfl rfl)
theorem dJ9_newLength_14 : decode cJ9_newLength 14 = .ok (.ldc 200, 2) := dk_18 200 (dk_at dksJ9_newLength_0 14 rfl rfl)
theorem dJ9_newLength_16 : decode cJ9_newLength 16 = .ok (.if_icmp .gt 5, 3) := dk_163 0 5 (dk_at dksJ9_newLength_0 16 rfl rfl)
theorem dJ9_newLength_19 : decode cJ9_newLength 19 = .ok (.iload_n 3, 1) := dk_29 (dk_at dksJ9_newLength_0 19 rfl rfl)
theorem dJ9_newLength_20 : decode cJ9_newLength 20 = .ok (.ireturn, 1) := dk_172 (dk_at dksJ9_newLength_0 20 rfl rfl)
theorem dJ9_newLength_21 : decode cJ9_newLength 21 = .ok (.iload_n 0, 1) := dk_26 (dk_at dksJ9_newLength_0 21 rfl rfl)
theorem dJ9_newLength_22 : decode cJ9_newLength 22 = .ok (.iload_n 1, 1) := dk_27 (dk_at dksJ9_newLength_0 22 rfl rfl)
theorem dJ9_newLength_23 : decode cJ9_newLength 23 = .ok (.invokestatic 201, 3) := dk_184 0 201 (dk_at dksJ9_newLength_1 0 rfl rfl)
theorem dJ9_newLength_26 : decode cJ9_newLength 26 = .ok (.ireturn, 1) := dk_172 (dk_at dksJ9_newLength_1 3 rfl rfl)
abbrev cJ9_hugeLength : ByteArray := prog_53_method_28_code
def yJ9_hugeLength : MethodName := ⟨RJ9, "hugeLength", "(II)I"⟩
def dkwJ9_hugeLength_2 : List UInt8 := [191, 28, 18, 200, 163, 0, 6, 18, 200, 172, 28, 172]
abbrev dktJ9_hugeLength_2 : List UInt8 := dkwJ9_hugeLength_2 ++ []
def dkwJ9_hugeLength_1 : List UInt8 := [26, 182, 0, 98, 18, 208, 182, 0, 94, 27, 182, 0, 98, 18, 210, 182, 0, 94, 182, 0, 101, 183, 0, 212]
abbrev dktJ9_hugeLength_1 : List UInt8 := dkwJ9_hugeLength_1 ++ dktJ9_hugeLength_2
def dkwJ9_hugeLength_0 : List UInt8 := [26, 27, 96, 61, 28, 156, 0, 44, 187, 0, 204, 89, 187, 0, 89, 89, 183, 0, 91, 18, 206, 182, 0, 94]
abbrev dktJ9_hugeLength_0 : List UInt8 := dkwJ9_hugeLength_0 ++ dktJ9_hugeLength_1
theorem dksJ9_hugeLength_0 : cJ9_hugeLength.data.toList.drop 0 = dktJ9_hugeLength_0 := by decide +kernel
theorem dksJ9_hugeLength_1 : cJ9_hugeLength.data.toList.drop 24 = dktJ9_hugeLength_1 := dk_seg dksJ9_hugeLength_0 24 rfl rfl
theorem dksJ9_hugeLength_2 : cJ9_hugeLength.data.toList.drop 48 = dktJ9_hugeLength_2 := dk_seg dksJ9_hugeLength_1 24 rfl rfl
theorem dJ9_hugeLength_0 : decode cJ9_hugeLength 0 = .ok (.iload_n 0, 1) := dk_26 (dk_at dksJ9_hugeLength_0 0 rfl rfl)
theorem dJ9_hugeLength_1 : decode cJ9_hugeLength 1 = .ok (.iload_n 1, 1) := dk_27 (dk_at dksJ9_hugeLength_0 1 rfl rfl)
theorem dJ9_hugeLength_2 : decode cJ9_hugeLength 2 = .ok (.iadd, 1) := dk_96 (dk_at dksJ9_hugeLength_0 2 rfl rfl)
theorem dJ9_hugeLength_3 : decode cJ9_hugeLength 3 = .ok (.istore_n 2, 1) := dk_61 (dk_at dksJ9_hugeLength_0 3 rfl rfl)
theorem dJ9_hugeLength_4 : decode cJ9_hugeLength 4 = .ok (.iload_n 2, 1) := dk_28 (dk_at dksJ9_hugeLength_0 4 rfl rfl)
theorem dJ9_hugeLength_5 : decode cJ9_hugeLength 5 = .ok (.ifCond .ge 44, 3) := dk_156 0 44 (dk_at dksJ9_hugeLength_0 5 rfl rfl)
theorem dJ9_hugeLength_8 : decode cJ9_hugeLength 8 = .ok (.new 204, 3) := dk_187 0 204 (dk_at dksJ9_hugeLength_0 8 rfl rfl)
theorem dJ9_hugeLength_11 : decode cJ9_hugeLength 11 = .ok (.dup, 1) := dk_89 (dk_at dksJ9_hugeLength_0 11 rfl rfl)
theorem dJ9_hugeLength_12 : decode cJ9_hugeLength 12 = .ok (.new 89, 3) := dk_187 0 89 (dk_at dksJ9_hugeLength_0 12 rfl rfl)
theorem dJ9_hugeLength_15 : decode cJ9_hugeLength 15 = .ok (.dup, 1) := dk_89 (dk_at dksJ9_hugeLength_0 15 rfl rfl)
theorem dJ9_hugeLength_16 : decode cJ9_hugeLength 16 = .ok (.invokespecial 91, 3) := dk_183 0 91 (dk_at dksJ9_hugeLength_0 16 rfl rfl)
theorem dJ9_hugeLength_19 : decode cJ9_hugeLength 19 = .ok (.ldc 206, 2) := dk_18 206 (dk_at dksJ9_hugeLength_0 19 rfl rfl)
theorem dJ9_hugeLength_21 : decode cJ9_hugeLength 21 = .ok (.invokevirtual 94, 3) := dk_182 0 94 (dk_at dksJ9_hugeLength_0 21 rfl rfl)
theorem dJ9_hugeLength_24 : decode cJ9_hugeLength 24 = .ok (.iload_n 0, 1) := dk_26 (dk_at dksJ9_hugeLength_1 0 rfl rfl)
theorem dJ9_hugeLength_25 : decode cJ9_hugeLength 25 = .ok (.invokevirtual 98, 3) := dk_182 0 98 (dk_at dksJ9_hugeLength_1 1 rfl rfl)
theorem dJ9_hugeLength_28 : decode cJ9_hugeLength 28 = .ok (.ldc 208, 2) := dk_18 208 (dk_at dksJ9_hugeLength_1 4 rfl rfl)
theorem dJ9_hugeLength_30 : decode cJ9_hugeLength 30 = .ok (.invokevirtual 94, 3) := dk_182 0 94 (dk_at dksJ9_hugeLength_1 6 rfl rfl)
theorem dJ9_hugeLength_33 : decode cJ9_hugeLength 33 = .ok (.iload_n 1, 1) := dk_27 (dk_at dksJ9_hugeLength_1 9 rfl rfl)
theorem dJ9_hugeLength_34 : decode cJ9_hugeLength 34 = .ok (.invokevirtual 98, 3) := dk_182 0 98 (dk_at dksJ9_hugeLength_1 10 rfl rfl)
theorem dJ9_hugeLength_37 : decode cJ9_hugeLength 37 = .ok (.ldc 210, 2) := dk_18 210 (dk_at dksJ9_hugeLength_1 13 rfl rfl)
theorem dJ9_hugeLength_39 : decode cJ9_hugeLength 39 = .ok (.invokevirtual 94, 3) := dk_182 0 94 (dk_at dksJ9_hugeLength_1 15 rfl rfl)
theorem dJ9_hugeLength_42 : decode cJ9_hugeLength 42 = .ok (.invokevirtual 101, 3) := dk_182 0 101 (dk_at dksJ9_hugeLength_1 18 rfl rfl)
theorem dJ9_hugeLength_45 : decode cJ9_hugeLength 45 = .ok (.invokespecial 212, 3) := dk_183 0 212 (dk_at dksJ9_hugeLength_1 21 rfl rfl)
theorem dJ9_hugeLength_48 : decode cJ9_hugeLength 48 = .ok (.athrow, 1) := dk_191 (dk_at dksJ9_hugeLength_2 0 rfl rfl)
theorem dJ9_hugeLength_49 : decode cJ9_hugeLength 49 = .ok (.iload_n 2, 1) := dk_28 (dk_at dksJ9_hugeLength_2 1 rfl rfl)
theorem dJ9_hugeLength_50 : decode cJ9_hugeLength 50 = .ok (.ldc 200, 2) := dk_18 200 (dk_at dksJ9_hugeLength_2 2 rfl rfl)
theorem dJ9_hugeLength_52 : decode cJ9_hugeLength 52 = .ok (.if_icmp .gt 6, 3) := dk_163 0 6 (dk_at dksJ9_hugeLength_2 4 rfl rfl)
theorem dJ9_hugeLength_55 : decode cJ9_hugeLength 55 = .ok (.ldc 200, 2) := dk_18 200 (dk_at dksJ9_hugeLength_2 7 rfl rfl)
theorem dJ9_hugeLength_57 : decode cJ9_hugeLength 57 = .ok (.ireturn, 1) := dk_172 (dk_at dksJ9_hugeLength_2 9 rfl rfl)
theorem dJ9_hugeLength_58 : decode cJ9_hugeLength 58 = .ok (.iload_n 2, 1) := dk_28 (dk_at dksJ9_hugeLength_2 10 rfl rfl)
theorem dJ9_hugeLength_59 : decode cJ9_hugeLength 59 = .ok (.ireturn, 1) := dk_172 (dk_at dksJ9_hugeLength_2 11 rfl rfl)
abbrev cJ9_vectorizedHashCode : ByteArray := prog_53_method_4_code
def yJ9_vectorizedHashCode : MethodName := ⟨RJ9, "vectorizedHashCode", "(Ljava/lang/Object;IIII)I"⟩
def dkwJ9_vectorizedHashCode_6 : List UInt8 := [183, 0, 91, 18, 92, 182, 0, 94, 21, 4, 182, 0, 98, 182, 0, 101, 183, 0, 105, 191, 172]
abbrev dktJ9_vectorizedHashCode_6 : List UInt8 := dkwJ9_vectorizedHashCode_6 ++ []
def dkwJ9_vectorizedHashCode_5 : List UInt8 := [167, 0, 44, 29, 42, 192, 0, 82, 27, 28, 184, 0, 84, 167, 0, 31, 187, 0, 87, 89, 187, 0, 89, 89]
abbrev dktJ9_vectorizedHashCode_5 : List UInt8 := dkwJ9_vectorizedHashCode_5 ++ dktJ9_vectorizedHashCode_6
def dkwJ9_vectorizedHashCode_4 : List UInt8 := [29, 42, 192, 0, 60, 27, 28, 184, 0, 75, 167, 0, 57, 29, 42, 192, 0, 77, 27, 28, 184, 0, 79]
abbrev dktJ9_vectorizedHashCode_4 : List UInt8 := dkwJ9_vectorizedHashCode_4 ++ dktJ9_vectorizedHashCode_5
def dkwJ9_vectorizedHashCode_3 : List UInt8 := [192, 0, 60, 27, 28, 184, 0, 66, 167, 0, 83, 29, 42, 192, 0, 69, 27, 28, 184, 0, 71, 167, 0, 70]
abbrev dktJ9_vectorizedHashCode_3 : List UInt8 := dkwJ9_vectorizedHashCode_3 ++ dktJ9_vectorizedHashCode_4
def dkwJ9_vectorizedHashCode_2 : List UInt8 := [29, 42, 192, 0, 60, 27, 28, 184, 0, 62, 167, 0, 103, 42, 193, 0, 60, 153, 0, 16, 29, 42]
abbrev dktJ9_vectorizedHashCode_2 : List UInt8 := dkwJ9_vectorizedHashCode_2 ++ dktJ9_vectorizedHashCode_3
def dkwJ9_vectorizedHashCode_1 : List UInt8 := [170, 0, 0, 0, 0, 127, 0, 0, 0, 4, 0, 0, 0, 10, 0, 0, 0, 42, 0, 0, 0, 55, 0, 0, 0, 127, 0, 0, 0, 127, 0, 0, 0, 88, 0, 0, 0, 101, 0, 0, 0, 114]
abbrev dktJ9_vectorizedHashCode_1 : List UInt8 := dkwJ9_vectorizedHashCode_1 ++ dktJ9_vectorizedHashCode_2
def dkwJ9_vectorizedHashCode_0 : List UInt8 := [21, 4]
abbrev dktJ9_vectorizedHashCode_0 : List UInt8 := dkwJ9_vectorizedHashCode_0 ++ dktJ9_vectorizedHashCode_1
theorem dksJ9_vectorizedHashCode_0 : cJ9_vectorizedHashCode.data.toList.drop 0 = dktJ9_vectorizedHashCode_0 := by decide +kernel
theorem dksJ9_vectorizedHashCode_1 : cJ9_vectorizedHashCode.data.toList.drop 2 = dktJ9_vectorizedHashCode_1 := dk_seg dksJ9_vectorizedHashCode_0 2 rfl rfl
theorem dksJ9_vectorizedHashCode_2 : cJ9_vectorizedHashCode.data.toList.drop 44 = dktJ9_vectorizedHashCode_2 := dk_seg dksJ9_vectorizedHashCode_1 42 rfl rfl
theorem dksJ9_vectorizedHashCode_3 : cJ9_vectorizedHashCode.data.toList.drop 66 = dktJ9_vectorizedHashCode_3 := dk_seg dksJ9_vectorizedHashCode_2 22 rfl rfl
theorem dksJ9_vectorizedHashCode_4 : cJ9_vectorizedHashCode.data.toList.drop 90 = dktJ9_vectorizedHashCode_4 := dk_seg dksJ9_vectorizedHashCode_3 24 rfl rfl
theorem dksJ9_vectorizedHashCode_5 : cJ9_vectorizedHashCode.data.toList.drop 113 = dktJ9_vectorizedHashCode_5 := dk_seg dksJ9_vectorizedHashCode_4 23 rfl rfl
theorem dksJ9_vectorizedHashCode_6 : cJ9_vectorizedHashCode.data.toList.drop 137 = dktJ9_vectorizedHashCode_6 := dk_seg dksJ9_vectorizedHashCode_5 24 rfl rfl
theorem dJ9_vectorizedHashCode_0 : decode cJ9_vectorizedHashCode 0 = .ok (.iload 4, 2) := dk_21 4 (dk_at dksJ9_vectorizedHashCode_0 0 rfl rfl)
theorem dJ9_vectorizedHashCode_2 : decode cJ9_vectorizedHashCode 2 = .ok (.tableswitch 127 4 10 #[42, 55, 127, 127, 88, 101, 114], 42) := by decide +kernel
theorem dJ9_vectorizedHashCode_44 : decode cJ9_vectorizedHashCode 44 = .ok (.iload_n 3, 1) := dk_29 (dk_at dksJ9_vectorizedHashCode_2 0 rfl rfl)
theorem dJ9_vectorizedHashCode_45 : decode cJ9_vectorizedHashCode 45 = .ok (.aload_n 0, 1) := dk_42 (dk_at dksJ9_vectorizedHashCode_2 1 rfl rfl)
theorem dJ9_vectorizedHashCode_46 : decode cJ9_vectorizedHashCode 46 = .ok (.checkcast 60, 3) := dk_192 0 60 (dk_at dksJ9_vectorizedHashCode_2 2 rfl rfl)
theorem dJ9_vectorizedHashCode_49 : decode cJ9_vectorizedHashCode 49 = .ok (.iload_n 1, 1) := dk_27 (dk_at dksJ9_vectorizedHashCode_2 5 rfl rfl)
theorem dJ9_vectorizedHashCode_50 : decode cJ9_vectorizedHashCode 50 = .ok (.iload_n 2, 1) := dk_28 (dk_at dksJ9_vectorizedHashCode_2 6 rfl rfl)
theorem dJ9_vectorizedHashCode_51 : decode cJ9_vectorizedHashCode 51 = .ok (.invokestatic 62, 3) := dk_184 0 62 (dk_at dksJ9_vectorizedHashCode_2 7 rfl rfl)
theorem dJ9_vectorizedHashCode_54 : decode cJ9_vectorizedHashCode 54 = .ok (.goto 103, 3) := dk_167 0 103 (dk_at dksJ9_vectorizedHashCode_2 10 rfl rfl)
theorem dJ9_vectorizedHashCode_57 : decode cJ9_vectorizedHashCode 57 = .ok (.aload_n 0, 1) := dk_42 (dk_at dksJ9_vectorizedHashCode_2 13 rfl rfl)
theorem dJ9_vectorizedHashCode_58 : decode cJ9_vectorizedHashCode 58 = .ok (.instanceof 60, 3) := dk_193 0 60 (dk_at dksJ9_vectorizedHashCode_2 14 rfl rfl)
theorem dJ9_vectorizedHashCode_61 : decode cJ9_vectorizedHashCode 61 = .ok (.ifCond .eq 16, 3) := dk_153 0 16 (dk_at dksJ9_vectorizedHashCode_2 17 rfl rfl)
theorem dJ9_vectorizedHashCode_64 : decode cJ9_vectorizedHashCode 64 = .ok (.iload_n 3, 1) := dk_29 (dk_at dksJ9_vectorizedHashCode_2 20 rfl rfl)
theorem dJ9_vectorizedHashCode_65 : decode cJ9_vectorizedHashCode 65 = .ok (.aload_n 0, 1) := dk_42 (dk_at dksJ9_vectorizedHashCode_2 21 rfl rfl)
theorem dJ9_vectorizedHashCode_66 : decode cJ9_vectorizedHashCode 66 = .ok (.checkcast 60, 3) := dk_192 0 60 (dk_at dksJ9_vectorizedHashCode_3 0 rfl rfl)
theorem dJ9_vectorizedHashCode_69 : decode cJ9_vectorizedHashCode 69 = .ok (.iload_n 1, 1) := dk_27 (dk_at dksJ9_vectorizedHashCode_3 3 rfl rfl)
theorem dJ9_vectorizedHashCode_70 : decode cJ9_vectorizedHashCode 70 = .ok (.iload_n 2, 1) := dk_28 (dk_at dksJ9_vectorizedHashCode_3 4 rfl rfl)
theorem dJ9_vectorizedHashCode_71 : decode cJ9_vectorizedHashCode 71 = .ok (.invokestatic 66, 3) := dk_184 0 66 (dk_at dksJ9_vectorizedHashCode_3 5 rfl rfl)
theorem dJ9_vectorizedHashCode_74 : decode cJ9_vectorizedHashCode 74 = .ok (.goto 83, 3) := dk_167 0 83 (dk_at dksJ9_vectorizedHashCode_3 8 rfl rfl)
theorem dJ9_vectorizedHashCode_77 : decode cJ9_vectorizedHashCode 77 = .ok (.iload_n 3, 1) := dk_29 (dk_at dksJ9_vectorizedHashCode_3 11 rfl rfl)
theorem dJ9_vectorizedHashCode_78 : decode cJ9_vectorizedHashCode 78 = .ok (.aload_n 0, 1) := dk_42 (dk_at dksJ9_vectorizedHashCode_3 12 rfl rfl)
theorem dJ9_vectorizedHashCode_79 : decode cJ9_vectorizedHashCode 79 = .ok (.checkcast 69, 3) := dk_192 0 69 (dk_at dksJ9_vectorizedHashCode_3 13 rfl rfl)
theorem dJ9_vectorizedHashCode_82 : decode cJ9_vectorizedHashCode 82 = .ok (.iload_n 1, 1) := dk_27 (dk_at dksJ9_vectorizedHashCode_3 16 rfl rfl)
theorem dJ9_vectorizedHashCode_83 : decode cJ9_vectorizedHashCode 83 = .ok (.iload_n 2, 1) := dk_28 (dk_at dksJ9_vectorizedHashCode_3 17 rfl rfl)
theorem dJ9_vectorizedHashCode_84 : decode cJ9_vectorizedHashCode 84 = .ok (.invokestatic 71, 3) := dk_184 0 71 (dk_at dksJ9_vectorizedHashCode_3 18 rfl rfl)
theorem dJ9_vectorizedHashCode_87 : decode cJ9_vectorizedHashCode 87 = .ok (.goto 70, 3) := dk_167 0 70 (dk_at dksJ9_vectorizedHashCode_3 21 rfl rfl)
theorem dJ9_vectorizedHashCode_90 : decode cJ9_vectorizedHashCode 90 = .ok (.iload_n 3, 1) := dk_29 (dk_at dksJ9_vectorizedHashCode_4 0 rfl rfl)
theorem dJ9_vectorizedHashCode_91 : decode cJ9_vectorizedHashCode 91 = .ok (.aload_n 0, 1) := dk_42 (dk_at dksJ9_vectorizedHashCode_4 1 rfl rfl)
theorem dJ9_vectorizedHashCode_92 : decode cJ9_vectorizedHashCode 92 = .ok (.checkcast 60, 3) := dk_192 0 60 (dk_at dksJ9_vectorizedHashCode_4 2 rfl rfl)
theorem dJ9_vectorizedHashCode_95 : decode cJ9_vectorizedHashCode 95 = .ok (.iload_n 1, 1) := dk_27 (dk_at dksJ9_vectorizedHashCode_4 5 rfl rfl)
theorem dJ9_vectorizedHashCode_96 : decode cJ9_vectorizedHashCode 96 = .ok (.iload_n 2, 1) := dk_28 (dk_at dksJ9_vectorizedHashCode_4 6 rfl rfl)
theorem dJ9_vectorizedHashCode_97 : decode cJ9_vectorizedHashCode 97 = .ok (.invokestatic 75, 3) := dk_184 0 75 (dk_at dksJ9_vectorizedHashCode_4 7 rfl rfl)
theorem dJ9_vectorizedHashCode_100 : decode cJ9_vectorizedHashCode 100 = .ok (.goto 57, 3) := dk_167 0 57 (dk_at dksJ9_vectorizedHashCode_4 10 rfl rfl)
theorem dJ9_vectorizedHashCode_103 : decode cJ9_vectorizedHashCode 103 = .ok (.iload_n 3, 1) := dk_29 (dk_at dksJ9_vectorizedHashCode_4 13 rfl rfl)
theorem dJ9_vectorizedHashCode_104 : decode cJ9_vectorizedHashCode 104 = .ok (.aload_n 0, 1) := dk_42 (dk_at dksJ9_vectorizedHashCode_4 14 rfl rfl)
theorem dJ9_vectorizedHashCode_105 : decode cJ9_vectorizedHashCode 105 = .ok (.checkcast 77, 3) := dk_192 0 77 (dk_at dksJ9_vectorizedHashCode_4 15 rfl rfl)
theorem dJ9_vectorizedHashCode_108 : decode cJ9_vectorizedHashCode 108 = .ok (.iload_n 1, 1) := dk_27 (dk_at dksJ9_vectorizedHashCode_4 18 rfl rfl)
theorem dJ9_vectorizedHashCode_109 : decode cJ9_vectorizedHashCode 109 = .ok (.iload_n 2, 1) := dk_28 (dk_at dksJ9_vectorizedHashCode_4 19 rfl rfl)
theorem dJ9_vectorizedHashCode_110 : decode cJ9_vectorizedHashCode 110 = .ok (.invokestatic 79, 3) := dk_184 0 79 (dk_at dksJ9_vectorizedHashCode_4 20 rfl rfl)
theorem dJ9_vectorizedHashCode_113 : decode cJ9_vectorizedHashCode 113 = .ok (.goto 44, 3) := dk_167 0 44 (dk_at dksJ9_vectorizedHashCode_5 0 rfl rfl)
theorem dJ9_vectorizedHashCode_116 : decode cJ9_vectorizedHashCode 116 = .ok (.iload_n 3, 1) := dk_29 (dk_at dksJ9_vectorizedHashCode_5 3 rfl rfl)
theorem dJ9_vectorizedHashCode_117 : decode cJ9_vectorizedHashCode 117 = .ok (.aload_n 0, 1) := dk_42 (dk_at dksJ9_vectorizedHashCode_5 4 rfl rfl)
theorem dJ9_vectorizedHashCode_118 : decode cJ9_vectorizedHashCode 118 = .ok (.checkcast 82, 3) := dk_192 0 82 (dk_at dksJ9_vectorizedHashCode_5 5 rfl rfl)
theorem dJ9_vectorizedHashCode_121 : decode cJ9_vectorizedHashCode 121 = .ok (.iload_n 1, 1) := dk_27 (dk_at dksJ9_vectorizedHashCode_5 8 rfl rfl)
theorem dJ9_vectorizedHashCode_122 : decode cJ9_vectorizedHashCode 122 = .ok (.iload_n 2, 1) := dk_28 (dk_at dksJ9_vectorizedHashCode_5 9 rfl rfl)
theorem dJ9_vectorizedHashCode_123 : decode cJ9_vectorizedHashCode 123 = .ok (.invokestatic 84, 3) := dk_184 0 84 (dk_at dksJ9_vectorizedHashCode_5 10 rfl rfl)
theorem dJ9_vectorizedHashCode_126 : decode cJ9_vectorizedHashCode 126 = .ok (.goto 31, 3) := dk_167 0 31 (dk_at dksJ9_vectorizedHashCode_5 13 rfl rfl)
theorem dJ9_vectorizedHashCode_129 : decode cJ9_vectorizedHashCode 129 = .ok (.new 87, 3) := dk_187 0 87 (dk_at dksJ9_vectorizedHashCode_5 16 rfl rfl)
theorem dJ9_vectorizedHashCode_132 : decode cJ9_vectorizedHashCode 132 = .ok (.dup, 1) := dk_89 (dk_at dksJ9_vectorizedHashCode_5 19 rfl rfl)
theorem dJ9_vectorizedHashCode_133 : decode cJ9_vectorizedHashCode 133 = .ok (.new 89, 3) := dk_187 0 89 (dk_at dksJ9_vectorizedHashCode_5 20 rfl rfl)
theorem dJ9_vectorizedHashCode_136 : decode cJ9_vectorizedHashCode 136 = .ok (.dup, 1) := dk_89 (dk_at dksJ9_vectorizedHashCode_5 23 rfl rfl)
theorem dJ9_vectorizedHashCode_137 : decode cJ9_vectorizedHashCode 137 = .ok (.invokespecial 91, 3) := dk_183 0 91 (dk_at dksJ9_vectorizedHashCode_6 0 rfl rfl)
theorem dJ9_vectorizedHashCode_140 : decode cJ9_vectorizedHashCode 140 = .ok (.ldc 92, 2) := dk_18 92 (dk_at dksJ9_vectorizedHashCode_6 3 rfl rfl)
theorem dJ9_vectorizedHashCode_142 : decode cJ9_vectorizedHashCode 142 = .ok (.invokevirtual 94, 3) := dk_182 0 94 (dk_at dksJ9_vectorizedHashCode_6 5 rfl rfl)
theorem dJ9_vectorizedHashCode_145 : decode cJ9_vectorizedHashCode 145 = .ok (.iload 4, 2) := dk_21 4 (dk_at dksJ9_vectorizedHashCode_6 8 rfl rfl)
theorem dJ9_vectorizedHashCode_147 : decode cJ9_vectorizedHashCode 147 = .ok (.invokevirtual 98, 3) := dk_182 0 98 (dk_at dksJ9_vectorizedHashCode_6 10 rfl rfl)
theorem dJ9_vectorizedHashCode_150 : decode cJ9_vectorizedHashCode 150 = .ok (.invokevirtual 101, 3) := dk_182 0 101 (dk_at dksJ9_vectorizedHashCode_6 13 rfl rfl)
theorem dJ9_vectorizedHashCode_153 : decode cJ9_vectorizedHashCode 153 = .ok (.invokespecial 105, 3) := dk_183 0 105 (dk_at dksJ9_vectorizedHashCode_6 16 rfl rfl)
theorem dJ9_vectorizedHashCode_156 : decode cJ9_vectorizedHashCode 156 = .ok (.athrow, 1) := dk_191 (dk_at dksJ9_vectorizedHashCode_6 19 rfl rfl)
theorem dJ9_vectorizedHashCode_157 : decode cJ9_vectorizedHashCode 157 = .ok (.ireturn, 1) := dk_172 (dk_at dksJ9_vectorizedHashCode_6 20 rfl rfl)
abbrev cJ9_signedHashCode : ByteArray := prog_53_method_5_code
def yJ9_signedHashCode : MethodName := ⟨RJ9, "signedHashCode", "(I[BII)I"⟩
def dkwJ9_signedHashCode_1 : List UInt8 := [17, 0, 255, 126, 96, 59, 132, 5, 1, 167, 255, 232, 26, 172]
abbrev dktJ9_signedHashCode_1 : List UInt8 := dkwJ9_signedHashCode_1 ++ []
def dkwJ9_signedHashCode_0 : List UInt8 := [28, 29, 96, 54, 4, 28, 54, 5, 21, 5, 21, 4, 162, 0, 23, 16, 31, 26, 104, 43, 21, 5, 51]
abbrev dktJ9_signedHashCode_0 : List UInt8 := dkwJ9_signedHashCode_0 ++ dktJ9_signedHashCode_1
theorem dksJ9_signedHashCode_0 : cJ9_signedHashCode.data.toList.drop 0 = dktJ9_signedHashCode_0 := by decide +kernel
theorem dksJ9_signedHashCode_1 : cJ9_signedHashCode.data.toList.drop 23 = dktJ9_signedHashCode_1 := dk_seg dksJ9_signedHashCode_0 23 rfl rfl
theorem dJ9_signedHashCode_0 : decode cJ9_signedHashCode 0 = .ok (.iload_n 2, 1) := dk_28 (dk_at dksJ9_signedHashCode_0 0 rfl rfl)
theorem dJ9_signedHashCode_1 : decode cJ9_signedHashCode 1 = .ok (.iload_n 3, 1) := dk_29 (dk_at dksJ9_signedHashCode_0 1 rfl rfl)
theorem dJ9_signedHashCode_2 : decode cJ9_signedHashCode 2 = .ok (.iadd, 1) := dk_96 (dk_at dksJ9_signedHashCode_0 2 rfl rfl)
theorem dJ9_signedHashCode_3 : decode cJ9_signedHashCode 3 = .ok (.istore 4, 2) := dk_54 4 (dk_at dksJ9_signedHashCode_0 3 rfl rfl)
theorem dJ9_signedHashCode_5 : decode cJ9_signedHashCode 5 = .ok (.iload_n 2, 1) := dk_28 (dk_at dksJ9_signedHashCode_0 5 rfl rfl)
theorem dJ9_signedHashCode_6 : decode cJ9_signedHashCode 6 = .ok (.istore 5, 2) := dk_54 5 (dk_at dksJ9_signedHashCode_0 6 rfl rfl)
theorem dJ9_signedHashCode_8 : decode cJ9_signedHashCode 8 = .ok (.iload 5, 2) := dk_21 5 (dk_at dksJ9_signedHashCode_0 8 rfl rfl)
theorem dJ9_signedHashCode_10 : decode cJ9_signedHashCode 10 = .ok (.iload 4, 2) := dk_21 4 (dk_at dksJ9_signedHashCode_0 10 rfl rfl)
theorem dJ9_signedHashCode_12 : decode cJ9_signedHashCode 12 = .ok (.if_icmp .ge 23, 3) := dk_162 0 23 (dk_at dksJ9_signedHashCode_0 12 rfl rfl)
theorem dJ9_signedHashCode_15 : decode cJ9_signedHashCode 15 = .ok (.bipush 31, 2) := dk_16 31 (dk_at dksJ9_signedHashCode_0 15 rfl rfl)
theorem dJ9_signedHashCode_17 : decode cJ9_signedHashCode 17 = .ok (.iload_n 0, 1) := dk_26 (dk_at dksJ9_signedHashCode_0 17 rfl rfl)
theorem dJ9_signedHashCode_18 : decode cJ9_signedHashCode 18 = .ok (.imul, 1) := dk_104 (dk_at dksJ9_signedHashCode_0 18 rfl rfl)
theorem dJ9_signedHashCode_19 : decode cJ9_signedHashCode 19 = .ok (.aload_n 1, 1) := dk_43 (dk_at dksJ9_signedHashCode_0 19 rfl rfl)
theorem dJ9_signedHashCode_20 : decode cJ9_signedHashCode 20 = .ok (.iload 5, 2) := dk_21 5 (dk_at dksJ9_signedHashCode_0 20 rfl rfl)
theorem dJ9_signedHashCode_22 : decode cJ9_signedHashCode 22 = .ok (.baload, 1) := dk_51 (dk_at dksJ9_signedHashCode_0 22 rfl rfl)
theorem dJ9_signedHashCode_23 : decode cJ9_signedHashCode 23 = .ok (.sipush 255, 3) := dk_17 0 255 (dk_at dksJ9_signedHashCode_1 0 rfl rfl)
theorem dJ9_signedHashCode_26 : decode cJ9_signedHashCode 26 = .ok (.iand, 1) := dk_126 (dk_at dksJ9_signedHashCode_1 3 rfl rfl)
theorem dJ9_signedHashCode_27 : decode cJ9_signedHashCode 27 = .ok (.iadd, 1) := dk_96 (dk_at dksJ9_signedHashCode_1 4 rfl rfl)
theorem dJ9_signedHashCode_28 : decode cJ9_signedHashCode 28 = .ok (.istore_n 0, 1) := dk_59 (dk_at dksJ9_signedHashCode_1 5 rfl rfl)
theorem dJ9_signedHashCode_29 : decode cJ9_signedHashCode 29 = .ok (.iinc 5 1, 3) := dk_132 5 1 (dk_at dksJ9_signedHashCode_1 6 rfl rfl)
theorem dJ9_signedHashCode_32 : decode cJ9_signedHashCode 32 = .ok (.goto (-24), 3) := dk_167 255 232 (dk_at dksJ9_signedHashCode_1 9 rfl rfl)
theorem dJ9_signedHashCode_35 : decode cJ9_signedHashCode 35 = .ok (.iload_n 0, 1) := dk_26 (dk_at dksJ9_signedHashCode_1 12 rfl rfl)
theorem dJ9_signedHashCode_36 : decode cJ9_signedHashCode 36 = .ok (.ireturn, 1) := dk_172 (dk_at dksJ9_signedHashCode_1 13 rfl rfl)
abbrev cJ9_utf16hashCode : ByteArray := prog_53_method_10_code
def yJ9_utf16hashCode : MethodName := ⟨RJ9, "utf16hashCode", "(I[BII)I"⟩
def dkwJ9_utf16hashCode_1 : List UInt8 := [21, 5, 185, 0, 110, 3, 0, 96, 59, 132, 5, 1, 167, 255, 229, 26, 172]
abbrev dktJ9_utf16hashCode_1 : List UInt8 := dkwJ9_utf16hashCode_1 ++ []
def dkwJ9_utf16hashCode_0 : List UInt8 := [28, 29, 96, 54, 4, 28, 54, 5, 21, 5, 21, 4, 162, 0, 26, 16, 31, 26, 104, 178, 0, 106, 43]
abbrev dktJ9_utf16hashCode_0 : List UInt8 := dkwJ9_utf16hashCode_0 ++ dktJ9_utf16hashCode_1
theorem dksJ9_utf16hashCode_0 : cJ9_utf16hashCode.data.toList.drop 0 = dktJ9_utf16hashCode_0 := by decide +kernel
theorem dksJ9_utf16hashCode_1 : cJ9_utf16hashCode.data.toList.drop 23 = dktJ9_utf16hashCode_1 := dk_seg dksJ9_utf16hashCode_0 23 rfl rfl
theorem dJ9_utf16hashCode_0 : decode cJ9_utf16hashCode 0 = .ok (.iload_n 2, 1) := dk_28 (dk_at dksJ9_utf16hashCode_0 0 rfl rfl)
theorem dJ9_utf16hashCode_1 : decode cJ9_utf16hashCode 1 = .ok (.iload_n 3, 1) := dk_29 (dk_at dksJ9_utf16hashCode_0 1 rfl rfl)
theorem dJ9_utf16hashCode_2 : decode cJ9_utf16hashCode 2 = .ok (.iadd, 1) := dk_96 (dk_at dksJ9_utf16hashCode_0 2 rfl rfl)
theorem dJ9_utf16hashCode_3 : decode cJ9_utf16hashCode 3 = .ok (.istore 4, 2) := dk_54 4 (dk_at dksJ9_utf16hashCode_0 3 rfl rfl)
theorem dJ9_utf16hashCode_5 : decode cJ9_utf16hashCode 5 = .ok (.iload_n 2, 1) := dk_28 (dk_at dksJ9_utf16hashCode_0 5 rfl rfl)
theorem dJ9_utf16hashCode_6 : decode cJ9_utf16hashCode 6 = .ok (.istore 5, 2) := dk_54 5 (dk_at dksJ9_utf16hashCode_0 6 rfl rfl)
theorem dJ9_utf16hashCode_8 : decode cJ9_utf16hashCode 8 = .ok (.iload 5, 2) := dk_21 5 (dk_at dksJ9_utf16hashCode_0 8 rfl rfl)
theorem dJ9_utf16hashCode_10 : decode cJ9_utf16hashCode 10 = .ok (.iload 4, 2) := dk_21 4 (dk_at dksJ9_utf16hashCode_0 10 rfl rfl)
theorem dJ9_utf16hashCode_12 : decode cJ9_utf16hashCode 12 = .ok (.if_icmp .ge 26, 3) := dk_162 0 26 (dk_at dksJ9_utf16hashCode_0 12 rfl rfl)
theorem dJ9_utf16hashCode_15 : decode cJ9_utf16hashCode 15 = .ok (.bipush 31, 2) := dk_16 31 (dk_at dksJ9_utf16hashCode_0 15 rfl rfl)
theorem dJ9_utf16hashCode_17 : decode cJ9_utf16hashCode 17 = .ok (.iload_n 0, 1) := dk_26 (dk_at dksJ9_utf16hashCode_0 17 rfl rfl)
theorem dJ9_utf16hashCode_18 : decode cJ9_utf16hashCode 18 = .ok (.imul, 1) := dk_104 (dk_at dksJ9_utf16hashCode_0 18 rfl rfl)
theorem dJ9_utf16hashCode_19 : decode cJ9_utf16hashCode 19 = .ok (.getstatic 106, 3) := dk_178 0 106 (dk_at dksJ9_utf16hashCode_0 19 rfl rfl)
theorem dJ9_utf16hashCode_22 : decode cJ9_utf16hashCode 22 = .ok (.aload_n 1, 1) := dk_43 (dk_at dksJ9_utf16hashCode_0 22 rfl rfl)
theorem dJ9_utf16hashCode_23 : decode cJ9_utf16hashCode 23 = .ok (.iload 5, 2) := dk_21 5 (dk_at dksJ9_utf16hashCode_1 0 rfl rfl)
theorem dJ9_utf16hashCode_25 : decode cJ9_utf16hashCode 25 = .ok (.invokeinterface 110 3, 5) := by decide +kernel
theorem dJ9_utf16hashCode_30 : decode cJ9_utf16hashCode 30 = .ok (.iadd, 1) := dk_96 (dk_at dksJ9_utf16hashCode_1 7 rfl rfl)
theorem dJ9_utf16hashCode_31 : decode cJ9_utf16hashCode 31 = .ok (.istore_n 0, 1) := dk_59 (dk_at dksJ9_utf16hashCode_1 8 rfl rfl)
theorem dJ9_utf16hashCode_32 : decode cJ9_utf16hashCode 32 = .ok (.iinc 5 1, 3) := dk_132 5 1 (dk_at dksJ9_utf16hashCode_1 9 rfl rfl)
theorem dJ9_utf16hashCode_35 : decode cJ9_utf16hashCode 35 = .ok (.goto (-27), 3) := dk_167 255 229 (dk_at dksJ9_utf16hashCode_1 12 rfl rfl)
theorem dJ9_utf16hashCode_38 : decode cJ9_utf16hashCode 38 = .ok (.iload_n 0, 1) := dk_26 (dk_at dksJ9_utf16hashCode_1 15 rfl rfl)
theorem dJ9_utf16hashCode_39 : decode cJ9_utf16hashCode 39 = .ok (.ireturn, 1) := dk_172 (dk_at dksJ9_utf16hashCode_1 16 rfl rfl)
abbrev cJ9_hashCode : ByteArray := prog_53_method_7_code
def yJ9_hashCode : MethodName := ⟨RJ9, "hashCode", "(I[CII)I"⟩
def dkwJ9_hashCode_1 : List UInt8 := [59, 132, 5, 1, 167, 255, 236, 26, 172]
abbrev dktJ9_hashCode_1 : List UInt8 := dkwJ9_hashCode_1 ++ []
def dkwJ9_hashCode_0 : List UInt8 := [28, 29, 96, 54, 4, 28, 54, 5, 21, 5, 21, 4, 162, 0, 19, 16, 31, 26, 104, 43, 21, 5, 52, 96]
abbrev dktJ9_hashCode_0 : List UInt8 := dkwJ9_hashCode_0 ++ dktJ9_hashCode_1
theorem dksJ9_hashCode_0 : cJ9_hashCode.data.toList.drop 0 = dktJ9_hashCode_0 := by decide +kernel
theorem dksJ9_hashCode_1 : cJ9_hashCode.data.toList.drop 24 = dktJ9_hashCode_1 := dk_seg dksJ9_hashCode_0 24 rfl rfl
theorem dJ9_hashCode_0 : decode cJ9_hashCode 0 = .ok (.iload_n 2, 1) := dk_28 (dk_at dksJ9_hashCode_0 0 rfl rfl)
theorem dJ9_hashCode_1 : decode cJ9_hashCode 1 = .ok (.iload_n 3, 1) := dk_29 (dk_at dksJ9_hashCode_0 1 rfl rfl)
theorem dJ9_hashCode_2 : decode cJ9_hashCode 2 = .ok (.iadd, 1) := dk_96 (dk_at dksJ9_hashCode_0 2 rfl rfl)
theorem dJ9_hashCode_3 : decode cJ9_hashCode 3 = .ok (.istore 4, 2) := dk_54 4 (dk_at dksJ9_hashCode_0 3 rfl rfl)
theorem dJ9_hashCode_5 : decode cJ9_hashCode 5 = .ok (.iload_n 2, 1) := dk_28 (dk_at dksJ9_hashCode_0 5 rfl rfl)
theorem dJ9_hashCode_6 : decode cJ9_hashCode 6 = .ok (.istore 5, 2) := dk_54 5 (dk_at dksJ9_hashCode_0 6 rfl rfl)
theorem dJ9_hashCode_8 : decode cJ9_hashCode 8 = .ok (.iload 5, 2) := dk_21 5 (dk_at dksJ9_hashCode_0 8 rfl rfl)
theorem dJ9_hashCode_10 : decode cJ9_hashCode 10 = .ok (.iload 4, 2) := dk_21 4 (dk_at dksJ9_hashCode_0 10 rfl rfl)
theorem dJ9_hashCode_12 : decode cJ9_hashCode 12 = .ok (.if_icmp .ge 19, 3) := dk_162 0 19 (dk_at dksJ9_hashCode_0 12 rfl rfl)
theorem dJ9_hashCode_15 : decode cJ9_hashCode 15 = .ok (.bipush 31, 2) := dk_16 31 (dk_at dksJ9_hashCode_0 15 rfl rfl)
theorem dJ9_hashCode_17 : decode cJ9_hashCode 17 = .ok (.iload_n 0, 1) := dk_26 (dk_at dksJ9_hashCode_0 17 rfl rfl)
theorem dJ9_hashCode_18 : decode cJ9_hashCode 18 = .ok (.imul, 1) := dk_104 (dk_at dksJ9_hashCode_0 18 rfl rfl)
theorem dJ9_hashCode_19 : decode cJ9_hashCode 19 = .ok (.aload_n 1, 1) := dk_43 (dk_at dksJ9_hashCode_0 19 rfl rfl)
theorem dJ9_hashCode_20 : decode cJ9_hashCode 20 = .ok (.iload 5, 2) := dk_21 5 (dk_at dksJ9_hashCode_0 20 rfl rfl)
theorem dJ9_hashCode_22 : decode cJ9_hashCode 22 = .ok (.caload, 1) := dk_52 (dk_at dksJ9_hashCode_0 22 rfl rfl)
theorem dJ9_hashCode_23 : decode cJ9_hashCode 23 = .ok (.iadd, 1) := dk_96 (dk_at dksJ9_hashCode_0 23 rfl rfl)
theorem dJ9_hashCode_24 : decode cJ9_hashCode 24 = .ok (.istore_n 0, 1) := dk_59 (dk_at dksJ9_hashCode_1 0 rfl rfl)
theorem dJ9_hashCode_25 : decode cJ9_hashCode 25 = .ok (.iinc 5 1, 3) := dk_132 5 1 (dk_at dksJ9_hashCode_1 1 rfl rfl)
theorem dJ9_hashCode_28 : decode cJ9_hashCode 28 = .ok (.goto (-20), 3) := dk_167 255 236 (dk_at dksJ9_hashCode_1 4 rfl rfl)
theorem dJ9_hashCode_31 : decode cJ9_hashCode 31 = .ok (.iload_n 0, 1) := dk_26 (dk_at dksJ9_hashCode_1 7 rfl rfl)
theorem dJ9_hashCode_32 : decode cJ9_hashCode 32 = .ok (.ireturn, 1) := dk_172 (dk_at dksJ9_hashCode_1 8 rfl rfl)
abbrev cJ9_hashCode_2 : ByteArray := prog_53_method_6_code
def yJ9_hashCode_2 : MethodName := ⟨RJ9, "hashCode", "(I[BII)I"⟩
def dkwJ9_hashCode_2_1 : List UInt8 := [59, 132, 5, 1, 167, 255, 236, 26, 172]
abbrev dktJ9_hashCode_2_1 : List UInt8 := dkwJ9_hashCode_2_1 ++ []
def dkwJ9_hashCode_2_0 : List UInt8 := [28, 29, 96, 54, 4, 28, 54, 5, 21, 5, 21, 4, 162, 0, 19, 16, 31, 26, 104, 43, 21, 5, 51, 96]
abbrev dktJ9_hashCode_2_0 : List UInt8 := dkwJ9_hashCode_2_0 ++ dktJ9_hashCode_2_1
theorem dksJ9_hashCode_2_0 : cJ9_hashCode_2.data.toList.drop 0 = dktJ9_hashCode_2_0 := by decide +kernel
theorem dksJ9_hashCode_2_1 : cJ9_hashCode_2.data.toList.drop 24 = dktJ9_hashCode_2_1 := dk_seg dksJ9_hashCode_2_0 24 rfl rfl
theorem dJ9_hashCode_2_0 : decode cJ9_hashCode_2 0 = .ok (.iload_n 2, 1) := dk_28 (dk_at dksJ9_hashCode_2_0 0 rfl rfl)
theorem dJ9_hashCode_2_1 : decode cJ9_hashCode_2 1 = .ok (.iload_n 3, 1) := dk_29 (dk_at dksJ9_hashCode_2_0 1 rfl rfl)
theorem dJ9_hashCode_2_2 : decode cJ9_hashCode_2 2 = .ok (.iadd, 1) := dk_96 (dk_at dksJ9_hashCode_2_0 2 rfl rfl)
theorem dJ9_hashCode_2_3 : decode cJ9_hashCode_2 3 = .ok (.istore 4, 2) := dk_54 4 (dk_at dksJ9_hashCode_2_0 3 rfl rfl)
theorem dJ9_hashCode_2_5 : decode cJ9_hashCode_2 5 = .ok (.iload_n 2, 1) := dk_28 (dk_at dksJ9_hashCode_2_0 5 rfl rfl)
theorem dJ9_hashCode_2_6 : decode cJ9_hashCode_2 6 = .ok (.istore 5, 2) := dk_54 5 (dk_at dksJ9_hashCode_2_0 6 rfl rfl)
theorem dJ9_hashCode_2_8 : decode cJ9_hashCode_2 8 = .ok (.iload 5, 2) := dk_21 5 (dk_at dksJ9_hashCode_2_0 8 rfl rfl)
theorem dJ9_hashCode_2_10 : decode cJ9_hashCode_2 10 = .ok (.iload 4, 2) := dk_21 4 (dk_at dksJ9_hashCode_2_0 10 rfl rfl)
theorem dJ9_hashCode_2_12 : decode cJ9_hashCode_2 12 = .ok (.if_icmp .ge 19, 3) := dk_162 0 19 (dk_at dksJ9_hashCode_2_0 12 rfl rfl)
theorem dJ9_hashCode_2_15 : decode cJ9_hashCode_2 15 = .ok (.bipush 31, 2) := dk_16 31 (dk_at dksJ9_hashCode_2_0 15 rfl rfl)
theorem dJ9_hashCode_2_17 : decode cJ9_hashCode_2 17 = .ok (.iload_n 0, 1) := dk_26 (dk_at dksJ9_hashCode_2_0 17 rfl rfl)
theorem dJ9_hashCode_2_18 : decode cJ9_hashCode_2 18 = .ok (.imul, 1) := dk_104 (dk_at dksJ9_hashCode_2_0 18 rfl rfl)
theorem dJ9_hashCode_2_19 : decode cJ9_hashCode_2 19 = .ok (.aload_n 1, 1) := dk_43 (dk_at dksJ9_hashCode_2_0 19 rfl rfl)
theorem dJ9_hashCode_2_20 : decode cJ9_hashCode_2 20 = .ok (.iload 5, 2) := dk_21 5 (dk_at dksJ9_hashCode_2_0 20 rfl rfl)
theorem dJ9_hashCode_2_22 : decode cJ9_hashCode_2 22 = .ok (.baload, 1) := dk_51 (dk_at dksJ9_hashCode_2_0 22 rfl rfl)
theorem dJ9_hashCode_2_23 : decode cJ9_hashCode_2 23 = .ok (.iadd, 1) := dk_96 (dk_at dksJ9_hashCode_2_0 23 rfl rfl)
theorem dJ9_hashCode_2_24 : decode cJ9_hashCode_2 24 = .ok (.istore_n 0, 1) := dk_59 (dk_at dksJ9_hashCode_2_1 0 rfl rfl)
theorem dJ9_hashCode_2_25 : decode cJ9_hashCode_2 25 = .ok (.iinc 5 1, 3) := dk_132 5 1 (dk_at dksJ9_hashCode_2_1 1 rfl rfl)
theorem dJ9_hashCode_2_28 : decode cJ9_hashCode_2 28 = .ok (.goto (-20), 3) := dk_167 255 236 (dk_at dksJ9_hashCode_2_1 4 rfl rfl)
theorem dJ9_hashCode_2_31 : decode cJ9_hashCode_2 31 = .ok (.iload_n 0, 1) := dk_26 (dk_at dksJ9_hashCode_2_1 7 rfl rfl)
theorem dJ9_hashCode_2_32 : decode cJ9_hashCode_2 32 = .ok (.ireturn, 1) := dk_172 (dk_at dksJ9_hashCode_2_1 8 rfl rfl)
abbrev cJ9_hashCode_3 : ByteArray := prog_53_method_8_code
def yJ9_hashCode_3 : MethodName := ⟨RJ9, "hashCode", "(I[SII)I"⟩
def dkwJ9_hashCode_3_1 : List UInt8 := [59, 132, 5, 1, 167, 255, 236, 26, 172]
abbrev dktJ9_hashCode_3_1 : List UInt8 := dkwJ9_hashCode_3_1 ++ []
def dkwJ9_hashCode_3_0 : List UInt8 := [28, 29, 96, 54, 4, 28, 54, 5, 21, 5, 21, 4, 162, 0, 19, 16, 31, 26, 104, 43, 21, 5, 53, 96]
abbrev dktJ9_hashCode_3_0 : List UInt8 := dkwJ9_hashCode_3_0 ++ dktJ9_hashCode_3_1
theorem dksJ9_hashCode_3_0 : cJ9_hashCode_3.data.toList.drop 0 = dktJ9_hashCode_3_0 := by decide +kernel
theorem dksJ9_hashCode_3_1 : cJ9_hashCode_3.data.toList.drop 24 = dktJ9_hashCode_3_1 := dk_seg dksJ9_hashCode_3_0 24 rfl rfl
theorem dJ9_hashCode_3_0 : decode cJ9_hashCode_3 0 = .ok (.iload_n 2, 1) := dk_28 (dk_at dksJ9_hashCode_3_0 0 rfl rfl)
theorem dJ9_hashCode_3_1 : decode cJ9_hashCode_3 1 = .ok (.iload_n 3, 1) := dk_29 (dk_at dksJ9_hashCode_3_0 1 rfl rfl)
theorem dJ9_hashCode_3_2 : decode cJ9_hashCode_3 2 = .ok (.iadd, 1) := dk_96 (dk_at dksJ9_hashCode_3_0 2 rfl rfl)
theorem dJ9_hashCode_3_3 : decode cJ9_hashCode_3 3 = .ok (.istore 4, 2) := dk_54 4 (dk_at dksJ9_hashCode_3_0 3 rfl rfl)
theorem dJ9_hashCode_3_5 : decode cJ9_hashCode_3 5 = .ok (.iload_n 2, 1) := dk_28 (dk_at dksJ9_hashCode_3_0 5 rfl rfl)
theorem dJ9_hashCode_3_6 : decode cJ9_hashCode_3 6 = .ok (.istore 5, 2) := dk_54 5 (dk_at dksJ9_hashCode_3_0 6 rfl rfl)
theorem dJ9_hashCode_3_8 : decode cJ9_hashCode_3 8 = .ok (.iload 5, 2) := dk_21 5 (dk_at dksJ9_hashCode_3_0 8 rfl rfl)
theorem dJ9_hashCode_3_10 : decode cJ9_hashCode_3 10 = .ok (.iload 4, 2) := dk_21 4 (dk_at dksJ9_hashCode_3_0 10 rfl rfl)
theorem dJ9_hashCode_3_12 : decode cJ9_hashCode_3 12 = .ok (.if_icmp .ge 19, 3) := dk_162 0 19 (dk_at dksJ9_hashCode_3_0 12 rfl rfl)
theorem dJ9_hashCode_3_15 : decode cJ9_hashCode_3 15 = .ok (.bipush 31, 2) := dk_16 31 (dk_at dksJ9_hashCode_3_0 15 rfl rfl)
theorem dJ9_hashCode_3_17 : decode cJ9_hashCode_3 17 = .ok (.iload_n 0, 1) := dk_26 (dk_at dksJ9_hashCode_3_0 17 rfl rfl)
theorem dJ9_hashCode_3_18 : decode cJ9_hashCode_3 18 = .ok (.imul, 1) := dk_104 (dk_at dksJ9_hashCode_3_0 18 rfl rfl)
theorem dJ9_hashCode_3_19 : decode cJ9_hashCode_3 19 = .ok (.aload_n 1, 1) := dk_43 (dk_at dksJ9_hashCode_3_0 19 rfl rfl)
theorem dJ9_hashCode_3_20 : decode cJ9_hashCode_3 20 = .ok (.iload 5, 2) := dk_21 5 (dk_at dksJ9_hashCode_3_0 20 rfl rfl)
theorem dJ9_hashCode_3_22 : decode cJ9_hashCode_3 22 = .ok (.saload, 1) := dk_53 (dk_at dksJ9_hashCode_3_0 22 rfl rfl)
theorem dJ9_hashCode_3_23 : decode cJ9_hashCode_3 23 = .ok (.iadd, 1) := dk_96 (dk_at dksJ9_hashCode_3_0 23 rfl rfl)
theorem dJ9_hashCode_3_24 : decode cJ9_hashCode_3 24 = .ok (.istore_n 0, 1) := dk_59 (dk_at dksJ9_hashCode_3_1 0 rfl rfl)
theorem dJ9_hashCode_3_25 : decode cJ9_hashCode_3 25 = .ok (.iinc 5 1, 3) := dk_132 5 1 (dk_at dksJ9_hashCode_3_1 1 rfl rfl)
theorem dJ9_hashCode_3_28 : decode cJ9_hashCode_3 28 = .ok (.goto (-20), 3) := dk_167 255 236 (dk_at dksJ9_hashCode_3_1 4 rfl rfl)
theorem dJ9_hashCode_3_31 : decode cJ9_hashCode_3 31 = .ok (.iload_n 0, 1) := dk_26 (dk_at dksJ9_hashCode_3_1 7 rfl rfl)
theorem dJ9_hashCode_3_32 : decode cJ9_hashCode_3 32 = .ok (.ireturn, 1) := dk_172 (dk_at dksJ9_hashCode_3_1 8 rfl rfl)
abbrev cJ9_hashCode_4 : ByteArray := prog_53_method_9_code
def yJ9_hashCode_4 : MethodName := ⟨RJ9, "hashCode", "(I[III)I"⟩
def dkwJ9_hashCode_4_1 : List UInt8 := [59, 132, 5, 1, 167, 255, 236, 26, 172]
abbrev dktJ9_hashCode_4_1 : List UInt8 := dkwJ9_hashCode_4_1 ++ []
def dkwJ9_hashCode_4_0 : List UInt8 := [28, 29, 96, 54, 4, 28, 54, 5, 21, 5, 21, 4, 162, 0, 19, 16, 31, 26, 104, 43, 21, 5, 46, 96]
abbrev dktJ9_hashCode_4_0 : List UInt8 := dkwJ9_hashCode_4_0 ++ dktJ9_hashCode_4_1
theorem dksJ9_hashCode_4_0 : cJ9_hashCode_4.data.toList.drop 0 = dktJ9_hashCode_4_0 := by decide +kernel
theorem dksJ9_hashCode_4_1 : cJ9_hashCode_4.data.toList.drop 24 = dktJ9_hashCode_4_1 := dk_seg dksJ9_hashCode_4_0 24 rfl rfl
theorem dJ9_hashCode_4_0 : decode cJ9_hashCode_4 0 = .ok (.iload_n 2, 1) := dk_28 (dk_at dksJ9_hashCode_4_0 0 rfl rfl)
theorem dJ9_hashCode_4_1 : decode cJ9_hashCode_4 1 = .ok (.iload_n 3, 1) := dk_29 (dk_at dksJ9_hashCode_4_0 1 rfl rfl)
theorem dJ9_hashCode_4_2 : decode cJ9_hashCode_4 2 = .ok (.iadd, 1) := dk_96 (dk_at dksJ9_hashCode_4_0 2 rfl rfl)
theorem dJ9_hashCode_4_3 : decode cJ9_hashCode_4 3 = .ok (.istore 4, 2) := dk_54 4 (dk_at dksJ9_hashCode_4_0 3 rfl rfl)
theorem dJ9_hashCode_4_5 : decode cJ9_hashCode_4 5 = .ok (.iload_n 2, 1) := dk_28 (dk_at dksJ9_hashCode_4_0 5 rfl rfl)
theorem dJ9_hashCode_4_6 : decode cJ9_hashCode_4 6 = .ok (.istore 5, 2) := dk_54 5 (dk_at dksJ9_hashCode_4_0 6 rfl rfl)
theorem dJ9_hashCode_4_8 : decode cJ9_hashCode_4 8 = .ok (.iload 5, 2) := dk_21 5 (dk_at dksJ9_hashCode_4_0 8 rfl rfl)
theorem dJ9_hashCode_4_10 : decode cJ9_hashCode_4 10 = .ok (.iload 4, 2) := dk_21 4 (dk_at dksJ9_hashCode_4_0 10 rfl rfl)
theorem dJ9_hashCode_4_12 : decode cJ9_hashCode_4 12 = .ok (.if_icmp .ge 19, 3) := dk_162 0 19 (dk_at dksJ9_hashCode_4_0 12 rfl rfl)
theorem dJ9_hashCode_4_15 : decode cJ9_hashCode_4 15 = .ok (.bipush 31, 2) := dk_16 31 (dk_at dksJ9_hashCode_4_0 15 rfl rfl)
theorem dJ9_hashCode_4_17 : decode cJ9_hashCode_4 17 = .ok (.iload_n 0, 1) := dk_26 (dk_at dksJ9_hashCode_4_0 17 rfl rfl)
theorem dJ9_hashCode_4_18 : decode cJ9_hashCode_4 18 = .ok (.imul, 1) := dk_104 (dk_at dksJ9_hashCode_4_0 18 rfl rfl)
theorem dJ9_hashCode_4_19 : decode cJ9_hashCode_4 19 = .ok (.aload_n 1, 1) := dk_43 (dk_at dksJ9_hashCode_4_0 19 rfl rfl)
theorem dJ9_hashCode_4_20 : decode cJ9_hashCode_4 20 = .ok (.iload 5, 2) := dk_21 5 (dk_at dksJ9_hashCode_4_0 20 rfl rfl)
theorem dJ9_hashCode_4_22 : decode cJ9_hashCode_4 22 = .ok (.iaload, 1) := dk_46 (dk_at dksJ9_hashCode_4_0 22 rfl rfl)
theorem dJ9_hashCode_4_23 : decode cJ9_hashCode_4 23 = .ok (.iadd, 1) := dk_96 (dk_at dksJ9_hashCode_4_0 23 rfl rfl)
theorem dJ9_hashCode_4_24 : decode cJ9_hashCode_4 24 = .ok (.istore_n 0, 1) := dk_59 (dk_at dksJ9_hashCode_4_1 0 rfl rfl)
theorem dJ9_hashCode_4_25 : decode cJ9_hashCode_4 25 = .ok (.iinc 5 1, 3) := dk_132 5 1 (dk_at dksJ9_hashCode_4_1 1 rfl rfl)
theorem dJ9_hashCode_4_28 : decode cJ9_hashCode_4 28 = .ok (.goto (-20), 3) := dk_167 255 236 (dk_at dksJ9_hashCode_4_1 4 rfl rfl)
theorem dJ9_hashCode_4_31 : decode cJ9_hashCode_4 31 = .ok (.iload_n 0, 1) := dk_26 (dk_at dksJ9_hashCode_4_1 7 rfl rfl)
theorem dJ9_hashCode_4_32 : decode cJ9_hashCode_4 32 = .ok (.ireturn, 1) := dk_172 (dk_at dksJ9_hashCode_4_1 8 rfl rfl)
theorem q138 : (Jvm.Cond.initialized "jdk/internal/util/ArraysSupport") ∈ lw_all := lw_g (lw_at lw_m1 16 rfl) rfl
theorem q569 : (Jvm.Cond.static ({ cls := "jdk/internal/util/ArraysSupport", name := "newLength", desc := "(III)I" } : Jvm.MethodName)) ∈ lw_all := lw_g (lw_at lw_m2 207 rfl) rfl
theorem q570 : (Jvm.Cond.code ({ cls := "jdk/internal/util/ArraysSupport", name := "newLength", desc := "(III)I" } : Jvm.MethodName) prog_53_method_27_code (4 : Nat) (Option.some Jvm.ClassFile.FieldType.int)) ∈ lw_all := lw_g (lw_at lw_m2 208 rfl) rfl
theorem q571 : (Jvm.Cond.methodLink "jdk/internal/util/ArraysSupport" (194 : Nat) ({ cls := "java/lang/Math", name := "max", desc := "(II)I" } : Jvm.MethodName)) ∈ lw_all := lw_g (lw_at lw_m2 209 rfl) rfl
theorem q574 : (Jvm.Cond.constant "jdk/internal/util/ArraysSupport" (200 : Nat) (2147483639 : Int32)) ∈ lw_all := lw_g (lw_at lw_m2 212 rfl) rfl
theorem q575 : (Jvm.Cond.methodLink "jdk/internal/util/ArraysSupport" (201 : Nat) ({ cls := "jdk/internal/util/ArraysSupport", name := "hugeLength", desc := "(II)I" } : Jvm.MethodName)) ∈ lw_all := lw_g (lw_at lw_m2 213 rfl) rfl
theorem q576 : (Jvm.Cond.static ({ cls := "jdk/internal/util/ArraysSupport", name := "hugeLength", desc := "(II)I" } : Jvm.MethodName)) ∈ lw_all := lw_g (lw_at lw_m2 214 rfl) rfl
theorem q577 : (Jvm.Cond.code ({ cls := "jdk/internal/util/ArraysSupport", name := "hugeLength", desc := "(II)I" } : Jvm.MethodName) prog_53_method_28_code (3 : Nat) (Option.some Jvm.ClassFile.FieldType.int)) ∈ lw_all := lw_g (lw_at lw_m2 215 rfl) rfl
theorem q760 : (Jvm.Cond.static ({ cls := "jdk/internal/util/ArraysSupport", name := "vectorizedHashCode", desc := "(Ljava/lang/Object;IIII)I" } : Jvm.MethodName)) ∈ lw_all := lw_g (lw_at lw_m3 158 rfl) rfl
theorem q761 : (Jvm.Cond.code ({ cls := "jdk/internal/util/ArraysSupport", name := "vectorizedHashCode", desc := "(Ljava/lang/Object;IIII)I" } : Jvm.MethodName) prog_53_method_4_code (5 : Nat) (Option.some Jvm.ClassFile.FieldType.int)) ∈ lw_all := lw_g (lw_at lw_m3 159 rfl) rfl
theorem q762 : (Jvm.Cond.classLink "jdk/internal/util/ArraysSupport" (60 : Nat) "[B") ∈ lw_all := lw_g (lw_at lw_m3 160 rfl) rfl
theorem q763 : (Jvm.Cond.methodLink "jdk/internal/util/ArraysSupport" (62 : Nat) ({ cls := "jdk/internal/util/ArraysSupport", name := "signedHashCode", desc := "(I[BII)I" } : Jvm.MethodName)) ∈ lw_all := lw_g (lw_at lw_m3 161 rfl) rfl
theorem q764 : (Jvm.Cond.static ({ cls := "jdk/internal/util/ArraysSupport", name := "signedHashCode", desc := "(I[BII)I" } : Jvm.MethodName)) ∈ lw_all := lw_g (lw_at lw_m3 162 rfl) rfl
theorem q765 : (Jvm.Cond.code ({ cls := "jdk/internal/util/ArraysSupport", name := "signedHashCode", desc := "(I[BII)I" } : Jvm.MethodName) prog_53_method_5_code (6 : Nat) (Option.some Jvm.ClassFile.FieldType.int)) ∈ lw_all := lw_g (lw_at lw_m3 163 rfl) rfl
theorem q766 : (Jvm.Cond.methodLink "jdk/internal/util/ArraysSupport" (66 : Nat) ({ cls := "jdk/internal/util/ArraysSupport", name := "utf16hashCode", desc := "(I[BII)I" } : Jvm.MethodName)) ∈ lw_all := lw_g (lw_at lw_m3 164 rfl) rfl
theorem q767 : (Jvm.Cond.static ({ cls := "jdk/internal/util/ArraysSupport", name := "utf16hashCode", desc := "(I[BII)I" } : Jvm.MethodName)) ∈ lw_all := lw_g (lw_at lw_m3 165 rfl) rfl
theorem q768 : (Jvm.Cond.code ({ cls := "jdk/internal/util/ArraysSupport", name := "utf16hashCode", desc := "(I[BII)I" } : Jvm.MethodName) prog_53_method_10_code (6 : Nat) (Option.some Jvm.ClassFile.FieldType.int)) ∈ lw_all := lw_g (lw_at lw_m3 166 rfl) rfl
theorem q769 : (Jvm.Cond.fieldLink "jdk/internal/util/ArraysSupport" (106 : Nat) "jdk/internal/util/ArraysSupport" "JLA" "Ljdk/internal/access/JavaLangAccess;") ∈ lw_all := lw_g (lw_at lw_m3 167 rfl) rfl
theorem q770 : (Jvm.Cond.laysStatic "jdk/internal/util/ArraysSupport" "JLA" "Ljdk/internal/access/JavaLangAccess;") ∈ lw_tbl := lw_at lw_m3 168 rfl
theorem q771 : (Jvm.Cond.interfaceEntry "jdk/internal/util/ArraysSupport" (110 : Nat)) ∈ lw_tbl := lw_at lw_m3 169 rfl
theorem q772 : (Jvm.Cond.methodLink "jdk/internal/util/ArraysSupport" (110 : Nat) ({ cls := "jdk/internal/access/JavaLangAccess", name := "getUTF16Char", desc := "([BI)C" } : Jvm.MethodName)) ∈ lw_all := lw_g (lw_at lw_m3 170 rfl) rfl
theorem q782 : (Jvm.Cond.classLink "jdk/internal/util/ArraysSupport" (69 : Nat) "[C") ∈ lw_all := lw_g (lw_at lw_m3 180 rfl) rfl
theorem q783 : (Jvm.Cond.methodLink "jdk/internal/util/ArraysSupport" (71 : Nat) ({ cls := "jdk/internal/util/ArraysSupport", name := "hashCode", desc := "(I[CII)I" } : Jvm.MethodName)) ∈ lw_all := lw_g (lw_at lw_m3 181 rfl) rfl
theorem q784 : (Jvm.Cond.static ({ cls := "jdk/internal/util/ArraysSupport", name := "hashCode", desc := "(I[CII)I" } : Jvm.MethodName)) ∈ lw_all := lw_g (lw_at lw_m3 182 rfl) rfl
theorem q785 : (Jvm.Cond.code ({ cls := "jdk/internal/util/ArraysSupport", name := "hashCode", desc := "(I[CII)I" } : Jvm.MethodName) prog_53_method_7_code (6 : Nat) (Option.some Jvm.ClassFile.FieldType.int)) ∈ lw_all := lw_g (lw_at lw_m3 183 rfl) rfl
theorem q786 : (Jvm.Cond.methodLink "jdk/internal/util/ArraysSupport" (75 : Nat) ({ cls := "jdk/internal/util/ArraysSupport", name := "hashCode", desc := "(I[BII)I" } : Jvm.MethodName)) ∈ lw_all := lw_g (lw_at lw_m3 184 rfl) rfl
theorem q787 : (Jvm.Cond.static ({ cls := "jdk/internal/util/ArraysSupport", name := "hashCode", desc := "(I[BII)I" } : Jvm.MethodName)) ∈ lw_all := lw_g (lw_at lw_m3 185 rfl) rfl
theorem q788 : (Jvm.Cond.code ({ cls := "jdk/internal/util/ArraysSupport", name := "hashCode", desc := "(I[BII)I" } : Jvm.MethodName) prog_53_method_6_code (6 : Nat) (Option.some Jvm.ClassFile.FieldType.int)) ∈ lw_all := lw_g (lw_at lw_m3 186 rfl) rfl
theorem q789 : (Jvm.Cond.classLink "jdk/internal/util/ArraysSupport" (77 : Nat) "[S") ∈ lw_all := lw_g (lw_at lw_m3 187 rfl) rfl
theorem q790 : (Jvm.Cond.methodLink "jdk/internal/util/ArraysSupport" (79 : Nat) ({ cls := "jdk/internal/util/ArraysSupport", name := "hashCode", desc := "(I[SII)I" } : Jvm.MethodName)) ∈ lw_all := lw_g (lw_at lw_m3 188 rfl) rfl
theorem q791 : (Jvm.Cond.static ({ cls := "jdk/internal/util/ArraysSupport", name := "hashCode", desc := "(I[SII)I" } : Jvm.MethodName)) ∈ lw_all := lw_g (lw_at lw_m3 189 rfl) rfl
theorem q792 : (Jvm.Cond.code ({ cls := "jdk/internal/util/ArraysSupport", name := "hashCode", desc := "(I[SII)I" } : Jvm.MethodName) prog_53_method_8_code (6 : Nat) (Option.some Jvm.ClassFile.FieldType.int)) ∈ lw_all := lw_g (lw_at lw_m3 190 rfl) rfl
theorem q793 : (Jvm.Cond.classLink "jdk/internal/util/ArraysSupport" (82 : Nat) "[I") ∈ lw_all := lw_g (lw_at lw_m3 191 rfl) rfl
theorem q794 : (Jvm.Cond.methodLink "jdk/internal/util/ArraysSupport" (84 : Nat) ({ cls := "jdk/internal/util/ArraysSupport", name := "hashCode", desc := "(I[III)I" } : Jvm.MethodName)) ∈ lw_all := lw_g (lw_at lw_m3 192 rfl) rfl
theorem q795 : (Jvm.Cond.static ({ cls := "jdk/internal/util/ArraysSupport", name := "hashCode", desc := "(I[III)I" } : Jvm.MethodName)) ∈ lw_all := lw_g (lw_at lw_m3 193 rfl) rfl
theorem q796 : (Jvm.Cond.code ({ cls := "jdk/internal/util/ArraysSupport", name := "hashCode", desc := "(I[III)I" } : Jvm.MethodName) prog_53_method_9_code (6 : Nat) (Option.some Jvm.ClassFile.FieldType.int)) ∈ lw_all := lw_g (lw_at lw_m3 194 rfl) rfl

/-! TrunkLitters$Book -/
set_option maxRecDepth 100000
def RX1 : String := "TrunkLitters$Book"
def TX1 : u_T := fun k => match k with
  | 0 => ("TrunkLitters$Book", "rooms", "Ljava/util/ArrayList;", true)
  | 1 => ("TrunkLitters$Book", "trunks", "Ljava/util/ArrayList;", true)
  | 2 => ("TrunkLitters$Book", "ask", "LTrunkLitters$Ask;", true)
  | 3 => ("TrunkLitters$Book", "brood", "LTrunkLitters$Node;", false)
  | 4 => ("TrunkLitters$Book", "pines", "I", false)
  | 5 => ("TrunkLitters$Book", "tales", "I", false)
  | 6 => ("TrunkLitters$Book", "seed", "I", false)
  | _ => ("TrunkLitters$Book", "units", "I", false)
def tyX1 : Nat → FieldType := fun k => match k with
  | 0 => .object "java/util/ArrayList"
  | 1 => .object "java/util/ArrayList"
  | 2 => .object "TrunkLitters$Ask"
  | 3 => .object "TrunkLitters$Node"
  | 4 => .int
  | 5 => .int
  | 6 => .int
  | _ => .int
abbrev wsX10 : List Cond := u_ws RX1 TX1 8
theorem nmX1 : ∀ a, a < 8 → ∀ b, b < 8 → a ≠ b → (TX1 a).2.1 ≠ (TX1 b).2.1 := by decide +kernel
theorem tyX1_ok : ∀ k, k < 8 → parseFieldDescriptor (TX1 k).2.2.1 = some (tyX1 k) := by decide +kernel
abbrev cX1_init : ByteArray := prog_9_method_1_code
def yX1_init : MethodName := ⟨RX1, "<init>", "()V"⟩
def dkwX1_init_1 : List UInt8 := [183, 0, 9, 181, 0, 18, 42, 187, 0, 21, 89, 183, 0, 23, 181, 0, 24, 42, 6, 181, 0, 28, 177]
abbrev dktX1_init_1 : List UInt8 := dkwX1_init_1 ++ []
def dkwX1_init_0 : List UInt8 := [42, 183, 0, 1, 42, 187, 0, 7, 89, 5, 183, 0, 9, 181, 0, 12, 42, 187, 0, 7, 89, 5]
abbrev dktX1_init_0 : List UInt8 := dkwX1_init_0 ++ dktX1_init_1
theorem dksX1_init_0 : cX1_init.data.toList.drop 0 = dktX1_init_0 := by decide +kernel
theorem dksX1_init_1 : cX1_init.data.toList.drop 22 = dktX1_init_1 := dk_seg dksX1_init_0 22 rfl rfl
theorem dX1_init_0 : decode cX1_init 0 = .ok (.aload_n 0, 1) := dk_42 (dk_at dksX1_init_0 0 rfl rfl)
theorem dX1_init_1 : decode cX1_init 1 = .ok (.invokespecial 1, 3) := dk_183 0 1 (dk_at dksX1_init_0 1 rfl rfl)
theorem dX1_init_4 : decode cX1_init 4 = .ok (.aload_n 0, 1) := dk_42 (dk_at dksX1_init_0 4 rfl rfl)
theorem dX1_init_5 : decode cX1_init 5 = .ok (.new 7, 3) := dk_187 0 7 (dk_at dksX1_init_0 5 rfl rfl)
theorem dX1_init_8 : decode cX1_init 8 = .ok (.dup, 1) := dk_89 (dk_at dksX1_init_0 8 rfl rfl)
theorem dX1_init_9 : decode cX1_init 9 = .ok (.iconst 2, 1) := dk_5 (dk_at dksX1_init_0 9 rfl rfl)
theorem dX1_init_10 : decode cX1_init 10 = .ok (.invokespecial 9, 3) := dk_183 0 9 (dk_at dksX1_init_0 10 rfl rfl)
theorem dX1_init_13 : decode cX1_init 13 = .ok (.putfield 12, 3) := dk_181 0 12 (dk_at dksX1_init_0 13 rfl rfl)
theorem dX1_init_16 : decode cX1_init 16 = .ok (.aload_n 0, 1) := dk_42 (dk_at dksX1_init_0 16 rfl rfl)
theorem dX1_init_17 : decode cX1_init 17 = .ok (.new 7, 3) := dk_187 0 7 (dk_at dksX1_init_0 17 rfl rfl)
theorem dX1_init_20 : decode cX1_init 20 = .ok (.dup, 1) := dk_89 (dk_at dksX1_init_0 20 rfl rfl)
theorem dX1_init_21 : decode cX1_init 21 = .ok (.iconst 2, 1) := dk_5 (dk_at dksX1_init_0 21 rfl rfl)
theorem dX1_init_22 : decode cX1_init 22 = .ok (.invokespecial 9, 3) := dk_183 0 9 (dk_at dksX1_init_1 0 rfl rfl)
theorem dX1_init_25 : decode cX1_init 25 = .ok (.putfield 18, 3) := dk_181 0 18 (dk_at dksX1_init_1 3 rfl rfl)
theorem dX1_init_28 : decode cX1_init 28 = .ok (.aload_n 0, 1) := dk_42 (dk_at dksX1_init_1 6 rfl rfl)
theorem dX1_init_29 : decode cX1_init 29 = .ok (.new 21, 3) := dk_187 0 21 (dk_at dksX1_init_1 7 rfl rfl)
theorem dX1_init_32 : decode cX1_init 32 = .ok (.dup, 1) := dk_89 (dk_at dksX1_init_1 10 rfl rfl)
theorem dX1_init_33 : decode cX1_init 33 = .ok (.invokespecial 23, 3) := dk_183 0 23 (dk_at dksX1_init_1 11 rfl rfl)
theorem dX1_init_36 : decode cX1_init 36 = .ok (.putfield 24, 3) := dk_181 0 24 (dk_at dksX1_init_1 14 rfl rfl)
theorem dX1_init_39 : decode cX1_init 39 = .ok (.aload_n 0, 1) := dk_42 (dk_at dksX1_init_1 17 rfl rfl)
theorem dX1_init_40 : decode cX1_init 40 = .ok (.iconst 3, 1) := dk_6 (dk_at dksX1_init_1 18 rfl rfl)
theorem dX1_init_41 : decode cX1_init 41 = .ok (.putfield 28, 3) := dk_181 0 28 (dk_at dksX1_init_1 19 rfl rfl)
theorem dX1_init_44 : decode cX1_init 44 = .ok (.return_, 1) := dk_177 (dk_at dksX1_init_1 22 rfl rfl)
theorem q124 : (Jvm.Cond.initialized "TrunkLitters$Book") ∈ lw_all := lw_g (lw_at lw_m1 2 rfl) rfl
theorem q165 : (Jvm.Cond.instantiable "TrunkLitters$Book" (8 : Nat)) ∈ lw_all := lw_g (lw_at lw_m1 43 rfl) rfl
theorem q167 : (Jvm.Cond.instanceMethod ({ cls := "TrunkLitters$Book", name := "<init>", desc := "()V" } : Jvm.MethodName)) ∈ lw_all := lw_g (lw_at lw_m1 45 rfl) rfl
theorem q168 : (Jvm.Cond.code ({ cls := "TrunkLitters$Book", name := "<init>", desc := "()V" } : Jvm.MethodName) prog_9_method_1_code (1 : Nat) (Option.none : Option Jvm.ClassFile.FieldType)) ∈ lw_all := lw_g (lw_at lw_m1 46 rfl) rfl
theorem q169 : (Jvm.Cond.methodLink "TrunkLitters$Book" (1 : Nat) ({ cls := "java/lang/Object", name := "<init>", desc := "()V" } : Jvm.MethodName)) ∈ lw_all := lw_g (lw_at lw_m1 47 rfl) rfl
theorem q170 : (Jvm.Cond.classLink "TrunkLitters$Book" (7 : Nat) "java/util/ArrayList") ∈ lw_all := lw_g (lw_at lw_m1 48 rfl) rfl
theorem q172 : (Jvm.Cond.methodLink "TrunkLitters$Book" (9 : Nat) ({ cls := "java/util/ArrayList", name := "<init>", desc := "(I)V" } : Jvm.MethodName)) ∈ lw_all := lw_g (lw_at lw_m1 50 rfl) rfl
theorem q199 : (Jvm.Cond.classLink "TrunkLitters$Book" (21 : Nat) "TrunkLitters$Ask") ∈ lw_all := lw_g (lw_at lw_m1 77 rfl) rfl
theorem q201 : (Jvm.Cond.methodLinkNest "TrunkLitters$Book" (23 : Nat) ({ cls := "TrunkLitters$Ask", name := "<init>", desc := "()V" } : Jvm.MethodName) "TrunkLitters") ∈ lw_tbl := lw_at lw_m1 79 rfl
theorem q226 : (Jvm.Cond.fieldLink "TrunkLitters$Book" (12 : Nat) "TrunkLitters$Book" "rooms" "Ljava/util/ArrayList;") ∈ lw_all := lw_g (lw_at lw_m1 104 rfl) rfl
theorem q230 : (Jvm.Cond.fieldLink "TrunkLitters$Book" (18 : Nat) "TrunkLitters$Book" "trunks" "Ljava/util/ArrayList;") ∈ lw_all := lw_g (lw_at lw_m1 108 rfl) rfl
theorem q234 : (Jvm.Cond.fieldLink "TrunkLitters$Book" (24 : Nat) "TrunkLitters$Book" "ask" "LTrunkLitters$Ask;") ∈ lw_all := lw_g (lw_at lw_m1 112 rfl) rfl
theorem q238 : (Jvm.Cond.fieldLink "TrunkLitters$Book" (28 : Nat) "TrunkLitters$Book" "pines" "I") ∈ lw_all := lw_g (lw_at lw_m1 116 rfl) rfl
theorem q248 : (Jvm.Cond.laysFinal "TrunkLitters$Book" "TrunkLitters$Book" "rooms" "Ljava/util/ArrayList;") ∈ lw_all := lw_g (lw_at lw_m1 126 rfl) rfl
theorem q249 : (Jvm.Cond.soleField "TrunkLitters$Book" "rooms") ∈ lw_all := lw_g (lw_at lw_m1 127 rfl) rfl
theorem q250 : (Jvm.Cond.laysFinal "TrunkLitters$Book" "TrunkLitters$Book" "trunks" "Ljava/util/ArrayList;") ∈ lw_all := lw_g (lw_at lw_m1 128 rfl) rfl
theorem q251 : (Jvm.Cond.soleField "TrunkLitters$Book" "trunks") ∈ lw_all := lw_g (lw_at lw_m1 129 rfl) rfl
theorem q252 : (Jvm.Cond.laysFinal "TrunkLitters$Book" "TrunkLitters$Book" "ask" "LTrunkLitters$Ask;") ∈ lw_all := lw_g (lw_at lw_m1 130 rfl) rfl
theorem q253 : (Jvm.Cond.soleField "TrunkLitters$Book" "ask") ∈ lw_all := lw_g (lw_at lw_m1 131 rfl) rfl
theorem q254 : (Jvm.Cond.lays "TrunkLitters$Book" "TrunkLitters$Book" "brood" "LTrunkLitters$Node;") ∈ lw_all := lw_g (lw_at lw_m1 132 rfl) rfl
theorem q255 : (Jvm.Cond.soleField "TrunkLitters$Book" "brood") ∈ lw_all := lw_g (lw_at lw_m1 133 rfl) rfl
theorem q256 : (Jvm.Cond.lays "TrunkLitters$Book" "TrunkLitters$Book" "pines" "I") ∈ lw_all := lw_g (lw_at lw_m1 134 rfl) rfl
theorem q257 : (Jvm.Cond.soleField "TrunkLitters$Book" "pines") ∈ lw_all := lw_g (lw_at lw_m1 135 rfl) rfl
theorem q258 : (Jvm.Cond.lays "TrunkLitters$Book" "TrunkLitters$Book" "tales" "I") ∈ lw_all := lw_g (lw_at lw_m1 136 rfl) rfl
theorem q259 : (Jvm.Cond.soleField "TrunkLitters$Book" "tales") ∈ lw_all := lw_g (lw_at lw_m1 137 rfl) rfl
theorem q260 : (Jvm.Cond.lays "TrunkLitters$Book" "TrunkLitters$Book" "seed" "I") ∈ lw_all := lw_g (lw_at lw_m1 138 rfl) rfl
theorem q261 : (Jvm.Cond.soleField "TrunkLitters$Book" "seed") ∈ lw_all := lw_g (lw_at lw_m1 139 rfl) rfl
theorem q262 : (Jvm.Cond.lays "TrunkLitters$Book" "TrunkLitters$Book" "units" "I") ∈ lw_all := lw_g (lw_at lw_m1 140 rfl) rfl
theorem q263 : (Jvm.Cond.soleField "TrunkLitters$Book" "units") ∈ lw_all := lw_g (lw_at lw_m1 141 rfl) rfl
theorem q264 : (Jvm.Cond.superclass "TrunkLitters$Book" "java/lang/Object") ∈ lw_all := lw_g (lw_at lw_m1 142 rfl) rfl
theorem q964 : (Jvm.Cond.selects "TrunkLitters$Book" ({ cls := "java/lang/Object", name := "getClass", desc := "()Ljava/lang/Class;" } : Jvm.MethodName) ({ cls := "java/lang/Object", name := "getClass", desc := "()Ljava/lang/Class;" } : Jvm.MethodName)) ∈ lw_all := lw_g (lw_at lw_m4 122 rfl) rfl
theorem q2262 : (Jvm.Cond.castable "TrunkLitters$Book" "java/lang/Object") ∈ lw_tbl := lw_at lw_m9 220 rfl
theorem in_X1 : ∀ w ∈ wsX10, w ∈ lw_all := lw_in wsX10 [248, 250, 252, 254, 256, 258, 260, 262] (by decide +kernel) (by decide +kernel)

/-! TrunkLitters$Not -/
set_option maxRecDepth 100000
def RX10 : String := "TrunkLitters$Not"
def TX10 : u_T := fun k => match k with
  | _ => ("TrunkLitters$Not", "n", "LTrunkLitters$Node;", true)
def tyX10 : Nat → FieldType := fun k => match k with
  | _ => .object "TrunkLitters$Node"
abbrev wsX100 : List Cond := u_ws RX10 TX10 1
theorem nmX10 : ∀ a, a < 1 → ∀ b, b < 1 → a ≠ b → (TX10 a).2.1 ≠ (TX10 b).2.1 := by decide +kernel
theorem tyX10_ok : ∀ k, k < 1 → parseFieldDescriptor (TX10 k).2.2.1 = some (tyX10 k) := by decide +kernel
abbrev cX10_init : ByteArray := prog_13_method_1_code
def yX10_init : MethodName := ⟨RX10, "<init>", "(LTrunkLitters$Node;)V"⟩
def dkwX10_init_0 : List UInt8 := [42, 183, 0, 1, 42, 43, 181, 0, 7, 177]
abbrev dktX10_init_0 : List UInt8 := dkwX10_init_0 ++ []
theorem dksX10_init_0 : cX10_init.data.toList.drop 0 = dktX10_init_0 := by decide +kernel
theorem dX10_init_0 : decode cX10_init 0 = .ok (.aload_n 0, 1) := dk_42 (dk_at dksX10_init_0 0 rfl rfl)
theorem dX10_init_1 : decode cX10_init 1 = .ok (.invokespecial 1, 3) := dk_183 0 1 (dk_at dksX10_init_0 1 rfl rfl)
theorem dX10_init_4 : decode cX10_init 4 = .ok (.aload_n 0, 1) := dk_42 (dk_at dksX10_init_0 4 rfl rfl)
theorem dX10_init_5 : decode cX10_init 5 = .ok (.aload_n 1, 1) := dk_43 (dk_at dksX10_init_0 5 rfl rfl)
theorem dX10_init_6 : decode cX10_init 6 = .ok (.putfield 7, 3) := dk_181 0 7 (dk_at dksX10_init_0 6 rfl rfl)
theorem dX10_init_9 : decode cX10_init 9 = .ok (.return_, 1) := dk_177 (dk_at dksX10_init_0 9 rfl rfl)
abbrev cX10_of : ByteArray := prog_13_method_2_code
def yX10_of : MethodName := ⟨RX10, "of", "(LTrunkLitters$Ask;)I"⟩
def dkwX10_of_0 : List UInt8 := [42, 180, 0, 7, 43, 185, 0, 13, 2, 0, 154, 0, 7, 4, 167, 0, 4, 3, 172]
abbrev dktX10_of_0 : List UInt8 := dkwX10_of_0 ++ []
theorem dksX10_of_0 : cX10_of.data.toList.drop 0 = dktX10_of_0 := by decide +kernel
theorem dX10_of_0 : decode cX10_of 0 = .ok (.aload_n 0, 1) := dk_42 (dk_at dksX10_of_0 0 rfl rfl)
theorem dX10_of_1 : decode cX10_of 1 = .ok (.getfield 7, 3) := dk_180 0 7 (dk_at dksX10_of_0 1 rfl rfl)
theorem dX10_of_4 : decode cX10_of 4 = .ok (.aload_n 1, 1) := dk_43 (dk_at dksX10_of_0 4 rfl rfl)
theorem dX10_of_5 : decode cX10_of 5 = .ok (.invokeinterface 13 2, 5) := by decide +kernel
theorem dX10_of_10 : decode cX10_of 10 = .ok (.ifCond .ne 7, 3) := dk_154 0 7 (dk_at dksX10_of_0 10 rfl rfl)
theorem dX10_of_13 : decode cX10_of 13 = .ok (.iconst 1, 1) := dk_4 (dk_at dksX10_of_0 13 rfl rfl)
theorem dX10_of_14 : decode cX10_of 14 = .ok (.goto 4, 3) := dk_167 0 4 (dk_at dksX10_of_0 14 rfl rfl)
theorem dX10_of_17 : decode cX10_of 17 = .ok (.iconst 0, 1) := dk_3 (dk_at dksX10_of_0 17 rfl rfl)
theorem dX10_of_18 : decode cX10_of 18 = .ok (.ireturn, 1) := dk_172 (dk_at dksX10_of_0 18 rfl rfl)
theorem q149 : (Jvm.Cond.initialized "TrunkLitters$Not") ∈ lw_all := lw_g (lw_at lw_m1 27 rfl) rfl
theorem q966 : (Jvm.Cond.selects "TrunkLitters$Not" ({ cls := "java/lang/Object", name := "getClass", desc := "()Ljava/lang/Class;" } : Jvm.MethodName) ({ cls := "java/lang/Object", name := "getClass", desc := "()Ljava/lang/Class;" } : Jvm.MethodName)) ∈ lw_all := lw_g (lw_at lw_m4 124 rfl) rfl
theorem q1037 : (Jvm.Cond.instantiable "TrunkLitters$Not" (1 : Nat)) ∈ lw_all := lw_g (lw_at lw_m4 195 rfl) rfl
theorem q1039 : (Jvm.Cond.instanceMethod ({ cls := "TrunkLitters$Not", name := "<init>", desc := "(LTrunkLitters$Node;)V" } : Jvm.MethodName)) ∈ lw_all := lw_g (lw_at lw_m4 197 rfl) rfl
theorem q1040 : (Jvm.Cond.code ({ cls := "TrunkLitters$Not", name := "<init>", desc := "(LTrunkLitters$Node;)V" } : Jvm.MethodName) prog_13_method_1_code (2 : Nat) (Option.none : Option Jvm.ClassFile.FieldType)) ∈ lw_all := lw_g (lw_at lw_m4 198 rfl) rfl
theorem q1041 : (Jvm.Cond.methodLink "TrunkLitters$Not" (1 : Nat) ({ cls := "java/lang/Object", name := "<init>", desc := "()V" } : Jvm.MethodName)) ∈ lw_all := lw_g (lw_at lw_m4 199 rfl) rfl
theorem q1042 : (Jvm.Cond.fieldLink "TrunkLitters$Not" (7 : Nat) "TrunkLitters$Not" "n" "LTrunkLitters$Node;") ∈ lw_all := lw_g (lw_at lw_m4 200 rfl) rfl
theorem q1043 : (Jvm.Cond.laysFinal "TrunkLitters$Not" "TrunkLitters$Not" "n" "LTrunkLitters$Node;") ∈ lw_all := lw_g (lw_at lw_m4 201 rfl) rfl
theorem q1044 : (Jvm.Cond.soleField "TrunkLitters$Not" "n") ∈ lw_all := lw_g (lw_at lw_m4 202 rfl) rfl
theorem q1045 : (Jvm.Cond.superclass "TrunkLitters$Not" "java/lang/Object") ∈ lw_all := lw_g (lw_at lw_m4 203 rfl) rfl
theorem q1210 : (Jvm.Cond.castable "TrunkLitters$Not" "TrunkLitters$Node") ∈ lw_tbl := lw_at lw_m5 128 rfl
theorem q1211 : (Jvm.Cond.selects "TrunkLitters$Not" ({ cls := "TrunkLitters$Node", name := "of", desc := "(LTrunkLitters$Ask;)I" } : Jvm.MethodName) ({ cls := "TrunkLitters$Not", name := "of", desc := "(LTrunkLitters$Ask;)I" } : Jvm.MethodName)) ∈ lw_all := lw_g (lw_at lw_m5 129 rfl) rfl
theorem q1212 : (Jvm.Cond.unhidden "TrunkLitters$Not" "of" "(LTrunkLitters$Ask;)I") ∈ lw_tbl := lw_at lw_m5 130 rfl
theorem q1213 : (Jvm.Cond.instanceMethod ({ cls := "TrunkLitters$Not", name := "of", desc := "(LTrunkLitters$Ask;)I" } : Jvm.MethodName)) ∈ lw_all := lw_g (lw_at lw_m5 131 rfl) rfl
theorem q1214 : (Jvm.Cond.publicMethod ({ cls := "TrunkLitters$Not", name := "of", desc := "(LTrunkLitters$Ask;)I" } : Jvm.MethodName)) ∈ lw_tbl := lw_at lw_m5 132 rfl
theorem q1215 : (Jvm.Cond.code ({ cls := "TrunkLitters$Not", name := "of", desc := "(LTrunkLitters$Ask;)I" } : Jvm.MethodName) prog_13_method_2_code (2 : Nat) (Option.some Jvm.ClassFile.FieldType.int)) ∈ lw_all := lw_g (lw_at lw_m5 133 rfl) rfl
theorem q1216 : (Jvm.Cond.interfaceEntry "TrunkLitters$Not" (13 : Nat)) ∈ lw_tbl := lw_at lw_m5 134 rfl
theorem q1217 : (Jvm.Cond.methodLink "TrunkLitters$Not" (13 : Nat) ({ cls := "TrunkLitters$Node", name := "of", desc := "(LTrunkLitters$Ask;)I" } : Jvm.MethodName)) ∈ lw_all := lw_g (lw_at lw_m5 135 rfl) rfl
theorem q2273 : (Jvm.Cond.castable "TrunkLitters$Not" "java/lang/Object") ∈ lw_tbl := lw_at lw_m9 231 rfl
theorem in_X10 : ∀ w ∈ wsX100, w ∈ lw_all := lw_in wsX100 [1043] (by decide +kernel) (by decide +kernel)

/-! TrunkLitters$Value -/
set_option maxRecDepth 100000
def RX11 : String := "TrunkLitters$Value"
def TX11 : u_T := fun k => match k with
  | _ => ("TrunkLitters$Value", "v", "I", true)
def tyX11 : Nat → FieldType := fun k => match k with
  | _ => .int
abbrev wsX110 : List Cond := u_ws RX11 TX11 1
theorem nmX11 : ∀ a, a < 1 → ∀ b, b < 1 → a ≠ b → (TX11 a).2.1 ≠ (TX11 b).2.1 := by decide +kernel
theorem tyX11_ok : ∀ k, k < 1 → parseFieldDescriptor (TX11 k).2.2.1 = some (tyX11 k) := by decide +kernel
abbrev cX11_init : ByteArray := prog_19_method_1_code
def yX11_init : MethodName := ⟨RX11, "<init>", "(I)V"⟩
def dkwX11_init_0 : List UInt8 := [42, 183, 0, 1, 42, 27, 181, 0, 7, 177]
abbrev dktX11_init_0 : List UInt8 := dkwX11_init_0 ++ []
theorem dksX11_init_0 : cX11_init.data.toList.drop 0 = dktX11_init_0 := by decide +kernel
theorem dX11_init_0 : decode cX11_init 0 = .ok (.aload_n 0, 1) := dk_42 (dk_at dksX11_init_0 0 rfl rfl)
theorem dX11_init_1 : decode cX11_init 1 = .ok (.invokespecial 1, 3) := dk_183 0 1 (dk_at dksX11_init_0 1 rfl rfl)
theorem dX11_init_4 : decode cX11_init 4 = .ok (.aload_n 0, 1) := dk_42 (dk_at dksX11_init_0 4 rfl rfl)
theorem dX11_init_5 : decode cX11_init 5 = .ok (.iload_n 1, 1) := dk_27 (dk_at dksX11_init_0 5 rfl rfl)
theorem dX11_init_6 : decode cX11_init 6 = .ok (.putfield 7, 3) := dk_181 0 7 (dk_at dksX11_init_0 6 rfl rfl)
theorem dX11_init_9 : decode cX11_init 9 = .ok (.return_, 1) := dk_177 (dk_at dksX11_init_0 9 rfl rfl)
abbrev cX11_of : ByteArray := prog_19_method_2_code
def yX11_of : MethodName := ⟨RX11, "of", "(LTrunkLitters$Ask;)I"⟩
theorem dX11_of_0 : decode cX11_of 0 = .ok (.aload_n 0, 1) := by decide +kernel
theorem dX11_of_1 : decode cX11_of 1 = .ok (.getfield 7, 3) := by decide +kernel
theorem dX11_of_4 : decode cX11_of 4 = .ok (.ireturn, 1) := by decide +kernel
theorem q152 : (Jvm.Cond.initialized "TrunkLitters$Value") ∈ lw_all := lw_g (lw_at lw_m1 30 rfl) rfl
theorem q972 : (Jvm.Cond.selects "TrunkLitters$Value" ({ cls := "java/lang/Object", name := "getClass", desc := "()Ljava/lang/Class;" } : Jvm.MethodName) ({ cls := "java/lang/Object", name := "getClass", desc := "()Ljava/lang/Class;" } : Jvm.MethodName)) ∈ lw_all := lw_g (lw_at lw_m4 130 rfl) rfl
theorem q1073 : (Jvm.Cond.instantiable "TrunkLitters$Value" (1 : Nat)) ∈ lw_all := lw_g (lw_at lw_m4 231 rfl) rfl
theorem q1075 : (Jvm.Cond.instanceMethod ({ cls := "TrunkLitters$Value", name := "<init>", desc := "(I)V" } : Jvm.MethodName)) ∈ lw_all := lw_g (lw_at lw_m4 233 rfl) rfl
theorem q1076 : (Jvm.Cond.code ({ cls := "TrunkLitters$Value", name := "<init>", desc := "(I)V" } : Jvm.MethodName) prog_19_method_1_code (2 : Nat) (Option.none : Option Jvm.ClassFile.FieldType)) ∈ lw_all := lw_g (lw_at lw_m4 234 rfl) rfl
theorem q1077 : (Jvm.Cond.methodLink "TrunkLitters$Value" (1 : Nat) ({ cls := "java/lang/Object", name := "<init>", desc := "()V" } : Jvm.MethodName)) ∈ lw_all := lw_g (lw_at lw_m4 235 rfl) rfl
theorem q1078 : (Jvm.Cond.fieldLink "TrunkLitters$Value" (7 : Nat) "TrunkLitters$Value" "v" "I") ∈ lw_all := lw_g (lw_at lw_m4 236 rfl) rfl
theorem q1079 : (Jvm.Cond.laysFinal "TrunkLitters$Value" "TrunkLitters$Value" "v" "I") ∈ lw_all := lw_g (lw_at lw_m4 237 rfl) rfl
theorem q1080 : (Jvm.Cond.soleField "TrunkLitters$Value" "v") ∈ lw_all := lw_g (lw_at lw_m4 238 rfl) rfl
theorem q1081 : (Jvm.Cond.superclass "TrunkLitters$Value" "java/lang/Object") ∈ lw_all := lw_g (lw_at lw_m4 239 rfl) rfl
theorem q1226 : (Jvm.Cond.castable "TrunkLitters$Value" "TrunkLitters$Node") ∈ lw_tbl := lw_at lw_m5 144 rfl
theorem q1227 : (Jvm.Cond.selects "TrunkLitters$Value" ({ cls := "TrunkLitters$Node", name := "of", desc := "(LTrunkLitters$Ask;)I" } : Jvm.MethodName) ({ cls := "TrunkLitters$Value", name := "of", desc := "(LTrunkLitters$Ask;)I" } : Jvm.MethodName)) ∈ lw_all := lw_g (lw_at lw_m5 145 rfl) rfl
theorem q1228 : (Jvm.Cond.unhidden "TrunkLitters$Value" "of" "(LTrunkLitters$Ask;)I") ∈ lw_tbl := lw_at lw_m5 146 rfl
theorem q1229 : (Jvm.Cond.instanceMethod ({ cls := "TrunkLitters$Value", name := "of", desc := "(LTrunkLitters$Ask;)I" } : Jvm.MethodName)) ∈ lw_all := lw_g (lw_at lw_m5 147 rfl) rfl
theorem q1230 : (Jvm.Cond.publicMethod ({ cls := "TrunkLitters$Value", name := "of", desc := "(LTrunkLitters$Ask;)I" } : Jvm.MethodName)) ∈ lw_tbl := lw_at lw_m5 148 rfl
theorem q1231 : (Jvm.Cond.code ({ cls := "TrunkLitters$Value", name := "of", desc := "(LTrunkLitters$Ask;)I" } : Jvm.MethodName) prog_19_method_2_code (2 : Nat) (Option.some Jvm.ClassFile.FieldType.int)) ∈ lw_all := lw_g (lw_at lw_m5 149 rfl) rfl
theorem q2279 : (Jvm.Cond.castable "TrunkLitters$Value" "java/lang/Object") ∈ lw_tbl := lw_at lw_m9 237 rfl
theorem in_X11 : ∀ w ∈ wsX110, w ∈ lw_all := lw_in wsX110 [1079] (by decide +kernel) (by decide +kernel)

/-! TrunkLitters$Pair -/
set_option maxRecDepth 100000
def RX12 : String := "TrunkLitters$Pair"
def TX12 : u_T := fun k => match k with
  | 0 => ("TrunkLitters$Pair", "left", "LTrunkLitters$Node;", true)
  | 1 => ("TrunkLitters$Pair", "right", "LTrunkLitters$Node;", true)
  | _ => ("TrunkLitters$Pair", "sign", "C", true)
def tyX12 : Nat → FieldType := fun k => match k with
  | 0 => .object "TrunkLitters$Node"
  | 1 => .object "TrunkLitters$Node"
  | _ => .char
abbrev wsX120 : List Cond := u_ws RX12 TX12 3
theorem nmX12 : ∀ a, a < 3 → ∀ b, b < 3 → a ≠ b → (TX12 a).2.1 ≠ (TX12 b).2.1 := by decide +kernel
theorem tyX12_ok : ∀ k, k < 3 → parseFieldDescriptor (TX12 k).2.2.1 = some (tyX12 k) := by decide +kernel
abbrev cX12_init : ByteArray := prog_14_method_1_code
def yX12_init : MethodName := ⟨RX12, "<init>", "(LTrunkLitters$Node;LTrunkLitters$Node;C)V"⟩
def dkwX12_init_0 : List UInt8 := [42, 183, 0, 1, 42, 43, 181, 0, 7, 42, 44, 181, 0, 13, 42, 29, 181, 0, 16, 177]
abbrev dktX12_init_0 : List UInt8 := dkwX12_init_0 ++ []
theorem dksX12_init_0 : cX12_init.data.toList.drop 0 = dktX12_init_0 := by decide +kernel
theorem dX12_init_0 : decode cX12_init 0 = .ok (.aload_n 0, 1) := dk_42 (dk_at dksX12_init_0 0 rfl rfl)
theorem dX12_init_1 : decode cX12_init 1 = .ok (.invokespecial 1, 3) := dk_183 0 1 (dk_at dksX12_init_0 1 rfl rfl)
theorem dX12_init_4 : decode cX12_init 4 = .ok (.aload_n 0, 1) := dk_42 (dk_at dksX12_init_0 4 rfl rfl)
theorem dX12_init_5 : decode cX12_init 5 = .ok (.aload_n 1, 1) := dk_43 (dk_at dksX12_init_0 5 rfl rfl)
theorem dX12_init_6 : decode cX12_init 6 = .ok (.putfield 7, 3) := dk_181 0 7 (dk_at dksX12_init_0 6 rfl rfl)
theorem dX12_init_9 : decode cX12_init 9 = .ok (.aload_n 0, 1) := dk_42 (dk_at dksX12_init_0 9 rfl rfl)
theorem dX12_init_10 : decode cX12_init 10 = .ok (.aload_n 2, 1) := dk_44 (dk_at dksX12_init_0 10 rfl rfl)
theorem dX12_init_11 : decode cX12_init 11 = .ok (.putfield 13, 3) := dk_181 0 13 (dk_at dksX12_init_0 11 rfl rfl)
theorem dX12_init_14 : decode cX12_init 14 = .ok (.aload_n 0, 1) := dk_42 (dk_at dksX12_init_0 14 rfl rfl)
theorem dX12_init_15 : decode cX12_init 15 = .ok (.iload_n 3, 1) := dk_29 (dk_at dksX12_init_0 15 rfl rfl)
theorem dX12_init_16 : decode cX12_init 16 = .ok (.putfield 16, 3) := dk_181 0 16 (dk_at dksX12_init_0 16 rfl rfl)
theorem dX12_init_19 : decode cX12_init 19 = .ok (.return_, 1) := dk_177 (dk_at dksX12_init_0 19 rfl rfl)
abbrev cX12_of : ByteArray := prog_14_method_2_code
def yX12_of : MethodName := ⟨RX12, "of", "(LTrunkLitters$Ask;)I"⟩
def dkwX12_of_7 : List UInt8 := [167, 0, 4, 3, 172]
abbrev dktX12_of_7 : List UInt8 := dkwX12_of_7 ++ []
def dkwX12_of_6 : List UInt8 := [153, 0, 11, 29, 153, 0, 7, 4, 167, 0, 4, 3, 172, 28, 154, 0, 7, 29, 153, 0, 7, 4]
abbrev dktX12_of_6 : List UInt8 := dkwX12_of_6 ++ dktX12_of_7
def dkwX12_of_5 : List UInt8 := [29, 164, 0, 7, 4, 167, 0, 4, 3, 172, 28, 29, 160, 0, 7, 4, 167, 0, 4, 3, 172, 28]
abbrev dktX12_of_5 : List UInt8 := dkwX12_of_5 ++ dktX12_of_6
def dkwX12_of_4 : List UInt8 := [29, 154, 0, 7, 3, 167, 0, 6, 28, 29, 112, 172, 28, 29, 162, 0, 7, 4, 167, 0, 4, 3, 172, 28]
abbrev dktX12_of_4 : List UInt8 := dkwX12_of_4 ++ dktX12_of_5
def dkwX12_of_3 : List UInt8 := [28, 29, 96, 172, 28, 29, 100, 172, 28, 29, 104, 172, 29, 154, 0, 7, 3, 167, 0, 6, 28, 29, 108, 172]
abbrev dktX12_of_3 : List UInt8 := dkwX12_of_3 ++ dktX12_of_4
def dkwX12_of_2 : List UInt8 := [170, 0, 0, 0, 0, 201, 0, 0, 0, 37, 0, 0, 0, 62, 0, 0, 0, 142, 0, 0, 0, 187, 0, 0, 0, 201, 0, 0, 0, 201, 0, 0, 0, 201, 0, 0, 0, 126, 0, 0, 0, 118, 0, 0, 0, 201, 0, 0, 0, 122, 0, 0, 0, 201, 0, 0, 0, 130, 0, 0, 0, 201, 0, 0, 0, 201, 0, 0, 0, 201, 0, 0, 0, 201, 0, 0, 0, 201, 0, 0, 0, 201, 0, 0, 0, 201, 0, 0, 0, 201, 0, 0, 0, 201, 0, 0, 0, 201, 0, 0, 0, 201, 0, 0, 0, 201, 0, 0, 0, 154, 0, 0, 0, 176, 0, 0, 0, 165]
abbrev dktX12_of_2 : List UInt8 := dkwX12_of_2 ++ dktX12_of_3
def dkwX12_of_1 : List UInt8 := [180, 0, 16]
abbrev dktX12_of_1 : List UInt8 := dkwX12_of_1 ++ dktX12_of_2
def dkwX12_of_0 : List UInt8 := [42, 180, 0, 7, 43, 185, 0, 20, 2, 0, 61, 42, 180, 0, 13, 43, 185, 0, 20, 2, 0, 62, 42]
abbrev dktX12_of_0 : List UInt8 := dkwX12_of_0 ++ dktX12_of_1
theorem dksX12_of_0 : cX12_of.data.toList.drop 0 = dktX12_of_0 := by decide +kernel
theorem dksX12_of_1 : cX12_of.data.toList.drop 23 = dktX12_of_1 := dk_seg dksX12_of_0 23 rfl rfl
theorem dksX12_of_2 : cX12_of.data.toList.drop 26 = dktX12_of_2 := dk_seg dksX12_of_1 3 rfl rfl
theorem dksX12_of_3 : cX12_of.data.toList.drop 144 = dktX12_of_3 := dk_seg dksX12_of_2 118 rfl rfl
theorem dksX12_of_4 : cX12_of.data.toList.drop 168 = dktX12_of_4 := dk_seg dksX12_of_3 24 rfl rfl
theorem dksX12_of_5 : cX12_of.data.toList.drop 192 = dktX12_of_5 := dk_seg dksX12_of_4 24 rfl rfl
theorem dksX12_of_6 : cX12_of.data.toList.drop 214 = dktX12_of_6 := dk_seg dksX12_of_5 22 rfl rfl
theorem dksX12_of_7 : cX12_of.data.toList.drop 236 = dktX12_of_7 := dk_seg dksX12_of_6 22 rfl rfl
theorem dX12_of_0 : decode cX12_of 0 = .ok (.aload_n 0, 1) := dk_42 (dk_at dksX12_of_0 0 rfl rfl)
theorem dX12_of_1 : decode cX12_of 1 = .ok (.getfield 7, 3) := dk_180 0 7 (dk_at dksX12_of_0 1 rfl rfl)
theorem dX12_of_4 : decode cX12_of 4 = .ok (.aload_n 1, 1) := dk_43 (dk_at dksX12_of_0 4 rfl rfl)
theorem dX12_of_5 : decode cX12_of 5 = .ok (.invokeinterface 20 2, 5) := by decide +kernel
theorem dX12_of_10 : decode cX12_of 10 = .ok (.istore_n 2, 1) := dk_61 (dk_at dksX12_of_0 10 rfl rfl)
theorem dX12_of_11 : decode cX12_of 11 = .ok (.aload_n 0, 1) := dk_42 (dk_at dksX12_of_0 11 rfl rfl)
theorem dX12_of_12 : decode cX12_of 12 = .ok (.getfield 13, 3) := dk_180 0 13 (dk_at dksX12_of_0 12 rfl rfl)
theorem dX12_of_15 : decode cX12_of 15 = .ok (.aload_n 1, 1) := dk_43 (dk_at dksX12_of_0 15 rfl rfl)
theorem dX12_of_16 : decode cX12_of 16 = .ok (.invokeinterface 20 2, 5) := by decide +kernel
theorem dX12_of_21 : decode cX12_of 21 = .ok (.istore_n 3, 1) := dk_62 (dk_at dksX12_of_0 21 rfl rfl)
theorem dX12_of_22 : decode cX12_of 22 = .ok (.aload_n 0, 1) := dk_42 (dk_at dksX12_of_0 22 rfl rfl)
theorem dX12_of_23 : decode cX12_of 23 = .ok (.getfield 16, 3) := dk_180 0 16 (dk_at dksX12_of_1 0 rfl rfl)
theorem dX12_of_26 : decode cX12_of 26 = .ok (.tableswitch 201 37 62 #[142, 187, 201, 201, 201, 126, 118, 201, 122, 201, 130, 201, 201, 201, 201, 201, 201, 201, 201, 201, 201, 201, 201, 154, 176, 165], 118) := by decide +kernel
theorem dX12_of_144 : decode cX12_of 144 = .ok (.iload_n 2, 1) := dk_28 (dk_at dksX12_of_3 0 rfl rfl)
theorem dX12_of_145 : decode cX12_of 145 = .ok (.iload_n 3, 1) := dk_29 (dk_at dksX12_of_3 1 rfl rfl)
theorem dX12_of_146 : decode cX12_of 146 = .ok (.iadd, 1) := dk_96 (dk_at dksX12_of_3 2 rfl rfl)
theorem dX12_of_147 : decode cX12_of 147 = .ok (.ireturn, 1) := dk_172 (dk_at dksX12_of_3 3 rfl rfl)
theorem dX12_of_148 : decode cX12_of 148 = .ok (.iload_n 2, 1) := dk_28 (dk_at dksX12_of_3 4 rfl rfl)
theorem dX12_of_149 : decode cX12_of 149 = .ok (.iload_n 3, 1) := dk_29 (dk_at dksX12_of_3 5 rfl rfl)
theorem dX12_of_150 : decode cX12_of 150 = .ok (.isub, 1) := dk_100 (dk_at dksX12_of_3 6 rfl rfl)
theorem dX12_of_151 : decode cX12_of 151 = .ok (.ireturn, 1) := dk_172 (dk_at dksX12_of_3 7 rfl rfl)
theorem dX12_of_152 : decode cX12_of 152 = .ok (.iload_n 2, 1) := dk_28 (dk_at dksX12_of_3 8 rfl rfl)
theorem dX12_of_153 : decode cX12_of 153 = .ok (.iload_n 3, 1) := dk_29 (dk_at dksX12_of_3 9 rfl rfl)
theorem dX12_of_154 : decode cX12_of 154 = .ok (.imul, 1) := dk_104 (dk_at dksX12_of_3 10 rfl rfl)
theorem dX12_of_155 : decode cX12_of 155 = .ok (.ireturn, 1) := dk_172 (dk_at dksX12_of_3 11 rfl rfl)
theorem dX12_of_156 : decode cX12_of 156 = .ok (.iload_n 3, 1) := dk_29 (dk_at dksX12_of_3 12 rfl rfl)
theorem dX12_of_157 : decode cX12_of 157 = .ok (.ifCond .ne 7, 3) := dk_154 0 7 (dk_at dksX12_of_3 13 rfl rfl)
theorem dX12_of_160 : decode cX12_of 160 = .ok (.iconst 0, 1) := dk_3 (dk_at dksX12_of_3 16 rfl rfl)
theorem dX12_of_161 : decode cX12_of 161 = .ok (.goto 6, 3) := dk_167 0 6 (dk_at dksX12_of_3 17 rfl rfl)
theorem dX12_of_164 : decode cX12_of 164 = .ok (.iload_n 2, 1) := dk_28 (dk_at dksX12_of_3 20 rfl rfl)
theorem dX12_of_165 : decode cX12_of 165 = .ok (.iload_n 3, 1) := dk_29 (dk_at dksX12_of_3 21 rfl rfl)
theorem dX12_of_166 : decode cX12_of 166 = .ok (.idiv, 1) := dk_108 (dk_at dksX12_of_3 22 rfl rfl)
theorem dX12_of_167 : decode cX12_of 167 = .ok (.ireturn, 1) := dk_172 (dk_at dksX12_of_3 23 rfl rfl)
theorem dX12_of_168 : decode cX12_of 168 = .ok (.iload_n 3, 1) := dk_29 (dk_at dksX12_of_4 0 rfl rfl)
theorem dX12_of_169 : decode cX12_of 169 = .ok (.ifCond .ne 7, 3) := dk_154 0 7 (dk_at dksX12_of_4 1 rfl rfl)
theorem dX12_of_172 : decode cX12_of 172 = .ok (.iconst 0, 1) := dk_3 (dk_at dksX12_of_4 4 rfl rfl)
theorem dX12_of_173 : decode cX12_of 173 = .ok (.goto 6, 3) := dk_167 0 6 (dk_at dksX12_of_4 5 rfl rfl)
theorem dX12_of_176 : decode cX12_of 176 = .ok (.iload_n 2, 1) := dk_28 (dk_at dksX12_of_4 8 rfl rfl)
theorem dX12_of_177 : decode cX12_of 177 = .ok (.iload_n 3, 1) := dk_29 (dk_at dksX12_of_4 9 rfl rfl)
theorem dX12_of_178 : decode cX12_of 178 = .ok (.irem, 1) := dk_112 (dk_at dksX12_of_4 10 rfl rfl)
theorem dX12_of_179 : decode cX12_of 179 = .ok (.ireturn, 1) := dk_172 (dk_at dksX12_of_4 11 rfl rfl)
theorem dX12_of_180 : decode cX12_of 180 = .ok (.iload_n 2, 1) := dk_28 (dk_at dksX12_of_4 12 rfl rfl)
theorem dX12_of_181 : decode cX12_of 181 = .ok (.iload_n 3, 1) := dk_29 (dk_at dksX12_of_4 13 rfl rfl)
theorem dX12_of_182 : decode cX12_of 182 = .ok (.if_icmp .ge 7, 3) := dk_162 0 7 (dk_at dksX12_of_4 14 rfl rfl)
theorem dX12_of_185 : decode cX12_of 185 = .ok (.iconst 1, 1) := dk_4 (dk_at dksX12_of_4 17 rfl rfl)
theorem dX12_of_186 : decode cX12_of 186 = .ok (.goto 4, 3) := dk_167 0 4 (dk_at dksX12_of_4 18 rfl rfl)
theorem dX12_of_189 : decode cX12_of 189 = .ok (.iconst 0, 1) := dk_3 (dk_at dksX12_of_4 21 rfl rfl)
theorem dX12_of_190 : decode cX12_of 190 = .ok (.ireturn, 1) := dk_172 (dk_at dksX12_of_4 22 rfl rfl)
theorem dX12_of_191 : decode cX12_of 191 = .ok (.iload_n 2, 1) := dk_28 (dk_at dksX12_of_4 23 rfl rfl)
theorem dX12_of_192 : decode cX12_of 192 = .ok (.iload_n 3, 1) := dk_29 (dk_at dksX12_of_5 0 rfl rfl)
theorem dX12_of_193 : decode cX12_of 193 = .ok (.if_icmp .le 7, 3) := dk_164 0 7 (dk_at dksX12_of_5 1 rfl rfl)
theorem dX12_of_196 : decode cX12_of 196 = .ok (.iconst 1, 1) := dk_4 (dk_at dksX12_of_5 4 rfl rfl)
theorem dX12_of_197 : decode cX12_of 197 = .ok (.goto 4, 3) := dk_167 0 4 (dk_at dksX12_of_5 5 rfl rfl)
theorem dX12_of_200 : decode cX12_of 200 = .ok (.iconst 0, 1) := dk_3 (dk_at dksX12_of_5 8 rfl rfl)
theorem dX12_of_201 : decode cX12_of 201 = .ok (.ireturn, 1) := dk_172 (dk_at dksX12_of_5 9 rfl rfl)
theorem dX12_of_202 : decode cX12_of 202 = .ok (.iload_n 2, 1) := dk_28 (dk_at dksX12_of_5 10 rfl rfl)
theorem dX12_of_203 : decode cX12_of 203 = .ok (.iload_n 3, 1) := dk_29 (dk_at dksX12_of_5 11 rfl rfl)
theorem dX12_of_204 : decode cX12_of 204 = .ok (.if_icmp .ne 7, 3) := dk_160 0 7 (dk_at dksX12_of_5 12 rfl rfl)
theorem dX12_of_207 : decode cX12_of 207 = .ok (.iconst 1, 1) := dk_4 (dk_at dksX12_of_5 15 rfl rfl)
theorem dX12_of_208 : decode cX12_of 208 = .ok (.goto 4, 3) := dk_167 0 4 (dk_at dksX12_of_5 16 rfl rfl)
theorem dX12_of_211 : decode cX12_of 211 = .ok (.iconst 0, 1) := dk_3 (dk_at dksX12_of_5 19 rfl rfl)
theorem dX12_of_212 : decode cX12_of 212 = .ok (.ireturn, 1) := dk_172 (dk_at dksX12_of_5 20 rfl rfl)
theorem dX12_of_213 : decode cX12_of 213 = .ok (.iload_n 2, 1) := dk_28 (dk_at dksX12_of_5 21 rfl rfl)
theorem dX12_of_214 : decode cX12_of 214 = .ok (.ifCond .eq 11, 3) := dk_153 0 11 (dk_at dksX12_of_6 0 rfl rfl)
theorem dX12_of_217 : decode cX12_of 217 = .ok (.iload_n 3, 1) := dk_29 (dk_at dksX12_of_6 3 rfl rfl)
theorem dX12_of_218 : decode cX12_of 218 = .ok (.ifCond .eq 7, 3) := dk_153 0 7 (dk_at dksX12_of_6 4 rfl rfl)
theorem dX12_of_221 : decode cX12_of 221 = .ok (.iconst 1, 1) := dk_4 (dk_at dksX12_of_6 7 rfl rfl)
theorem dX12_of_222 : decode cX12_of 222 = .ok (.goto 4, 3) := dk_167 0 4 (dk_at dksX12_of_6 8 rfl rfl)
theorem dX12_of_225 : decode cX12_of 225 = .ok (.iconst 0, 1) := dk_3 (dk_at dksX12_of_6 11 rfl rfl)
theorem dX12_of_226 : decode cX12_of 226 = .ok (.ireturn, 1) := dk_172 (dk_at dksX12_of_6 12 rfl rfl)
theorem dX12_of_227 : decode cX12_of 227 = .ok (.iload_n 2, 1) := dk_28 (dk_at dksX12_of_6 13 rfl rfl)
theorem dX12_of_228 : decode cX12_of 228 = .ok (.ifCond .ne 7, 3) := dk_154 0 7 (dk_at dksX12_of_6 14 rfl rfl)
theorem dX12_of_231 : decode cX12_of 231 = .ok (.iload_n 3, 1) := dk_29 (dk_at dksX12_of_6 17 rfl rfl)
theorem dX12_of_232 : decode cX12_of 232 = .ok (.ifCond .eq 7, 3) := dk_153 0 7 (dk_at dksX12_of_6 18 rfl rfl)
theorem dX12_of_235 : decode cX12_of 235 = .ok (.iconst 1, 1) := dk_4 (dk_at dksX12_of_6 21 rfl rfl)
theorem dX12_of_236 : decode cX12_of 236 = .ok (.goto 4, 3) := dk_167 0 4 (dk_at dksX12_of_7 0 rfl rfl)
theorem dX12_of_239 : decode cX12_of 239 = .ok (.iconst 0, 1) := dk_3 (dk_at dksX12_of_7 3 rfl rfl)
theorem dX12_of_240 : decode cX12_of 240 = .ok (.ireturn, 1) := dk_172 (dk_at dksX12_of_7 4 rfl rfl)
theorem q153 : (Jvm.Cond.initialized "TrunkLitters$Pair") ∈ lw_all := lw_g (lw_at lw_m1 31 rfl) rfl
theorem q967 : (Jvm.Cond.selects "TrunkLitters$Pair" ({ cls := "java/lang/Object", name := "getClass", desc := "()Ljava/lang/Class;" } : Jvm.MethodName) ({ cls := "java/lang/Object", name := "getClass", desc := "()Ljava/lang/Class;" } : Jvm.MethodName)) ∈ lw_all := lw_g (lw_at lw_m4 125 rfl) rfl
theorem q1083 : (Jvm.Cond.instantiable "TrunkLitters$Pair" (3 : Nat)) ∈ lw_all := lw_g (lw_at lw_m5 1 rfl) rfl
theorem q1085 : (Jvm.Cond.instanceMethod ({ cls := "TrunkLitters$Pair", name := "<init>", desc := "(LTrunkLitters$Node;LTrunkLitters$Node;C)V" } : Jvm.MethodName)) ∈ lw_all := lw_g (lw_at lw_m5 3 rfl) rfl
theorem q1086 : (Jvm.Cond.code ({ cls := "TrunkLitters$Pair", name := "<init>", desc := "(LTrunkLitters$Node;LTrunkLitters$Node;C)V" } : Jvm.MethodName) prog_14_method_1_code (4 : Nat) (Option.none : Option Jvm.ClassFile.FieldType)) ∈ lw_all := lw_g (lw_at lw_m5 4 rfl) rfl
theorem q1087 : (Jvm.Cond.methodLink "TrunkLitters$Pair" (1 : Nat) ({ cls := "java/lang/Object", name := "<init>", desc := "()V" } : Jvm.MethodName)) ∈ lw_all := lw_g (lw_at lw_m5 5 rfl) rfl
theorem q1088 : (Jvm.Cond.fieldLink "TrunkLitters$Pair" (7 : Nat) "TrunkLitters$Pair" "left" "LTrunkLitters$Node;") ∈ lw_all := lw_g (lw_at lw_m5 6 rfl) rfl
theorem q1089 : (Jvm.Cond.fieldLink "TrunkLitters$Pair" (13 : Nat) "TrunkLitters$Pair" "right" "LTrunkLitters$Node;") ∈ lw_all := lw_g (lw_at lw_m5 7 rfl) rfl
theorem q1090 : (Jvm.Cond.fieldLink "TrunkLitters$Pair" (16 : Nat) "TrunkLitters$Pair" "sign" "C") ∈ lw_all := lw_g (lw_at lw_m5 8 rfl) rfl
theorem q1091 : (Jvm.Cond.laysFinal "TrunkLitters$Pair" "TrunkLitters$Pair" "left" "LTrunkLitters$Node;") ∈ lw_all := lw_g (lw_at lw_m5 9 rfl) rfl
theorem q1092 : (Jvm.Cond.soleField "TrunkLitters$Pair" "left") ∈ lw_all := lw_g (lw_at lw_m5 10 rfl) rfl
theorem q1093 : (Jvm.Cond.laysFinal "TrunkLitters$Pair" "TrunkLitters$Pair" "right" "LTrunkLitters$Node;") ∈ lw_all := lw_g (lw_at lw_m5 11 rfl) rfl
theorem q1094 : (Jvm.Cond.soleField "TrunkLitters$Pair" "right") ∈ lw_all := lw_g (lw_at lw_m5 12 rfl) rfl
theorem q1095 : (Jvm.Cond.laysFinal "TrunkLitters$Pair" "TrunkLitters$Pair" "sign" "C") ∈ lw_all := lw_g (lw_at lw_m5 13 rfl) rfl
theorem q1096 : (Jvm.Cond.soleField "TrunkLitters$Pair" "sign") ∈ lw_all := lw_g (lw_at lw_m5 14 rfl) rfl
theorem q1097 : (Jvm.Cond.superclass "TrunkLitters$Pair" "java/lang/Object") ∈ lw_all := lw_g (lw_at lw_m5 15 rfl) rfl
theorem q1218 : (Jvm.Cond.castable "TrunkLitters$Pair" "TrunkLitters$Node") ∈ lw_tbl := lw_at lw_m5 136 rfl
theorem q1219 : (Jvm.Cond.selects "TrunkLitters$Pair" ({ cls := "TrunkLitters$Node", name := "of", desc := "(LTrunkLitters$Ask;)I" } : Jvm.MethodName) ({ cls := "TrunkLitters$Pair", name := "of", desc := "(LTrunkLitters$Ask;)I" } : Jvm.MethodName)) ∈ lw_all := lw_g (lw_at lw_m5 137 rfl) rfl
theorem q1220 : (Jvm.Cond.unhidden "TrunkLitters$Pair" "of" "(LTrunkLitters$Ask;)I") ∈ lw_tbl := lw_at lw_m5 138 rfl
theorem q1221 : (Jvm.Cond.instanceMethod ({ cls := "TrunkLitters$Pair", name := "of", desc := "(LTrunkLitters$Ask;)I" } : Jvm.MethodName)) ∈ lw_all := lw_g (lw_at lw_m5 139 rfl) rfl
theorem q1222 : (Jvm.Cond.publicMethod ({ cls := "TrunkLitters$Pair", name := "of", desc := "(LTrunkLitters$Ask;)I" } : Jvm.MethodName)) ∈ lw_tbl := lw_at lw_m5 140 rfl
theorem q1223 : (Jvm.Cond.code ({ cls := "TrunkLitters$Pair", name := "of", desc := "(LTrunkLitters$Ask;)I" } : Jvm.MethodName) prog_14_method_2_code (4 : Nat) (Option.some Jvm.ClassFile.FieldType.int)) ∈ lw_all := lw_g (lw_at lw_m5 141 rfl) rfl
theorem q1224 : (Jvm.Cond.interfaceEntry "TrunkLitters$Pair" (20 : Nat)) ∈ lw_tbl := lw_at lw_m5 142 rfl
theorem q1225 : (Jvm.Cond.methodLink "TrunkLitters$Pair" (20 : Nat) ({ cls := "TrunkLitters$Node", name := "of", desc := "(LTrunkLitters$Ask;)I" } : Jvm.MethodName)) ∈ lw_all := lw_g (lw_at lw_m5 143 rfl) rfl
theorem q2280 : (Jvm.Cond.castable "TrunkLitters$Pair" "java/lang/Object") ∈ lw_tbl := lw_at lw_m9 238 rfl
theorem in_X12 : ∀ w ∈ wsX120, w ∈ lw_all := lw_in wsX120 [1091, 1093, 1095] (by decide +kernel) (by decide +kernel)

/-! TrunkLitters$Tale -/
set_option maxRecDepth 100000
def RX13 : String := "TrunkLitters$Tale"
def TX13 : u_T := fun k => match k with
  | 0 => ("TrunkLitters$Tale", "trunk", "I", true)
  | 1 => ("TrunkLitters$Tale", "many", "I", true)
  | 2 => ("TrunkLitters$Tale", "told", "I", true)
  | 3 => ("TrunkLitters$Tale", "is", "Z", true)
  | 4 => ("TrunkLitters$Tale", "untold", "I", false)
  | _ => ("TrunkLitters$Tale", "this$0", "LTrunkLitters;", true)
def tyX13 : Nat → FieldType := fun k => match k with
  | 0 => .int
  | 1 => .int
  | 2 => .int
  | 3 => .boolean
  | 4 => .int
  | _ => .object "TrunkLitters"
abbrev wsX130 : List Cond := u_ws RX13 TX13 6
theorem nmX13 : ∀ a, a < 6 → ∀ b, b < 6 → a ≠ b → (TX13 a).2.1 ≠ (TX13 b).2.1 := by decide +kernel
theorem tyX13_ok : ∀ k, k < 6 → parseFieldDescriptor (TX13 k).2.2.1 = some (tyX13 k) := by decide +kernel
abbrev cX13_init : ByteArray := prog_17_method_1_code
def yX13_init : MethodName := ⟨RX13, "<init>", "(LTrunkLitters;IIZ)V"⟩
def dkwX13_init_1 : List UInt8 := [42, 21, 4, 181, 0, 25, 42, 43, 180, 0, 29, 181, 0, 32, 177]
abbrev dktX13_init_1 : List UInt8 := dkwX13_init_1 ++ []
def dkwX13_init_0 : List UInt8 := [42, 43, 181, 0, 3, 42, 183, 0, 9, 42, 2, 181, 0, 15, 42, 28, 181, 0, 19, 42, 29, 181, 0, 22]
abbrev dktX13_init_0 : List UInt8 := dkwX13_init_0 ++ dktX13_init_1
theorem dksX13_init_0 : cX13_init.data.toList.drop 0 = dktX13_init_0 := by decide +kernel
theorem dksX13_init_1 : cX13_init.data.toList.drop 24 = dktX13_init_1 := dk_seg dksX13_init_0 24 rfl rfl
theorem dX13_init_0 : decode cX13_init 0 = .ok (.aload_n 0, 1) := dk_42 (dk_at dksX13_init_0 0 rfl rfl)
theorem dX13_init_1 : decode cX13_init 1 = .ok (.aload_n 1, 1) := dk_43 (dk_at dksX13_init_0 1 rfl rfl)
theorem dX13_init_2 : decode cX13_init 2 = .ok (.putfield 3, 3) := dk_181 0 3 (dk_at dksX13_init_0 2 rfl rfl)
theorem dX13_init_5 : decode cX13_init 5 = .ok (.aload_n 0, 1) := dk_42 (dk_at dksX13_init_0 5 rfl rfl)
theorem dX13_init_6 : decode cX13_init 6 = .ok (.invokespecial 9, 3) := dk_183 0 9 (dk_at dksX13_init_0 6 rfl rfl)
theorem dX13_init_9 : decode cX13_init 9 = .ok (.aload_n 0, 1) := dk_42 (dk_at dksX13_init_0 9 rfl rfl)
theorem dX13_init_10 : decode cX13_init 10 = .ok (.iconst (-1), 1) := dk_2 (dk_at dksX13_init_0 10 rfl rfl)
theorem dX13_init_11 : decode cX13_init 11 = .ok (.putfield 15, 3) := dk_181 0 15 (dk_at dksX13_init_0 11 rfl rfl)
theorem dX13_init_14 : decode cX13_init 14 = .ok (.aload_n 0, 1) := dk_42 (dk_at dksX13_init_0 14 rfl rfl)
theorem dX13_init_15 : decode cX13_init 15 = .ok (.iload_n 2, 1) := dk_28 (dk_at dksX13_init_0 15 rfl rfl)
theorem dX13_init_16 : decode cX13_init 16 = .ok (.putfield 19, 3) := dk_181 0 19 (dk_at dksX13_init_0 16 rfl rfl)
theorem dX13_init_19 : decode cX13_init 19 = .ok (.aload_n 0, 1) := dk_42 (dk_at dksX13_init_0 19 rfl rfl)
theorem dX13_init_20 : decode cX13_init 20 = .ok (.iload_n 3, 1) := dk_29 (dk_at dksX13_init_0 20 rfl rfl)
theorem dX13_init_21 : decode cX13_init 21 = .ok (.putfield 22, 3) := dk_181 0 22 (dk_at dksX13_init_0 21 rfl rfl)
theorem dX13_init_24 : decode cX13_init 24 = .ok (.aload_n 0, 1) := dk_42 (dk_at dksX13_init_1 0 rfl rfl)
theorem dX13_init_25 : decode cX13_init 25 = .ok (.iload 4, 2) := dk_21 4 (dk_at dksX13_init_1 1 rfl rfl)
theorem dX13_init_27 : decode cX13_init 27 = .ok (.putfield 25, 3) := dk_181 0 25 (dk_at dksX13_init_1 3 rfl rfl)
theorem dX13_init_30 : decode cX13_init 30 = .ok (.aload_n 0, 1) := dk_42 (dk_at dksX13_init_1 6 rfl rfl)
theorem dX13_init_31 : decode cX13_init 31 = .ok (.aload_n 1, 1) := dk_43 (dk_at dksX13_init_1 7 rfl rfl)
theorem dX13_init_32 : decode cX13_init 32 = .ok (.getfield 29, 3) := dk_180 0 29 (dk_at dksX13_init_1 8 rfl rfl)
theorem dX13_init_35 : decode cX13_init 35 = .ok (.putfield 32, 3) := dk_181 0 32 (dk_at dksX13_init_1 11 rfl rfl)
theorem dX13_init_38 : decode cX13_init 38 = .ok (.return_, 1) := dk_177 (dk_at dksX13_init_1 14 rfl rfl)
abbrev cX13_ends : ByteArray := prog_17_method_2_code
def yX13_ends : MethodName := ⟨RX13, "ends", "()Z"⟩
def dkwX13_ends_0 : List UInt8 := [42, 180, 0, 15, 155, 0, 5, 3, 172, 42, 42, 180, 0, 3, 180, 0, 29, 181, 0, 15, 4, 172]
abbrev dktX13_ends_0 : List UInt8 := dkwX13_ends_0 ++ []
theorem dksX13_ends_0 : cX13_ends.data.toList.drop 0 = dktX13_ends_0 := by decide +kernel
theorem dX13_ends_0 : decode cX13_ends 0 = .ok (.aload_n 0, 1) := dk_42 (dk_at dksX13_ends_0 0 rfl rfl)
theorem dX13_ends_1 : decode cX13_ends 1 = .ok (.getfield 15, 3) := dk_180 0 15 (dk_at dksX13_ends_0 1 rfl rfl)
theorem dX13_ends_4 : decode cX13_ends 4 = .ok (.ifCond .lt 5, 3) := dk_155 0 5 (dk_at dksX13_ends_0 4 rfl rfl)
theorem dX13_ends_7 : decode cX13_ends 7 = .ok (.iconst 0, 1) := dk_3 (dk_at dksX13_ends_0 7 rfl rfl)
theorem dX13_ends_8 : decode cX13_ends 8 = .ok (.ireturn, 1) := dk_172 (dk_at dksX13_ends_0 8 rfl rfl)
theorem dX13_ends_9 : decode cX13_ends 9 = .ok (.aload_n 0, 1) := dk_42 (dk_at dksX13_ends_0 9 rfl rfl)
theorem dX13_ends_10 : decode cX13_ends 10 = .ok (.aload_n 0, 1) := dk_42 (dk_at dksX13_ends_0 10 rfl rfl)
theorem dX13_ends_11 : decode cX13_ends 11 = .ok (.getfield 3, 3) := dk_180 0 3 (dk_at dksX13_ends_0 11 rfl rfl)
theorem dX13_ends_14 : decode cX13_ends 14 = .ok (.getfield 29, 3) := dk_180 0 29 (dk_at dksX13_ends_0 14 rfl rfl)
theorem dX13_ends_17 : decode cX13_ends 17 = .ok (.putfield 15, 3) := dk_181 0 15 (dk_at dksX13_ends_0 17 rfl rfl)
theorem dX13_ends_20 : decode cX13_ends 20 = .ok (.iconst 1, 1) := dk_4 (dk_at dksX13_ends_0 20 rfl rfl)
theorem dX13_ends_21 : decode cX13_ends 21 = .ok (.ireturn, 1) := dk_172 (dk_at dksX13_ends_0 21 rfl rfl)
abbrev cX13_allows : ByteArray := prog_17_method_3_code
def yX13_allows : MethodName := ⟨RX13, "allows", "(II)Z"⟩
def dkwX13_allows_2 : List UInt8 := [180, 0, 25, 160, 0, 7, 4, 167, 0, 4, 3, 172]
abbrev dktX13_allows_2 : List UInt8 := dkwX13_allows_2 ++ []
def dkwX13_allows_1 : List UInt8 := [180, 0, 3, 27, 42, 180, 0, 19, 182, 0, 35, 42, 180, 0, 22, 161, 0, 7, 4, 167, 0, 4, 3, 42]
abbrev dktX13_allows_1 : List UInt8 := dkwX13_allows_1 ++ dktX13_allows_2
def dkwX13_allows_0 : List UInt8 := [42, 180, 0, 32, 28, 163, 0, 49, 42, 180, 0, 15, 155, 0, 11, 42, 180, 0, 15, 28, 164, 0, 34, 42]
abbrev dktX13_allows_0 : List UInt8 := dkwX13_allows_0 ++ dktX13_allows_1
theorem dksX13_allows_0 : cX13_allows.data.toList.drop 0 = dktX13_allows_0 := by decide +kernel
theorem dksX13_allows_1 : cX13_allows.data.toList.drop 24 = dktX13_allows_1 := dk_seg dksX13_allows_0 24 rfl rfl
theorem dksX13_allows_2 : cX13_allows.data.toList.drop 48 = dktX13_allows_2 := dk_seg dksX13_allows_1 24 rfl rfl
theorem dX13_allows_0 : decode cX13_allows 0 = .ok (.aload_n 0, 1) := dk_42 (dk_at dksX13_allows_0 0 rfl rfl)
theorem dX13_allows_1 : decode cX13_allows 1 = .ok (.getfield 32, 3) := dk_180 0 32 (dk_at dksX13_allows_0 1 rfl rfl)
theorem dX13_allows_4 : decode cX13_allows 4 = .ok (.iload_n 2, 1) := dk_28 (dk_at dksX13_allows_0 4 rfl rfl)
theorem dX13_allows_5 : decode cX13_allows 5 = .ok (.if_icmp .gt 49, 3) := dk_163 0 49 (dk_at dksX13_allows_0 5 rfl rfl)
theorem dX13_allows_8 : decode cX13_allows 8 = .ok (.aload_n 0, 1) := dk_42 (dk_at dksX13_allows_0 8 rfl rfl)
theorem dX13_allows_9 : decode cX13_allows 9 = .ok (.getfield 15, 3) := dk_180 0 15 (dk_at dksX13_allows_0 9 rfl rfl)
theorem dX13_allows_12 : decode cX13_allows 12 = .ok (.ifCond .lt 11, 3) := dk_155 0 11 (dk_at dksX13_allows_0 12 rfl rfl)
theorem dX13_allows_15 : decode cX13_allows 15 = .ok (.aload_n 0, 1) := dk_42 (dk_at dksX13_allows_0 15 rfl rfl)
theorem dX13_allows_16 : decode cX13_allows 16 = .ok (.getfield 15, 3) := dk_180 0 15 (dk_at dksX13_allows_0 16 rfl rfl)
theorem dX13_allows_19 : decode cX13_allows 19 = .ok (.iload_n 2, 1) := dk_28 (dk_at dksX13_allows_0 19 rfl rfl)
theorem dX13_allows_20 : decode cX13_allows 20 = .ok (.if_icmp .le 34, 3) := dk_164 0 34 (dk_at dksX13_allows_0 20 rfl rfl)
theorem dX13_allows_23 : decode cX13_allows 23 = .ok (.aload_n 0, 1) := dk_42 (dk_at dksX13_allows_0 23 rfl rfl)
theorem dX13_allows_24 : decode cX13_allows 24 = .ok (.getfield 3, 3) := dk_180 0 3 (dk_at dksX13_allows_1 0 rfl rfl)
theorem dX13_allows_27 : decode cX13_allows 27 = .ok (.iload_n 1, 1) := dk_27 (dk_at dksX13_allows_1 3 rfl rfl)
theorem dX13_allows_28 : decode cX13_allows 28 = .ok (.aload_n 0, 1) := dk_42 (dk_at dksX13_allows_1 4 rfl rfl)
theorem dX13_allows_29 : decode cX13_allows 29 = .ok (.getfield 19, 3) := dk_180 0 19 (dk_at dksX13_allows_1 5 rfl rfl)
theorem dX13_allows_32 : decode cX13_allows 32 = .ok (.invokevirtual 35, 3) := dk_182 0 35 (dk_at dksX13_allows_1 8 rfl rfl)
theorem dX13_allows_35 : decode cX13_allows 35 = .ok (.aload_n 0, 1) := dk_42 (dk_at dksX13_allows_1 11 rfl rfl)
theorem dX13_allows_36 : decode cX13_allows 36 = .ok (.getfield 22, 3) := dk_180 0 22 (dk_at dksX13_allows_1 12 rfl rfl)
theorem dX13_allows_39 : decode cX13_allows 39 = .ok (.if_icmp .lt 7, 3) := dk_161 0 7 (dk_at dksX13_allows_1 15 rfl rfl)
theorem dX13_allows_42 : decode cX13_allows 42 = .ok (.iconst 1, 1) := dk_4 (dk_at dksX13_allows_1 18 rfl rfl)
theorem dX13_allows_43 : decode cX13_allows 43 = .ok (.goto 4, 3) := dk_167 0 4 (dk_at dksX13_allows_1 19 rfl rfl)
theorem dX13_allows_46 : decode cX13_allows 46 = .ok (.iconst 0, 1) := dk_3 (dk_at dksX13_allows_1 22 rfl rfl)
theorem dX13_allows_47 : decode cX13_allows 47 = .ok (.aload_n 0, 1) := dk_42 (dk_at dksX13_allows_1 23 rfl rfl)
theorem dX13_allows_48 : decode cX13_allows 48 = .ok (.getfield 25, 3) := dk_180 0 25 (dk_at dksX13_allows_2 0 rfl rfl)
theorem dX13_allows_51 : decode cX13_allows 51 = .ok (.if_icmp .ne 7, 3) := dk_160 0 7 (dk_at dksX13_allows_2 3 rfl rfl)
theorem dX13_allows_54 : decode cX13_allows 54 = .ok (.iconst 1, 1) := dk_4 (dk_at dksX13_allows_2 6 rfl rfl)
theorem dX13_allows_55 : decode cX13_allows 55 = .ok (.goto 4, 3) := dk_167 0 4 (dk_at dksX13_allows_2 7 rfl rfl)
theorem dX13_allows_58 : decode cX13_allows 58 = .ok (.iconst 0, 1) := dk_3 (dk_at dksX13_allows_2 10 rfl rfl)
theorem dX13_allows_59 : decode cX13_allows 59 = .ok (.ireturn, 1) := dk_172 (dk_at dksX13_allows_2 11 rfl rfl)
theorem q155 : (Jvm.Cond.initialized "TrunkLitters$Tale") ∈ lw_all := lw_g (lw_at lw_m1 33 rfl) rfl
theorem q374 : (Jvm.Cond.fieldLinkNest "TrunkLitters$Tale" (29 : Nat) "TrunkLitters" "time" "I" "TrunkLitters") ∈ lw_tbl := lw_at lw_m2 12 rfl
theorem q970 : (Jvm.Cond.selects "TrunkLitters$Tale" ({ cls := "java/lang/Object", name := "getClass", desc := "()Ljava/lang/Class;" } : Jvm.MethodName) ({ cls := "java/lang/Object", name := "getClass", desc := "()Ljava/lang/Class;" } : Jvm.MethodName)) ∈ lw_all := lw_g (lw_at lw_m4 128 rfl) rfl
theorem q1464 : (Jvm.Cond.instantiable "TrunkLitters$Tale" (6 : Nat)) ∈ lw_all := lw_g (lw_at lw_m6 142 rfl) rfl
theorem q1466 : (Jvm.Cond.instanceMethod ({ cls := "TrunkLitters$Tale", name := "<init>", desc := "(LTrunkLitters;IIZ)V" } : Jvm.MethodName)) ∈ lw_all := lw_g (lw_at lw_m6 144 rfl) rfl
theorem q1467 : (Jvm.Cond.code ({ cls := "TrunkLitters$Tale", name := "<init>", desc := "(LTrunkLitters;IIZ)V" } : Jvm.MethodName) prog_17_method_1_code (5 : Nat) (Option.none : Option Jvm.ClassFile.FieldType)) ∈ lw_all := lw_g (lw_at lw_m6 145 rfl) rfl
theorem q1468 : (Jvm.Cond.methodLink "TrunkLitters$Tale" (9 : Nat) ({ cls := "java/lang/Object", name := "<init>", desc := "()V" } : Jvm.MethodName)) ∈ lw_all := lw_g (lw_at lw_m6 146 rfl) rfl
theorem q1469 : (Jvm.Cond.fieldLink "TrunkLitters$Tale" (19 : Nat) "TrunkLitters$Tale" "trunk" "I") ∈ lw_all := lw_g (lw_at lw_m6 147 rfl) rfl
theorem q1470 : (Jvm.Cond.fieldLink "TrunkLitters$Tale" (22 : Nat) "TrunkLitters$Tale" "many" "I") ∈ lw_all := lw_g (lw_at lw_m6 148 rfl) rfl
theorem q1471 : (Jvm.Cond.fieldLink "TrunkLitters$Tale" (32 : Nat) "TrunkLitters$Tale" "told" "I") ∈ lw_all := lw_g (lw_at lw_m6 149 rfl) rfl
theorem q1472 : (Jvm.Cond.fieldLink "TrunkLitters$Tale" (25 : Nat) "TrunkLitters$Tale" "is" "Z") ∈ lw_all := lw_g (lw_at lw_m6 150 rfl) rfl
theorem q1473 : (Jvm.Cond.fieldLink "TrunkLitters$Tale" (15 : Nat) "TrunkLitters$Tale" "untold" "I") ∈ lw_all := lw_g (lw_at lw_m6 151 rfl) rfl
theorem q1474 : (Jvm.Cond.fieldLink "TrunkLitters$Tale" (3 : Nat) "TrunkLitters$Tale" "this$0" "LTrunkLitters;") ∈ lw_all := lw_g (lw_at lw_m6 152 rfl) rfl
theorem q1475 : (Jvm.Cond.laysFinal "TrunkLitters$Tale" "TrunkLitters$Tale" "trunk" "I") ∈ lw_all := lw_g (lw_at lw_m6 153 rfl) rfl
theorem q1476 : (Jvm.Cond.soleField "TrunkLitters$Tale" "trunk") ∈ lw_all := lw_g (lw_at lw_m6 154 rfl) rfl
theorem q1477 : (Jvm.Cond.laysFinal "TrunkLitters$Tale" "TrunkLitters$Tale" "many" "I") ∈ lw_all := lw_g (lw_at lw_m6 155 rfl) rfl
theorem q1478 : (Jvm.Cond.soleField "TrunkLitters$Tale" "many") ∈ lw_all := lw_g (lw_at lw_m6 156 rfl) rfl
theorem q1479 : (Jvm.Cond.laysFinal "TrunkLitters$Tale" "TrunkLitters$Tale" "told" "I") ∈ lw_all := lw_g (lw_at lw_m6 157 rfl) rfl
theorem q1480 : (Jvm.Cond.soleField "TrunkLitters$Tale" "told") ∈ lw_all := lw_g (lw_at lw_m6 158 rfl) rfl
theorem q1481 : (Jvm.Cond.laysFinal "TrunkLitters$Tale" "TrunkLitters$Tale" "is" "Z") ∈ lw_all := lw_g (lw_at lw_m6 159 rfl) rfl
theorem q1482 : (Jvm.Cond.soleField "TrunkLitters$Tale" "is") ∈ lw_all := lw_g (lw_at lw_m6 160 rfl) rfl
theorem q1483 : (Jvm.Cond.lays "TrunkLitters$Tale" "TrunkLitters$Tale" "untold" "I") ∈ lw_all := lw_g (lw_at lw_m6 161 rfl) rfl
theorem q1484 : (Jvm.Cond.soleField "TrunkLitters$Tale" "untold") ∈ lw_all := lw_g (lw_at lw_m6 162 rfl) rfl
theorem q1485 : (Jvm.Cond.laysFinal "TrunkLitters$Tale" "TrunkLitters$Tale" "this$0" "LTrunkLitters;") ∈ lw_all := lw_g (lw_at lw_m6 163 rfl) rfl
theorem q1486 : (Jvm.Cond.soleField "TrunkLitters$Tale" "this$0") ∈ lw_all := lw_g (lw_at lw_m6 164 rfl) rfl
theorem q1487 : (Jvm.Cond.superclass "TrunkLitters$Tale" "java/lang/Object") ∈ lw_all := lw_g (lw_at lw_m6 165 rfl) rfl
theorem q1494 : (Jvm.Cond.instanceMethod ({ cls := "TrunkLitters$Tale", name := "ends", desc := "()Z" } : Jvm.MethodName)) ∈ lw_all := lw_g (lw_at lw_m6 172 rfl) rfl
theorem q1495 : (Jvm.Cond.selects "TrunkLitters$Tale" ({ cls := "TrunkLitters$Tale", name := "ends", desc := "()Z" } : Jvm.MethodName) ({ cls := "TrunkLitters$Tale", name := "ends", desc := "()Z" } : Jvm.MethodName)) ∈ lw_all := lw_g (lw_at lw_m6 173 rfl) rfl
theorem q1496 : (Jvm.Cond.code ({ cls := "TrunkLitters$Tale", name := "ends", desc := "()Z" } : Jvm.MethodName) prog_17_method_2_code (1 : Nat) (Option.some Jvm.ClassFile.FieldType.boolean)) ∈ lw_all := lw_g (lw_at lw_m6 174 rfl) rfl
theorem q1511 : (Jvm.Cond.instanceMethod ({ cls := "TrunkLitters$Tale", name := "allows", desc := "(II)Z" } : Jvm.MethodName)) ∈ lw_all := lw_g (lw_at lw_m6 189 rfl) rfl
theorem q1512 : (Jvm.Cond.selects "TrunkLitters$Tale" ({ cls := "TrunkLitters$Tale", name := "allows", desc := "(II)Z" } : Jvm.MethodName) ({ cls := "TrunkLitters$Tale", name := "allows", desc := "(II)Z" } : Jvm.MethodName)) ∈ lw_all := lw_g (lw_at lw_m6 190 rfl) rfl
theorem q1513 : (Jvm.Cond.code ({ cls := "TrunkLitters$Tale", name := "allows", desc := "(II)Z" } : Jvm.MethodName) prog_17_method_3_code (3 : Nat) (Option.some Jvm.ClassFile.FieldType.boolean)) ∈ lw_all := lw_g (lw_at lw_m6 191 rfl) rfl
theorem q1514 : (Jvm.Cond.methodLinkNest "TrunkLitters$Tale" (35 : Nat) ({ cls := "TrunkLitters", name := "sharedAsTold", desc := "(II)I" } : Jvm.MethodName) "TrunkLitters") ∈ lw_tbl := lw_at lw_m6 192 rfl
theorem q2281 : (Jvm.Cond.castable "TrunkLitters$Tale" "java/lang/Object") ∈ lw_tbl := lw_at lw_m9 239 rfl
theorem in_X13 : ∀ w ∈ wsX130, w ∈ lw_all := lw_in wsX130 [1475, 1477, 1479, 1481, 1483, 1485] (by decide +kernel) (by decide +kernel)

/-! TrunkLitters$Asked$1 -/
set_option maxRecDepth 100000
def RX14 : String := "TrunkLitters$Asked$1"
abbrev cX14_of : ByteArray := prog_4_method_2_code
def yX14_of : MethodName := ⟨RX14, "of", "(LTrunkLitters$Ask;)I"⟩
theorem dX14_of_0 : decode cX14_of 0 = .ok (.aload_n 1, 1) := by decide +kernel
theorem dX14_of_1 : decode cX14_of 1 = .ok (.getfield 7, 3) := by decide +kernel
theorem dX14_of_4 : decode cX14_of 4 = .ok (.ireturn, 1) := by decide +kernel
theorem q205 : (Jvm.Cond.fieldLink "TrunkLitters$Asked$1" (7 : Nat) "TrunkLitters$Ask" "bulk" "I") ∈ lw_all := lw_g (lw_at lw_m1 83 rfl) rfl
theorem q959 : (Jvm.Cond.selects "TrunkLitters$Asked$1" ({ cls := "java/lang/Object", name := "getClass", desc := "()Ljava/lang/Class;" } : Jvm.MethodName) ({ cls := "java/lang/Object", name := "getClass", desc := "()Ljava/lang/Class;" } : Jvm.MethodName)) ∈ lw_all := lw_g (lw_at lw_m4 117 rfl) rfl
theorem q1180 : (Jvm.Cond.castable "TrunkLitters$Asked$1" "TrunkLitters$Node") ∈ lw_tbl := lw_at lw_m5 98 rfl
theorem q1181 : (Jvm.Cond.selects "TrunkLitters$Asked$1" ({ cls := "TrunkLitters$Node", name := "of", desc := "(LTrunkLitters$Ask;)I" } : Jvm.MethodName) ({ cls := "TrunkLitters$Asked$1", name := "of", desc := "(LTrunkLitters$Ask;)I" } : Jvm.MethodName)) ∈ lw_all := lw_g (lw_at lw_m5 99 rfl) rfl
theorem q1182 : (Jvm.Cond.unhidden "TrunkLitters$Asked$1" "of" "(LTrunkLitters$Ask;)I") ∈ lw_tbl := lw_at lw_m5 100 rfl
theorem q1183 : (Jvm.Cond.instanceMethod ({ cls := "TrunkLitters$Asked$1", name := "of", desc := "(LTrunkLitters$Ask;)I" } : Jvm.MethodName)) ∈ lw_all := lw_g (lw_at lw_m5 101 rfl) rfl
theorem q1184 : (Jvm.Cond.publicMethod ({ cls := "TrunkLitters$Asked$1", name := "of", desc := "(LTrunkLitters$Ask;)I" } : Jvm.MethodName)) ∈ lw_tbl := lw_at lw_m5 102 rfl
theorem q1185 : (Jvm.Cond.code ({ cls := "TrunkLitters$Asked$1", name := "of", desc := "(LTrunkLitters$Ask;)I" } : Jvm.MethodName) prog_4_method_2_code (2 : Nat) (Option.some Jvm.ClassFile.FieldType.int)) ∈ lw_all := lw_g (lw_at lw_m5 103 rfl) rfl
theorem q2274 : (Jvm.Cond.castable "TrunkLitters$Asked$1" "java/lang/Object") ∈ lw_tbl := lw_at lw_m9 232 rfl

/-! TrunkLitters$Asked$2 -/
set_option maxRecDepth 100000
def RX15 : String := "TrunkLitters$Asked$2"
abbrev cX15_of : ByteArray := prog_5_method_2_code
def yX15_of : MethodName := ⟨RX15, "of", "(LTrunkLitters$Ask;)I"⟩
theorem dX15_of_0 : decode cX15_of 0 = .ok (.aload_n 1, 1) := by decide +kernel
theorem dX15_of_1 : decode cX15_of 1 = .ok (.getfield 7, 3) := by decide +kernel
theorem dX15_of_4 : decode cX15_of 4 = .ok (.ireturn, 1) := by decide +kernel
theorem q207 : (Jvm.Cond.fieldLink "TrunkLitters$Asked$2" (7 : Nat) "TrunkLitters$Ask" "alike" "I") ∈ lw_all := lw_g (lw_at lw_m1 85 rfl) rfl
theorem q960 : (Jvm.Cond.selects "TrunkLitters$Asked$2" ({ cls := "java/lang/Object", name := "getClass", desc := "()Ljava/lang/Class;" } : Jvm.MethodName) ({ cls := "java/lang/Object", name := "getClass", desc := "()Ljava/lang/Class;" } : Jvm.MethodName)) ∈ lw_all := lw_g (lw_at lw_m4 118 rfl) rfl
theorem q1186 : (Jvm.Cond.castable "TrunkLitters$Asked$2" "TrunkLitters$Node") ∈ lw_tbl := lw_at lw_m5 104 rfl
theorem q1187 : (Jvm.Cond.selects "TrunkLitters$Asked$2" ({ cls := "TrunkLitters$Node", name := "of", desc := "(LTrunkLitters$Ask;)I" } : Jvm.MethodName) ({ cls := "TrunkLitters$Asked$2", name := "of", desc := "(LTrunkLitters$Ask;)I" } : Jvm.MethodName)) ∈ lw_all := lw_g (lw_at lw_m5 105 rfl) rfl
theorem q1188 : (Jvm.Cond.unhidden "TrunkLitters$Asked$2" "of" "(LTrunkLitters$Ask;)I") ∈ lw_tbl := lw_at lw_m5 106 rfl
theorem q1189 : (Jvm.Cond.instanceMethod ({ cls := "TrunkLitters$Asked$2", name := "of", desc := "(LTrunkLitters$Ask;)I" } : Jvm.MethodName)) ∈ lw_all := lw_g (lw_at lw_m5 107 rfl) rfl
theorem q1190 : (Jvm.Cond.publicMethod ({ cls := "TrunkLitters$Asked$2", name := "of", desc := "(LTrunkLitters$Ask;)I" } : Jvm.MethodName)) ∈ lw_tbl := lw_at lw_m5 108 rfl
theorem q1191 : (Jvm.Cond.code ({ cls := "TrunkLitters$Asked$2", name := "of", desc := "(LTrunkLitters$Ask;)I" } : Jvm.MethodName) prog_5_method_2_code (2 : Nat) (Option.some Jvm.ClassFile.FieldType.int)) ∈ lw_all := lw_g (lw_at lw_m5 109 rfl) rfl
theorem q2275 : (Jvm.Cond.castable "TrunkLitters$Asked$2" "java/lang/Object") ∈ lw_tbl := lw_at lw_m9 233 rfl

/-! TrunkLitters$Asked$3 -/
set_option maxRecDepth 100000
def RX16 : String := "TrunkLitters$Asked$3"
abbrev cX16_of : ByteArray := prog_6_method_2_code
def yX16_of : MethodName := ⟨RX16, "of", "(LTrunkLitters$Ask;)I"⟩
theorem dX16_of_0 : decode cX16_of 0 = .ok (.aload_n 1, 1) := by decide +kernel
theorem dX16_of_1 : decode cX16_of 1 = .ok (.getfield 7, 3) := by decide +kernel
theorem dX16_of_4 : decode cX16_of 4 = .ok (.ireturn, 1) := by decide +kernel
theorem q209 : (Jvm.Cond.fieldLink "TrunkLitters$Asked$3" (7 : Nat) "TrunkLitters$Ask" "left" "I") ∈ lw_all := lw_g (lw_at lw_m1 87 rfl) rfl
theorem q961 : (Jvm.Cond.selects "TrunkLitters$Asked$3" ({ cls := "java/lang/Object", name := "getClass", desc := "()Ljava/lang/Class;" } : Jvm.MethodName) ({ cls := "java/lang/Object", name := "getClass", desc := "()Ljava/lang/Class;" } : Jvm.MethodName)) ∈ lw_all := lw_g (lw_at lw_m4 119 rfl) rfl
theorem q1192 : (Jvm.Cond.castable "TrunkLitters$Asked$3" "TrunkLitters$Node") ∈ lw_tbl := lw_at lw_m5 110 rfl
theorem q1193 : (Jvm.Cond.selects "TrunkLitters$Asked$3" ({ cls := "TrunkLitters$Node", name := "of", desc := "(LTrunkLitters$Ask;)I" } : Jvm.MethodName) ({ cls := "TrunkLitters$Asked$3", name := "of", desc := "(LTrunkLitters$Ask;)I" } : Jvm.MethodName)) ∈ lw_all := lw_g (lw_at lw_m5 111 rfl) rfl
theorem q1194 : (Jvm.Cond.unhidden "TrunkLitters$Asked$3" "of" "(LTrunkLitters$Ask;)I") ∈ lw_tbl := lw_at lw_m5 112 rfl
theorem q1195 : (Jvm.Cond.instanceMethod ({ cls := "TrunkLitters$Asked$3", name := "of", desc := "(LTrunkLitters$Ask;)I" } : Jvm.MethodName)) ∈ lw_all := lw_g (lw_at lw_m5 113 rfl) rfl
theorem q1196 : (Jvm.Cond.publicMethod ({ cls := "TrunkLitters$Asked$3", name := "of", desc := "(LTrunkLitters$Ask;)I" } : Jvm.MethodName)) ∈ lw_tbl := lw_at lw_m5 114 rfl
theorem q1197 : (Jvm.Cond.code ({ cls := "TrunkLitters$Asked$3", name := "of", desc := "(LTrunkLitters$Ask;)I" } : Jvm.MethodName) prog_6_method_2_code (2 : Nat) (Option.some Jvm.ClassFile.FieldType.int)) ∈ lw_all := lw_g (lw_at lw_m5 115 rfl) rfl
theorem q2276 : (Jvm.Cond.castable "TrunkLitters$Asked$3" "java/lang/Object") ∈ lw_tbl := lw_at lw_m9 234 rfl

/-! TrunkLitters$Asked$4 -/
set_option maxRecDepth 100000
def RX17 : String := "TrunkLitters$Asked$4"
abbrev cX17_of : ByteArray := prog_7_method_2_code
def yX17_of : MethodName := ⟨RX17, "of", "(LTrunkLitters$Ask;)I"⟩
theorem dX17_of_0 : decode cX17_of 0 = .ok (.aload_n 1, 1) := by decide +kernel
theorem dX17_of_1 : decode cX17_of 1 = .ok (.getfield 7, 3) := by decide +kernel
theorem dX17_of_4 : decode cX17_of 4 = .ok (.ireturn, 1) := by decide +kernel
theorem q211 : (Jvm.Cond.fieldLink "TrunkLitters$Asked$4" (7 : Nat) "TrunkLitters$Ask" "many" "I") ∈ lw_all := lw_g (lw_at lw_m1 89 rfl) rfl
theorem q962 : (Jvm.Cond.selects "TrunkLitters$Asked$4" ({ cls := "java/lang/Object", name := "getClass", desc := "()Ljava/lang/Class;" } : Jvm.MethodName) ({ cls := "java/lang/Object", name := "getClass", desc := "()Ljava/lang/Class;" } : Jvm.MethodName)) ∈ lw_all := lw_g (lw_at lw_m4 120 rfl) rfl
theorem q1198 : (Jvm.Cond.castable "TrunkLitters$Asked$4" "TrunkLitters$Node") ∈ lw_tbl := lw_at lw_m5 116 rfl
theorem q1199 : (Jvm.Cond.selects "TrunkLitters$Asked$4" ({ cls := "TrunkLitters$Node", name := "of", desc := "(LTrunkLitters$Ask;)I" } : Jvm.MethodName) ({ cls := "TrunkLitters$Asked$4", name := "of", desc := "(LTrunkLitters$Ask;)I" } : Jvm.MethodName)) ∈ lw_all := lw_g (lw_at lw_m5 117 rfl) rfl
theorem q1200 : (Jvm.Cond.unhidden "TrunkLitters$Asked$4" "of" "(LTrunkLitters$Ask;)I") ∈ lw_tbl := lw_at lw_m5 118 rfl
theorem q1201 : (Jvm.Cond.instanceMethod ({ cls := "TrunkLitters$Asked$4", name := "of", desc := "(LTrunkLitters$Ask;)I" } : Jvm.MethodName)) ∈ lw_all := lw_g (lw_at lw_m5 119 rfl) rfl
theorem q1202 : (Jvm.Cond.publicMethod ({ cls := "TrunkLitters$Asked$4", name := "of", desc := "(LTrunkLitters$Ask;)I" } : Jvm.MethodName)) ∈ lw_tbl := lw_at lw_m5 120 rfl
theorem q1203 : (Jvm.Cond.code ({ cls := "TrunkLitters$Asked$4", name := "of", desc := "(LTrunkLitters$Ask;)I" } : Jvm.MethodName) prog_7_method_2_code (2 : Nat) (Option.some Jvm.ClassFile.FieldType.int)) ∈ lw_all := lw_g (lw_at lw_m5 121 rfl) rfl
theorem q2277 : (Jvm.Cond.castable "TrunkLitters$Asked$4" "java/lang/Object") ∈ lw_tbl := lw_at lw_m9 235 rfl

/-! TrunkLitters$Asked$5 -/
set_option maxRecDepth 100000
def RX18 : String := "TrunkLitters$Asked$5"
abbrev cX18_of : ByteArray := prog_8_method_2_code
def yX18_of : MethodName := ⟨RX18, "of", "(LTrunkLitters$Ask;)I"⟩
theorem dX18_of_0 : decode cX18_of 0 = .ok (.aload_n 1, 1) := by decide +kernel
theorem dX18_of_1 : decode cX18_of 1 = .ok (.getfield 7, 3) := by decide +kernel
theorem dX18_of_4 : decode cX18_of 4 = .ok (.ireturn, 1) := by decide +kernel
theorem q213 : (Jvm.Cond.fieldLink "TrunkLitters$Asked$5" (7 : Nat) "TrunkLitters$Ask" "year" "I") ∈ lw_all := lw_g (lw_at lw_m1 91 rfl) rfl
theorem q963 : (Jvm.Cond.selects "TrunkLitters$Asked$5" ({ cls := "java/lang/Object", name := "getClass", desc := "()Ljava/lang/Class;" } : Jvm.MethodName) ({ cls := "java/lang/Object", name := "getClass", desc := "()Ljava/lang/Class;" } : Jvm.MethodName)) ∈ lw_all := lw_g (lw_at lw_m4 121 rfl) rfl
theorem q1204 : (Jvm.Cond.castable "TrunkLitters$Asked$5" "TrunkLitters$Node") ∈ lw_tbl := lw_at lw_m5 122 rfl
theorem q1205 : (Jvm.Cond.selects "TrunkLitters$Asked$5" ({ cls := "TrunkLitters$Node", name := "of", desc := "(LTrunkLitters$Ask;)I" } : Jvm.MethodName) ({ cls := "TrunkLitters$Asked$5", name := "of", desc := "(LTrunkLitters$Ask;)I" } : Jvm.MethodName)) ∈ lw_all := lw_g (lw_at lw_m5 123 rfl) rfl
theorem q1206 : (Jvm.Cond.unhidden "TrunkLitters$Asked$5" "of" "(LTrunkLitters$Ask;)I") ∈ lw_tbl := lw_at lw_m5 124 rfl
theorem q1207 : (Jvm.Cond.instanceMethod ({ cls := "TrunkLitters$Asked$5", name := "of", desc := "(LTrunkLitters$Ask;)I" } : Jvm.MethodName)) ∈ lw_all := lw_g (lw_at lw_m5 125 rfl) rfl
theorem q1208 : (Jvm.Cond.publicMethod ({ cls := "TrunkLitters$Asked$5", name := "of", desc := "(LTrunkLitters$Ask;)I" } : Jvm.MethodName)) ∈ lw_tbl := lw_at lw_m5 126 rfl
theorem q1209 : (Jvm.Cond.code ({ cls := "TrunkLitters$Asked$5", name := "of", desc := "(LTrunkLitters$Ask;)I" } : Jvm.MethodName) prog_8_method_2_code (2 : Nat) (Option.some Jvm.ClassFile.FieldType.int)) ∈ lw_all := lw_g (lw_at lw_m5 127 rfl) rfl
theorem q2278 : (Jvm.Cond.castable "TrunkLitters$Asked$5" "java/lang/Object") ∈ lw_tbl := lw_at lw_m9 236 rfl

/-! TrunkLitters$Ask -/
set_option maxRecDepth 100000
def RX2 : String := "TrunkLitters$Ask"
def TX2 : u_T := fun k => match k with
  | 0 => ("TrunkLitters$Ask", "bulk", "I", false)
  | 1 => ("TrunkLitters$Ask", "alike", "I", false)
  | 2 => ("TrunkLitters$Ask", "left", "I", false)
  | 3 => ("TrunkLitters$Ask", "many", "I", false)
  | _ => ("TrunkLitters$Ask", "year", "I", false)
def tyX2 : Nat → FieldType := fun k => match k with
  | 0 => .int
  | 1 => .int
  | 2 => .int
  | 3 => .int
  | _ => .int
abbrev wsX20 : List Cond := u_ws RX2 TX2 5
theorem nmX2 : ∀ a, a < 5 → ∀ b, b < 5 → a ≠ b → (TX2 a).2.1 ≠ (TX2 b).2.1 := by decide +kernel
theorem tyX2_ok : ∀ k, k < 5 → parseFieldDescriptor (TX2 k).2.2.1 = some (tyX2 k) := by decide +kernel
abbrev cX2_init : ByteArray := prog_2_method_1_code
def yX2_init : MethodName := ⟨RX2, "<init>", "()V"⟩
theorem dX2_init_0 : decode cX2_init 0 = .ok (.aload_n 0, 1) := by decide +kernel
theorem dX2_init_1 : decode cX2_init 1 = .ok (.invokespecial 1, 3) := by decide +kernel
theorem dX2_init_4 : decode cX2_init 4 = .ok (.return_, 1) := by decide +kernel
theorem q128 : (Jvm.Cond.initialized "TrunkLitters$Ask") ∈ lw_all := lw_g (lw_at lw_m1 6 rfl) rfl
theorem q200 : (Jvm.Cond.instantiable "TrunkLitters$Ask" (5 : Nat)) ∈ lw_all := lw_g (lw_at lw_m1 78 rfl) rfl
theorem q202 : (Jvm.Cond.instanceMethod ({ cls := "TrunkLitters$Ask", name := "<init>", desc := "()V" } : Jvm.MethodName)) ∈ lw_all := lw_g (lw_at lw_m1 80 rfl) rfl
theorem q203 : (Jvm.Cond.code ({ cls := "TrunkLitters$Ask", name := "<init>", desc := "()V" } : Jvm.MethodName) prog_2_method_1_code (1 : Nat) (Option.none : Option Jvm.ClassFile.FieldType)) ∈ lw_all := lw_g (lw_at lw_m1 81 rfl) rfl
theorem q204 : (Jvm.Cond.methodLink "TrunkLitters$Ask" (1 : Nat) ({ cls := "java/lang/Object", name := "<init>", desc := "()V" } : Jvm.MethodName)) ∈ lw_all := lw_g (lw_at lw_m1 82 rfl) rfl
theorem q215 : (Jvm.Cond.lays "TrunkLitters$Ask" "TrunkLitters$Ask" "bulk" "I") ∈ lw_all := lw_g (lw_at lw_m1 93 rfl) rfl
theorem q216 : (Jvm.Cond.soleField "TrunkLitters$Ask" "bulk") ∈ lw_all := lw_g (lw_at lw_m1 94 rfl) rfl
theorem q217 : (Jvm.Cond.lays "TrunkLitters$Ask" "TrunkLitters$Ask" "alike" "I") ∈ lw_all := lw_g (lw_at lw_m1 95 rfl) rfl
theorem q218 : (Jvm.Cond.soleField "TrunkLitters$Ask" "alike") ∈ lw_all := lw_g (lw_at lw_m1 96 rfl) rfl
theorem q219 : (Jvm.Cond.lays "TrunkLitters$Ask" "TrunkLitters$Ask" "left" "I") ∈ lw_all := lw_g (lw_at lw_m1 97 rfl) rfl
theorem q220 : (Jvm.Cond.soleField "TrunkLitters$Ask" "left") ∈ lw_all := lw_g (lw_at lw_m1 98 rfl) rfl
theorem q221 : (Jvm.Cond.lays "TrunkLitters$Ask" "TrunkLitters$Ask" "many" "I") ∈ lw_all := lw_g (lw_at lw_m1 99 rfl) rfl
theorem q222 : (Jvm.Cond.soleField "TrunkLitters$Ask" "many") ∈ lw_all := lw_g (lw_at lw_m1 100 rfl) rfl
theorem q223 : (Jvm.Cond.lays "TrunkLitters$Ask" "TrunkLitters$Ask" "year" "I") ∈ lw_all := lw_g (lw_at lw_m1 101 rfl) rfl
theorem q224 : (Jvm.Cond.soleField "TrunkLitters$Ask" "year") ∈ lw_all := lw_g (lw_at lw_m1 102 rfl) rfl
theorem q225 : (Jvm.Cond.superclass "TrunkLitters$Ask" "java/lang/Object") ∈ lw_all := lw_g (lw_at lw_m1 103 rfl) rfl
theorem q958 : (Jvm.Cond.selects "TrunkLitters$Ask" ({ cls := "java/lang/Object", name := "getClass", desc := "()Ljava/lang/Class;" } : Jvm.MethodName) ({ cls := "java/lang/Object", name := "getClass", desc := "()Ljava/lang/Class;" } : Jvm.MethodName)) ∈ lw_all := lw_g (lw_at lw_m4 116 rfl) rfl
theorem q2264 : (Jvm.Cond.castable "TrunkLitters$Ask" "java/lang/Object") ∈ lw_tbl := lw_at lw_m9 222 rfl
theorem in_X2 : ∀ w ∈ wsX20, w ∈ lw_all := lw_in wsX20 [215, 217, 219, 221, 223] (by decide +kernel) (by decide +kernel)

/-! TrunkLitters$House -/
set_option maxRecDepth 100000
def RX3 : String := "TrunkLitters$House"
def TX3 : u_T := fun k => match k with
  | 0 => ("TrunkLitters$House", "bulk", "[I", true)
  | 1 => ("TrunkLitters$House", "at", "[I", true)
  | 2 => ("TrunkLitters$House", "marks", "[I", true)
  | 3 => ("TrunkLitters$House", "told", "[I", true)
  | 4 => ("TrunkLitters$House", "pining", "[I", true)
  | 5 => ("TrunkLitters$House", "one", "[I", true)
  | 6 => ("TrunkLitters$House", "two", "[I", true)
  | 7 => ("TrunkLitters$House", "born", "[I", true)
  | 8 => ("TrunkLitters$House", "there", "I", false)
  | 9 => ("TrunkLitters$House", "tales", "I", false)
  | 10 => ("TrunkLitters$House", "year", "I", false)
  | 11 => ("TrunkLitters$House", "seed", "I", false)
  | 12 => ("TrunkLitters$House", "births", "I", false)
  | _ => ("TrunkLitters$House", "pines", "I", false)
def tyX3 : Nat → FieldType := fun k => match k with
  | 0 => .array .int
  | 1 => .array .int
  | 2 => .array .int
  | 3 => .array .int
  | 4 => .array .int
  | 5 => .array .int
  | 6 => .array .int
  | 7 => .array .int
  | 8 => .int
  | 9 => .int
  | 10 => .int
  | 11 => .int
  | 12 => .int
  | _ => .int
abbrev wsX30 : List Cond := u_ws RX3 TX3 14
set_option maxRecDepth 100000 in
theorem nmX3 : ∀ a, a < 14 → ∀ b, b < 14 → a ≠ b → (TX3 a).2.1 ≠ (TX3 b).2.1 := by decide +kernel
set_option maxRecDepth 100000 in
theorem tyX3_ok : ∀ k, k < 14 → parseFieldDescriptor (TX3 k).2.2.1 = some (tyX3 k) := by decide +kernel
abbrev cX3_init : ByteArray := prog_10_method_1_code
def yX3_init : MethodName := ⟨RX3, "<init>", "()V"⟩
def dkwX3_init_3 : List UInt8 := [181, 0, 36, 177]
abbrev dktX3_init_3 : List UInt8 := dkwX3_init_3 ++ []
def dkwX3_init_2 : List UInt8 := [188, 10, 181, 0, 27, 42, 16, 8, 188, 10, 181, 0, 30, 42, 16, 8, 188, 10, 181, 0, 33, 42, 2]
abbrev dktX3_init_2 : List UInt8 := dkwX3_init_2 ++ dktX3_init_3
def dkwX3_init_1 : List UInt8 := [188, 10, 181, 0, 18, 42, 16, 8, 188, 10, 181, 0, 21, 42, 16, 8, 188, 10, 181, 0, 24, 42, 16, 8]
abbrev dktX3_init_1 : List UInt8 := dkwX3_init_1 ++ dktX3_init_2
def dkwX3_init_0 : List UInt8 := [42, 183, 0, 3, 42, 16, 8, 188, 10, 181, 0, 9, 42, 16, 8, 188, 10, 181, 0, 15, 42, 16, 8]
abbrev dktX3_init_0 : List UInt8 := dkwX3_init_0 ++ dktX3_init_1
theorem dksX3_init_0 : cX3_init.data.toList.drop 0 = dktX3_init_0 := by decide +kernel
theorem dksX3_init_1 : cX3_init.data.toList.drop 23 = dktX3_init_1 := dk_seg dksX3_init_0 23 rfl rfl
theorem dksX3_init_2 : cX3_init.data.toList.drop 47 = dktX3_init_2 := dk_seg dksX3_init_1 24 rfl rfl
theorem dksX3_init_3 : cX3_init.data.toList.drop 70 = dktX3_init_3 := dk_seg dksX3_init_2 23 rfl rfl
theorem dX3_init_0 : decode cX3_init 0 = .ok (.aload_n 0, 1) := dk_42 (dk_at dksX3_init_0 0 rfl rfl)
theorem dX3_init_1 : decode cX3_init 1 = .ok (.invokespecial 3, 3) := dk_183 0 3 (dk_at dksX3_init_0 1 rfl rfl)
theorem dX3_init_4 : decode cX3_init 4 = .ok (.aload_n 0, 1) := dk_42 (dk_at dksX3_init_0 4 rfl rfl)
theorem dX3_init_5 : decode cX3_init 5 = .ok (.bipush 8, 2) := dk_16 8 (dk_at dksX3_init_0 5 rfl rfl)
theorem dX3_init_7 : decode cX3_init 7 = .ok (.newarray .int, 2) := dk_188_10 (dk_at dksX3_init_0 7 rfl rfl)
theorem dX3_init_9 : decode cX3_init 9 = .ok (.putfield 9, 3) := dk_181 0 9 (dk_at dksX3_init_0 9 rfl rfl)
theorem dX3_init_12 : decode cX3_init 12 = .ok (.aload_n 0, 1) := dk_42 (dk_at dksX3_init_0 12 rfl rfl)
theorem dX3_init_13 : decode cX3_init 13 = .ok (.bipush 8, 2) := dk_16 8 (dk_at dksX3_init_0 13 rfl rfl)
theorem dX3_init_15 : decode cX3_init 15 = .ok (.newarray .int, 2) := dk_188_10 (dk_at dksX3_init_0 15 rfl rfl)
theorem dX3_init_17 : decode cX3_init 17 = .ok (.putfield 15, 3) := dk_181 0 15 (dk_at dksX3_init_0 17 rfl rfl)
theorem dX3_init_20 : decode cX3_init 20 = .ok (.aload_n 0, 1) := dk_42 (dk_at dksX3_init_0 20 rfl rfl)
theorem dX3_init_21 : decode cX3_init 21 = .ok (.bipush 8, 2) := dk_16 8 (dk_at dksX3_init_0 21 rfl rfl)
theorem dX3_init_23 : decode cX3_init 23 = .ok (.newarray .int, 2) := dk_188_10 (dk_at dksX3_init_1 0 rfl rfl)
theorem dX3_init_25 : decode cX3_init 25 = .ok (.putfield 18, 3) := dk_181 0 18 (dk_at dksX3_init_1 2 rfl rfl)
theorem dX3_init_28 : decode cX3_init 28 = .ok (.aload_n 0, 1) := dk_42 (dk_at dksX3_init_1 5 rfl rfl)
theorem dX3_init_29 : decode cX3_init 29 = .ok (.bipush 8, 2) := dk_16 8 (dk_at dksX3_init_1 6 rfl rfl)
theorem dX3_init_31 : decode cX3_init 31 = .ok (.newarray .int, 2) := dk_188_10 (dk_at dksX3_init_1 8 rfl rfl)
theorem dX3_init_33 : decode cX3_init 33 = .ok (.putfield 21, 3) := dk_181 0 21 (dk_at dksX3_init_1 10 rfl rfl)
theorem dX3_init_36 : decode cX3_init 36 = .ok (.aload_n 0, 1) := dk_42 (dk_at dksX3_init_1 13 rfl rfl)
theorem dX3_init_37 : decode cX3_init 37 = .ok (.bipush 8, 2) := dk_16 8 (dk_at dksX3_init_1 14 rfl rfl)
theorem dX3_init_39 : decode cX3_init 39 = .ok (.newarray .int, 2) := dk_188_10 (dk_at dksX3_init_1 16 rfl rfl)
theorem dX3_init_41 : decode cX3_init 41 = .ok (.putfield 24, 3) := dk_181 0 24 (dk_at dksX3_init_1 18 rfl rfl)
theorem dX3_init_44 : decode cX3_init 44 = .ok (.aload_n 0, 1) := dk_42 (dk_at dksX3_init_1 21 rfl rfl)
theorem dX3_init_45 : decode cX3_init 45 = .ok (.bipush 8, 2) := dk_16 8 (dk_at dksX3_init_1 22 rfl rfl)
theorem dX3_init_47 : decode cX3_init 47 = .ok (.newarray .int, 2) := dk_188_10 (dk_at dksX3_init_2 0 rfl rfl)
theorem dX3_init_49 : decode cX3_init 49 = .ok (.putfield 27, 3) := dk_181 0 27 (dk_at dksX3_init_2 2 rfl rfl)
theorem dX3_init_52 : decode cX3_init 52 = .ok (.aload_n 0, 1) := dk_42 (dk_at dksX3_init_2 5 rfl rfl)
theorem dX3_init_53 : decode cX3_init 53 = .ok (.bipush 8, 2) := dk_16 8 (dk_at dksX3_init_2 6 rfl rfl)
theorem dX3_init_55 : decode cX3_init 55 = .ok (.newarray .int, 2) := dk_188_10 (dk_at dksX3_init_2 8 rfl rfl)
theorem dX3_init_57 : decode cX3_init 57 = .ok (.putfield 30, 3) := dk_181 0 30 (dk_at dksX3_init_2 10 rfl rfl)
theorem dX3_init_60 : decode cX3_init 60 = .ok (.aload_n 0, 1) := dk_42 (dk_at dksX3_init_2 13 rfl rfl)
theorem dX3_init_61 : decode cX3_init 61 = .ok (.bipush 8, 2) := dk_16 8 (dk_at dksX3_init_2 14 rfl rfl)
theorem dX3_init_63 : decode cX3_init 63 = .ok (.newarray .int, 2) := dk_188_10 (dk_at dksX3_init_2 16 rfl rfl)
theorem dX3_init_65 : decode cX3_init 65 = .ok (.putfield 33, 3) := dk_181 0 33 (dk_at dksX3_init_2 18 rfl rfl)
theorem dX3_init_68 : decode cX3_init 68 = .ok (.aload_n 0, 1) := dk_42 (dk_at dksX3_init_2 21 rfl rfl)
theorem dX3_init_69 : decode cX3_init 69 = .ok (.iconst (-1), 1) := dk_2 (dk_at dksX3_init_2 22 rfl rfl)
theorem dX3_init_70 : decode cX3_init 70 = .ok (.putfield 36, 3) := dk_181 0 36 (dk_at dksX3_init_3 0 rfl rfl)
theorem dX3_init_73 : decode cX3_init 73 = .ok (.return_, 1) := dk_177 (dk_at dksX3_init_3 3 rfl rfl)
abbrev cX3_begin : ByteArray := prog_10_method_2_code
def yX3_begin : MethodName := ⟨RX3, "begin", "(LTrunkLitters$Book;)LTrunkLitters$House;"⟩
def dkwX3_begin_8 : List UInt8 := [181, 0, 36, 42, 176]
abbrev dktX3_begin_8 : List UInt8 := dkwX3_begin_8 ++ []
def dkwX3_begin_7 : List UInt8 := [42, 43, 180, 0, 80, 181, 0, 83, 42, 3, 181, 0, 84, 42, 43, 180, 0, 87, 181, 0, 90, 42, 2]
abbrev dktX3_begin_7 : List UInt8 := dkwX3_begin_7 ++ dktX3_begin_8
def dkwX3_begin_6 : List UInt8 := [167, 0, 4, 3, 79, 42, 180, 0, 33, 28, 28, 79, 132, 2, 1, 167, 255, 117, 42, 16, 8, 181, 0, 77]
abbrev dktX3_begin_6 : List UInt8 := dkwX3_begin_6 ++ dktX3_begin_7
def dkwX3_begin_5 : List UInt8 := [180, 0, 21, 28, 29, 153, 0, 20, 43, 180, 0, 40, 28, 182, 0, 63, 192, 0, 67, 180, 0, 75]
abbrev dktX3_begin_5 : List UInt8 := dkwX3_begin_5 ++ dktX3_begin_6
def dkwX3_begin_4 : List UInt8 := [153, 0, 20, 43, 180, 0, 40, 28, 182, 0, 63, 192, 0, 67, 180, 0, 73, 167, 0, 4, 3, 79, 42]
abbrev dktX3_begin_4 : List UInt8 := dkwX3_begin_4 ++ dktX3_begin_5
def dkwX3_begin_3 : List UInt8 := [180, 0, 40, 28, 182, 0, 63, 192, 0, 67, 180, 0, 71, 167, 0, 4, 2, 79, 42, 180, 0, 18, 28, 29]
abbrev dktX3_begin_3 : List UInt8 := dkwX3_begin_3 ++ dktX3_begin_4
def dkwX3_begin_2 : List UInt8 := [182, 0, 63, 192, 0, 67, 180, 0, 69, 167, 0, 4, 3, 79, 42, 180, 0, 15, 28, 29, 153, 0, 20, 43]
abbrev dktX3_begin_2 : List UInt8 := dkwX3_begin_2 ++ dktX3_begin_3
def dkwX3_begin_1 : List UInt8 := [28, 182, 0, 55, 62, 42, 28, 182, 0, 59, 42, 180, 0, 9, 28, 29, 153, 0, 20, 43, 180, 0, 40, 28]
abbrev dktX3_begin_1 : List UInt8 := dkwX3_begin_1 ++ dktX3_begin_2
def dkwX3_begin_0 : List UInt8 := [42, 4, 43, 180, 0, 40, 182, 0, 46, 120, 4, 100, 181, 0, 52, 3, 61, 28, 16, 8, 162, 0, 139, 42]
abbrev dktX3_begin_0 : List UInt8 := dkwX3_begin_0 ++ dktX3_begin_1
theorem dksX3_begin_0 : cX3_begin.data.toList.drop 0 = dktX3_begin_0 := by decide +kernel
theorem dksX3_begin_1 : cX3_begin.data.toList.drop 24 = dktX3_begin_1 := dk_seg dksX3_begin_0 24 rfl rfl
theorem dksX3_begin_2 : cX3_begin.data.toList.drop 48 = dktX3_begin_2 := dk_seg dksX3_begin_1 24 rfl rfl
theorem dksX3_begin_3 : cX3_begin.data.toList.drop 72 = dktX3_begin_3 := dk_seg dksX3_begin_2 24 rfl rfl
theorem dksX3_begin_4 : cX3_begin.data.toList.drop 96 = dktX3_begin_4 := dk_seg dksX3_begin_3 24 rfl rfl
theorem dksX3_begin_5 : cX3_begin.data.toList.drop 119 = dktX3_begin_5 := dk_seg dksX3_begin_4 23 rfl rfl
theorem dksX3_begin_6 : cX3_begin.data.toList.drop 141 = dktX3_begin_6 := dk_seg dksX3_begin_5 22 rfl rfl
theorem dksX3_begin_7 : cX3_begin.data.toList.drop 165 = dktX3_begin_7 := dk_seg dksX3_begin_6 24 rfl rfl
theorem dksX3_begin_8 : cX3_begin.data.toList.drop 188 = dktX3_begin_8 := dk_seg dksX3_begin_7 23 rfl rfl
theorem dX3_begin_0 : decode cX3_begin 0 = .ok (.aload_n 0, 1) := dk_42 (dk_at dksX3_begin_0 0 rfl rfl)
theorem dX3_begin_1 : decode cX3_begin 1 = .ok (.iconst 1, 1) := dk_4 (dk_at dksX3_begin_0 1 rfl rfl)
theorem dX3_begin_2 : decode cX3_begin 2 = .ok (.aload_n 1, 1) := dk_43 (dk_at dksX3_begin_0 2 rfl rfl)
theorem dX3_begin_3 : decode cX3_begin 3 = .ok (.getfield 40, 3) := dk_180 0 40 (dk_at dksX3_begin_0 3 rfl rfl)
theorem dX3_begin_6 : decode cX3_begin 6 = .ok (.invokevirtual 46, 3) := dk_182 0 46 (dk_at dksX3_begin_0 6 rfl rfl)
theorem dX3_begin_9 : decode cX3_begin 9 = .ok (.ishl, 1) := dk_120 (dk_at dksX3_begin_0 9 rfl rfl)
theorem dX3_begin_10 : decode cX3_begin 10 = .ok (.iconst 1, 1) := dk_4 (dk_at dksX3_begin_0 10 rfl rfl)
theorem dX3_begin_11 : decode cX3_begin 11 = .ok (.isub, 1) := dk_100 (dk_at dksX3_begin_0 11 rfl rfl)
theorem dX3_begin_12 : decode cX3_begin 12 = .ok (.putfield 52, 3) := dk_181 0 52 (dk_at dksX3_begin_0 12 rfl rfl)
theorem dX3_begin_15 : decode cX3_begin 15 = .ok (.iconst 0, 1) := dk_3 (dk_at dksX3_begin_0 15 rfl rfl)
theorem dX3_begin_16 : decode cX3_begin 16 = .ok (.istore_n 2, 1) := dk_61 (dk_at dksX3_begin_0 16 rfl rfl)
theorem dX3_begin_17 : decode cX3_begin 17 = .ok (.iload_n 2, 1) := dk_28 (dk_at dksX3_begin_0 17 rfl rfl)
theorem dX3_begin_18 : decode cX3_begin 18 = .ok (.bipush 8, 2) := dk_16 8 (dk_at dksX3_begin_0 18 rfl rfl)
theorem dX3_begin_20 : decode cX3_begin 20 = .ok (.if_icmp .ge 139, 3) := dk_162 0 139 (dk_at dksX3_begin_0 20 rfl rfl)
theorem dX3_begin_23 : decode cX3_begin 23 = .ok (.aload_n 0, 1) := dk_42 (dk_at dksX3_begin_0 23 rfl rfl)
theorem dX3_begin_24 : decode cX3_begin 24 = .ok (.iload_n 2, 1) := dk_28 (dk_at dksX3_begin_1 0 rfl rfl)
theorem dX3_begin_25 : decode cX3_begin 25 = .ok (.invokevirtual 55, 3) := dk_182 0 55 (dk_at dksX3_begin_1 1 rfl rfl)
theorem dX3_begin_28 : decode cX3_begin 28 = .ok (.istore_n 3, 1) := dk_62 (dk_at dksX3_begin_1 4 rfl rfl)
theorem dX3_begin_29 : decode cX3_begin 29 = .ok (.aload_n 0, 1) := dk_42 (dk_at dksX3_begin_1 5 rfl rfl)
theorem dX3_begin_30 : decode cX3_begin 30 = .ok (.iload_n 2, 1) := dk_28 (dk_at dksX3_begin_1 6 rfl rfl)
theorem dX3_begin_31 : decode cX3_begin 31 = .ok (.invokevirtual 59, 3) := dk_182 0 59 (dk_at dksX3_begin_1 7 rfl rfl)
theorem dX3_begin_34 : decode cX3_begin 34 = .ok (.aload_n 0, 1) := dk_42 (dk_at dksX3_begin_1 10 rfl rfl)
theorem dX3_begin_35 : decode cX3_begin 35 = .ok (.getfield 9, 3) := dk_180 0 9 (dk_at dksX3_begin_1 11 rfl rfl)
theorem dX3_begin_38 : decode cX3_begin 38 = .ok (.iload_n 2, 1) := dk_28 (dk_at dksX3_begin_1 14 rfl rfl)
theorem dX3_begin_39 : decode cX3_begin 39 = .ok (.iload_n 3, 1) := dk_29 (dk_at dksX3_begin_1 15 rfl rfl)
theorem dX3_begin_40 : decode cX3_begin 40 = .ok (.ifCond .eq 20, 3) := dk_153 0 20 (dk_at dksX3_begin_1 16 rfl rfl)
theorem dX3_begin_43 : decode cX3_begin 43 = .ok (.aload_n 1, 1) := dk_43 (dk_at dksX3_begin_1 19 rfl rfl)
theorem dX3_begin_44 : decode cX3_begin 44 = .ok (.getfield 40, 3) := dk_180 0 40 (dk_at dksX3_begin_1 20 rfl rfl)
theorem dX3_begin_47 : decode cX3_begin 47 = .ok (.iload_n 2, 1) := dk_28 (dk_at dksX3_begin_1 23 rfl rfl)
theorem dX3_begin_48 : decode cX3_begin 48 = .ok (.invokevirtual 63, 3) := dk_182 0 63 (dk_at dksX3_begin_2 0 rfl rfl)
theorem dX3_begin_51 : decode cX3_begin 51 = .ok (.checkcast 67, 3) := dk_192 0 67 (dk_at dksX3_begin_2 3 rfl rfl)
theorem dX3_begin_54 : decode cX3_begin 54 = .ok (.getfield 69, 3) := dk_180 0 69 (dk_at dksX3_begin_2 6 rfl rfl)
theorem dX3_begin_57 : decode cX3_begin 57 = .ok (.goto 4, 3) := dk_167 0 4 (dk_at dksX3_begin_2 9 rfl rfl)
theorem dX3_begin_60 : decode cX3_begin 60 = .ok (.iconst 0, 1) := dk_3 (dk_at dksX3_begin_2 12 rfl rfl)
theorem dX3_begin_61 : decode cX3_begin 61 = .ok (.iastore, 1) := dk_79 (dk_at dksX3_begin_2 13 rfl rfl)
theorem dX3_begin_62 : decode cX3_begin 62 = .ok (.aload_n 0, 1) := dk_42 (dk_at dksX3_begin_2 14 rfl rfl)
theorem dX3_begin_63 : decode cX3_begin 63 = .ok (.getfield 15, 3) := dk_180 0 15 (dk_at dksX3_begin_2 15 rfl rfl)
theorem dX3_begin_66 : decode cX3_begin 66 = .ok (.iload_n 2, 1) := dk_28 (dk_at dksX3_begin_2 18 rfl rfl)
theorem dX3_begin_67 : decode cX3_begin 67 = .ok (.iload_n 3, 1) := dk_29 (dk_at dksX3_begin_2 19 rfl rfl)
theorem dX3_begin_68 : decode cX3_begin 68 = .ok (.ifCond .eq 20, 3) := dk_153 0 20 (dk_at dksX3_begin_2 20 rfl rfl)
theorem dX3_begin_71 : decode cX3_begin 71 = .ok (.aload_n 1, 1) := dk_43 (dk_at dksX3_begin_2 23 rfl rfl)
theorem dX3_begin_72 : decode cX3_begin 72 = .ok (.getfield 40, 3) := dk_180 0 40 (dk_at dksX3_begin_3 0 rfl rfl)
theorem dX3_begin_75 : decode cX3_begin 75 = .ok (.iload_n 2, 1) := dk_28 (dk_at dksX3_begin_3 3 rfl rfl)
theorem dX3_begin_76 : decode cX3_begin 76 = .ok (.invokevirtual 63, 3) := dk_182 0 63 (dk_at dksX3_begin_3 4 rfl rfl)
theorem dX3_begin_79 : decode cX3_begin 79 = .ok (.checkcast 67, 3) := dk_192 0 67 (dk_at dksX3_begin_3 7 rfl rfl)
theorem dX3_begin_82 : decode cX3_begin 82 = .ok (.getfield 71, 3) := dk_180 0 71 (dk_at dksX3_begin_3 10 rfl rfl)
theorem dX3_begin_85 : decode cX3_begin 85 = .ok (.goto 4, 3) := dk_167 0 4 (dk_at dksX3_begin_3 13 rfl rfl)
theorem dX3_begin_88 : decode cX3_begin 88 = .ok (.iconst (-1), 1) := dk_2 (dk_at dksX3_begin_3 16 rfl rfl)
theorem dX3_begin_89 : decode cX3_begin 89 = .ok (.iastore, 1) := dk_79 (dk_at dksX3_begin_3 17 rfl rfl)
theorem dX3_begin_90 : decode cX3_begin 90 = .ok (.aload_n 0, 1) := dk_42 (dk_at dksX3_begin_3 18 rfl rfl)
theorem dX3_begin_91 : decode cX3_begin 91 = .ok (.getfield 18, 3) := dk_180 0 18 (dk_at dksX3_begin_3 19 rfl rfl)
theorem dX3_begin_94 : decode cX3_begin 94 = .ok (.iload_n 2, 1) := dk_28 (dk_at dksX3_begin_3 22 rfl rfl)
theorem dX3_begin_95 : decode cX3_begin 95 = .ok (.iload_n 3, 1) := dk_29 (dk_at dksX3_begin_3 23 rfl rfl)
theorem dX3_begin_96 : decode cX3_begin 96 = .ok (.ifCond .eq 20, 3) := dk_153 0 20 (dk_at dksX3_begin_4 0 rfl rfl)
theorem dX3_begin_99 : decode cX3_begin 99 = .ok (.aload_n 1, 1) := dk_43 (dk_at dksX3_begin_4 3 rfl rfl)
theorem dX3_begin_100 : decode cX3_begin 100 = .ok (.getfield 40, 3) := dk_180 0 40 (dk_at dksX3_begin_4 4 rfl rfl)
theorem dX3_begin_103 : decode cX3_begin 103 = .ok (.iload_n 2, 1) := dk_28 (dk_at dksX3_begin_4 7 rfl rfl)
theorem dX3_begin_104 : decode cX3_begin 104 = .ok (.invokevirtual 63, 3) := dk_182 0 63 (dk_at dksX3_begin_4 8 rfl rfl)
theorem dX3_begin_107 : decode cX3_begin 107 = .ok (.checkcast 67, 3) := dk_192 0 67 (dk_at dksX3_begin_4 11 rfl rfl)
theorem dX3_begin_110 : decode cX3_begin 110 = .ok (.getfield 73, 3) := dk_180 0 73 (dk_at dksX3_begin_4 14 rfl rfl)
theorem dX3_begin_113 : decode cX3_begin 113 = .ok (.goto 4, 3) := dk_167 0 4 (dk_at dksX3_begin_4 17 rfl rfl)
theorem dX3_begin_116 : decode cX3_begin 116 = .ok (.iconst 0, 1) := dk_3 (dk_at dksX3_begin_4 20 rfl rfl)
theorem dX3_begin_117 : decode cX3_begin 117 = .ok (.iastore, 1) := dk_79 (dk_at dksX3_begin_4 21 rfl rfl)
theorem dX3_begin_118 : decode cX3_begin 118 = .ok (.aload_n 0, 1) := dk_42 (dk_at dksX3_begin_4 22 rfl rfl)
theorem dX3_begin_119 : decode cX3_begin 119 = .ok (.getfield 21, 3) := dk_180 0 21 (dk_at dksX3_begin_5 0 rfl rfl)
theorem dX3_begin_122 : decode cX3_begin 122 = .ok (.iload_n 2, 1) := dk_28 (dk_at dksX3_begin_5 3 rfl rfl)
theorem dX3_begin_123 : decode cX3_begin 123 = .ok (.iload_n 3, 1) := dk_29 (dk_at dksX3_begin_5 4 rfl rfl)
theorem dX3_begin_124 : decode cX3_begin 124 = .ok (.ifCond .eq 20, 3) := dk_153 0 20 (dk_at dksX3_begin_5 5 rfl rfl)
theorem dX3_begin_127 : decode cX3_begin 127 = .ok (.aload_n 1, 1) := dk_43 (dk_at dksX3_begin_5 8 rfl rfl)
theorem dX3_begin_128 : decode cX3_begin 128 = .ok (.getfield 40, 3) := dk_180 0 40 (dk_at dksX3_begin_5 9 rfl rfl)
theorem dX3_begin_131 : decode cX3_begin 131 = .ok (.iload_n 2, 1) := dk_28 (dk_at dksX3_begin_5 12 rfl rfl)
theorem dX3_begin_132 : decode cX3_begin 132 = .ok (.invokevirtual 63, 3) := dk_182 0 63 (dk_at dksX3_begin_5 13 rfl rfl)
theorem dX3_begin_135 : decode cX3_begin 135 = .ok (.checkcast 67, 3) := dk_192 0 67 (dk_at dksX3_begin_5 16 rfl rfl)
theorem dX3_begin_138 : decode cX3_begin 138 = .ok (.getfield 75, 3) := dk_180 0 75 (dk_at dksX3_begin_5 19 rfl rfl)
theorem dX3_begin_141 : decode cX3_begin 141 = .ok (.goto 4, 3) := dk_167 0 4 (dk_at dksX3_begin_6 0 rfl rfl)
theorem dX3_begin_144 : decode cX3_begin 144 = .ok (.iconst 0, 1) := dk_3 (dk_at dksX3_begin_6 3 rfl rfl)
theorem dX3_begin_145 : decode cX3_begin 145 = .ok (.iastore, 1) := dk_79 (dk_at dksX3_begin_6 4 rfl rfl)
theorem dX3_begin_146 : decode cX3_begin 146 = .ok (.aload_n 0, 1) := dk_42 (dk_at dksX3_begin_6 5 rfl rfl)
theorem dX3_begin_147 : decode cX3_begin 147 = .ok (.getfield 33, 3) := dk_180 0 33 (dk_at dksX3_begin_6 6 rfl rfl)
theorem dX3_begin_150 : decode cX3_begin 150 = .ok (.iload_n 2, 1) := dk_28 (dk_at dksX3_begin_6 9 rfl rfl)
theorem dX3_begin_151 : decode cX3_begin 151 = .ok (.iload_n 2, 1) := dk_28 (dk_at dksX3_begin_6 10 rfl rfl)
theorem dX3_begin_152 : decode cX3_begin 152 = .ok (.iastore, 1) := dk_79 (dk_at dksX3_begin_6 11 rfl rfl)
theorem dX3_begin_153 : decode cX3_begin 153 = .ok (.iinc 2 1, 3) := dk_132 2 1 (dk_at dksX3_begin_6 12 rfl rfl)
theorem dX3_begin_156 : decode cX3_begin 156 = .ok (.goto (-139), 3) := dk_167 255 117 (dk_at dksX3_begin_6 15 rfl rfl)
theorem dX3_begin_159 : decode cX3_begin 159 = .ok (.aload_n 0, 1) := dk_42 (dk_at dksX3_begin_6 18 rfl rfl)
theorem dX3_begin_160 : decode cX3_begin 160 = .ok (.bipush 8, 2) := dk_16 8 (dk_at dksX3_begin_6 19 rfl rfl)
theorem dX3_begin_162 : decode cX3_begin 162 = .ok (.putfield 77, 3) := dk_181 0 77 (dk_at dksX3_begin_6 21 rfl rfl)
theorem dX3_begin_165 : decode cX3_begin 165 = .ok (.aload_n 0, 1) := dk_42 (dk_at dksX3_begin_7 0 rfl rfl)
theorem dX3_begin_166 : decode cX3_begin 166 = .ok (.aload_n 1, 1) := dk_43 (dk_at dksX3_begin_7 1 rfl rfl)
theorem dX3_begin_167 : decode cX3_begin 167 = .ok (.getfield 80, 3) := dk_180 0 80 (dk_at dksX3_begin_7 2 rfl rfl)
theorem dX3_begin_170 : decode cX3_begin 170 = .ok (.putfield 83, 3) := dk_181 0 83 (dk_at dksX3_begin_7 5 rfl rfl)
theorem dX3_begin_173 : decode cX3_begin 173 = .ok (.aload_n 0, 1) := dk_42 (dk_at dksX3_begin_7 8 rfl rfl)
theorem dX3_begin_174 : decode cX3_begin 174 = .ok (.iconst 0, 1) := dk_3 (dk_at dksX3_begin_7 9 rfl rfl)
theorem dX3_begin_175 : decode cX3_begin 175 = .ok (.putfield 84, 3) := dk_181 0 84 (dk_at dksX3_begin_7 10 rfl rfl)
theorem dX3_begin_178 : decode cX3_begin 178 = .ok (.aload_n 0, 1) := dk_42 (dk_at dksX3_begin_7 13 rfl rfl)
theorem dX3_begin_179 : decode cX3_begin 179 = .ok (.aload_n 1, 1) := dk_43 (dk_at dksX3_begin_7 14 rfl rfl)
theorem dX3_begin_180 : decode cX3_begin 180 = .ok (.getfield 87, 3) := dk_180 0 87 (dk_at dksX3_begin_7 15 rfl rfl)
theorem dX3_begin_183 : decode cX3_begin 183 = .ok (.putfield 90, 3) := dk_181 0 90 (dk_at dksX3_begin_7 18 rfl rfl)
theorem dX3_begin_186 : decode cX3_begin 186 = .ok (.aload_n 0, 1) := dk_42 (dk_at dksX3_begin_7 21 rfl rfl)
theorem dX3_begin_187 : decode cX3_begin 187 = .ok (.iconst (-1), 1) := dk_2 (dk_at dksX3_begin_7 22 rfl rfl)
theorem dX3_begin_188 : decode cX3_begin 188 = .ok (.putfield 36, 3) := dk_181 0 36 (dk_at dksX3_begin_8 0 rfl rfl)
theorem dX3_begin_191 : decode cX3_begin 191 = .ok (.aload_n 0, 1) := dk_42 (dk_at dksX3_begin_8 3 rfl rfl)
theorem dX3_begin_192 : decode cX3_begin 192 = .ok (.areturn, 1) := dk_176 (dk_at dksX3_begin_8 4 rfl rfl)
abbrev cX3_has : ByteArray := prog_10_method_4_code
def yX3_has : MethodName := ⟨RX3, "has", "(I)Z"⟩
def dkwX3_has_0 : List UInt8 := [42, 180, 0, 52, 27, 122, 4, 126, 4, 160, 0, 7, 4, 167, 0, 4, 3, 172]
abbrev dktX3_has_0 : List UInt8 := dkwX3_has_0 ++ []
theorem dksX3_has_0 : cX3_has.data.toList.drop 0 = dktX3_has_0 := by decide +kernel
theorem dX3_has_0 : decode cX3_has 0 = .ok (.aload_n 0, 1) := dk_42 (dk_at dksX3_has_0 0 rfl rfl)
theorem dX3_has_1 : decode cX3_has 1 = .ok (.getfield 52, 3) := dk_180 0 52 (dk_at dksX3_has_0 1 rfl rfl)
theorem dX3_has_4 : decode cX3_has 4 = .ok (.iload_n 1, 1) := dk_27 (dk_at dksX3_has_0 4 rfl rfl)
theorem dX3_has_5 : decode cX3_has 5 = .ok (.ishr, 1) := dk_122 (dk_at dksX3_has_0 5 rfl rfl)
theorem dX3_has_6 : decode cX3_has 6 = .ok (.iconst 1, 1) := dk_4 (dk_at dksX3_has_0 6 rfl rfl)
theorem dX3_has_7 : decode cX3_has 7 = .ok (.iand, 1) := dk_126 (dk_at dksX3_has_0 7 rfl rfl)
theorem dX3_has_8 : decode cX3_has 8 = .ok (.iconst 1, 1) := dk_4 (dk_at dksX3_has_0 8 rfl rfl)
theorem dX3_has_9 : decode cX3_has 9 = .ok (.if_icmp .ne 7, 3) := dk_160 0 7 (dk_at dksX3_has_0 9 rfl rfl)
theorem dX3_has_12 : decode cX3_has 12 = .ok (.iconst 1, 1) := dk_4 (dk_at dksX3_has_0 12 rfl rfl)
theorem dX3_has_13 : decode cX3_has 13 = .ok (.goto 4, 3) := dk_167 0 4 (dk_at dksX3_has_0 13 rfl rfl)
theorem dX3_has_16 : decode cX3_has 16 = .ok (.iconst 0, 1) := dk_3 (dk_at dksX3_has_0 16 rfl rfl)
theorem dX3_has_17 : decode cX3_has 17 = .ok (.ireturn, 1) := dk_172 (dk_at dksX3_has_0 17 rfl rfl)
abbrev cX3_clear : ByteArray := prog_10_method_5_code
def yX3_clear : MethodName := ⟨RX3, "clear", "(I)V"⟩
def dkwX3_clear_2 : List UInt8 := [27, 2, 79, 177]
abbrev dktX3_clear_2 : List UInt8 := dkwX3_clear_2 ++ []
def dkwX3_clear_1 : List UInt8 := [180, 0, 21, 27, 3, 79, 42, 180, 0, 24, 27, 3, 79, 42, 180, 0, 27, 27, 2, 79, 42, 180, 0, 30]
abbrev dktX3_clear_1 : List UInt8 := dkwX3_clear_1 ++ dktX3_clear_2
def dkwX3_clear_0 : List UInt8 := [42, 180, 0, 9, 27, 3, 79, 42, 180, 0, 15, 27, 2, 79, 42, 180, 0, 18, 27, 3, 79, 42]
abbrev dktX3_clear_0 : List UInt8 := dkwX3_clear_0 ++ dktX3_clear_1
theorem dksX3_clear_0 : cX3_clear.data.toList.drop 0 = dktX3_clear_0 := by decide +kernel
theorem dksX3_clear_1 : cX3_clear.data.toList.drop 22 = dktX3_clear_1 := dk_seg dksX3_clear_0 22 rfl rfl
theorem dksX3_clear_2 : cX3_clear.data.toList.drop 46 = dktX3_clear_2 := dk_seg dksX3_clear_1 24 rfl rfl
theorem dX3_clear_0 : decode cX3_clear 0 = .ok (.aload_n 0, 1) := dk_42 (dk_at dksX3_clear_0 0 rfl rfl)
theorem dX3_clear_1 : decode cX3_clear 1 = .ok (.getfield 9, 3) := dk_180 0 9 (dk_at dksX3_clear_0 1 rfl rfl)
theorem dX3_clear_4 : decode cX3_clear 4 = .ok (.iload_n 1, 1) := dk_27 (dk_at dksX3_clear_0 4 rfl rfl)
theorem dX3_clear_5 : decode cX3_clear 5 = .ok (.iconst 0, 1) := dk_3 (dk_at dksX3_clear_0 5 rfl rfl)
theorem dX3_clear_6 : decode cX3_clear 6 = .ok (.iastore, 1) := dk_79 (dk_at dksX3_clear_0 6 rfl rfl)
theorem dX3_clear_7 : decode cX3_clear 7 = .ok (.aload_n 0, 1) := dk_42 (dk_at dksX3_clear_0 7 rfl rfl)
theorem dX3_clear_8 : decode cX3_clear 8 = .ok (.getfield 15, 3) := dk_180 0 15 (dk_at dksX3_clear_0 8 rfl rfl)
theorem dX3_clear_11 : decode cX3_clear 11 = .ok (.iload_n 1, 1) := dk_27 (dk_at dksX3_clear_0 11 rfl rfl)
theorem dX3_clear_12 : decode cX3_clear 12 = .ok (.iconst (-1), 1) := dk_2 (dk_at dksX3_clear_0 12 rfl rfl)
theorem dX3_clear_13 : decode cX3_clear 13 = .ok (.iastore, 1) := dk_79 (dk_at dksX3_clear_0 13 rfl rfl)
theorem dX3_clear_14 : decode cX3_clear 14 = .ok (.aload_n 0, 1) := dk_42 (dk_at dksX3_clear_0 14 rfl rfl)
theorem dX3_clear_15 : decode cX3_clear 15 = .ok (.getfield 18, 3) := dk_180 0 18 (dk_at dksX3_clear_0 15 rfl rfl)
theorem dX3_clear_18 : decode cX3_clear 18 = .ok (.iload_n 1, 1) := dk_27 (dk_at dksX3_clear_0 18 rfl rfl)
theorem dX3_clear_19 : decode cX3_clear 19 = .ok (.iconst 0, 1) := dk_3 (dk_at dksX3_clear_0 19 rfl rfl)
theorem dX3_clear_20 : decode cX3_clear 20 = .ok (.iastore, 1) := dk_79 (dk_at dksX3_clear_0 20 rfl rfl)
theorem dX3_clear_21 : decode cX3_clear 21 = .ok (.aload_n 0, 1) := dk_42 (dk_at dksX3_clear_0 21 rfl rfl)
theorem dX3_clear_22 : decode cX3_clear 22 = .ok (.getfield 21, 3) := dk_180 0 21 (dk_at dksX3_clear_1 0 rfl rfl)
theorem dX3_clear_25 : decode cX3_clear 25 = .ok (.iload_n 1, 1) := dk_27 (dk_at dksX3_clear_1 3 rfl rfl)
theorem dX3_clear_26 : decode cX3_clear 26 = .ok (.iconst 0, 1) := dk_3 (dk_at dksX3_clear_1 4 rfl rfl)
theorem dX3_clear_27 : decode cX3_clear 27 = .ok (.iastore, 1) := dk_79 (dk_at dksX3_clear_1 5 rfl rfl)
theorem dX3_clear_28 : decode cX3_clear 28 = .ok (.aload_n 0, 1) := dk_42 (dk_at dksX3_clear_1 6 rfl rfl)
theorem dX3_clear_29 : decode cX3_clear 29 = .ok (.getfield 24, 3) := dk_180 0 24 (dk_at dksX3_clear_1 7 rfl rfl)
theorem dX3_clear_32 : decode cX3_clear 32 = .ok (.iload_n 1, 1) := dk_27 (dk_at dksX3_clear_1 10 rfl rfl)
theorem dX3_clear_33 : decode cX3_clear 33 = .ok (.iconst 0, 1) := dk_3 (dk_at dksX3_clear_1 11 rfl rfl)
theorem dX3_clear_34 : decode cX3_clear 34 = .ok (.iastore, 1) := dk_79 (dk_at dksX3_clear_1 12 rfl rfl)
theorem dX3_clear_35 : decode cX3_clear 35 = .ok (.aload_n 0, 1) := dk_42 (dk_at dksX3_clear_1 13 rfl rfl)
theorem dX3_clear_36 : decode cX3_clear 36 = .ok (.getfield 27, 3) := dk_180 0 27 (dk_at dksX3_clear_1 14 rfl rfl)
theorem dX3_clear_39 : decode cX3_clear 39 = .ok (.iload_n 1, 1) := dk_27 (dk_at dksX3_clear_1 17 rfl rfl)
theorem dX3_clear_40 : decode cX3_clear 40 = .ok (.iconst (-1), 1) := dk_2 (dk_at dksX3_clear_1 18 rfl rfl)
theorem dX3_clear_41 : decode cX3_clear 41 = .ok (.iastore, 1) := dk_79 (dk_at dksX3_clear_1 19 rfl rfl)
theorem dX3_clear_42 : decode cX3_clear 42 = .ok (.aload_n 0, 1) := dk_42 (dk_at dksX3_clear_1 20 rfl rfl)
theorem dX3_clear_43 : decode cX3_clear 43 = .ok (.getfield 30, 3) := dk_180 0 30 (dk_at dksX3_clear_1 21 rfl rfl)
theorem dX3_clear_46 : decode cX3_clear 46 = .ok (.iload_n 1, 1) := dk_27 (dk_at dksX3_clear_2 0 rfl rfl)
theorem dX3_clear_47 : decode cX3_clear 47 = .ok (.iconst (-1), 1) := dk_2 (dk_at dksX3_clear_2 1 rfl rfl)
theorem dX3_clear_48 : decode cX3_clear 48 = .ok (.iastore, 1) := dk_79 (dk_at dksX3_clear_2 2 rfl rfl)
theorem dX3_clear_49 : decode cX3_clear 49 = .ok (.return_, 1) := dk_177 (dk_at dksX3_clear_2 3 rfl rfl)
abbrev cX3_left : ByteArray := prog_10_method_9_code
def yX3_left : MethodName := ⟨RX3, "left", "(LTrunkLitters$Book;I)I"⟩
def dkwX3_left_1 : List UInt8 := [172]
abbrev dktX3_left_1 : List UInt8 := dkwX3_left_1 ++ []
def dkwX3_left_0 : List UInt8 := [43, 180, 0, 97, 28, 182, 0, 63, 192, 0, 100, 180, 0, 102, 42, 42, 28, 182, 0, 105, 182, 0, 109, 100]
abbrev dktX3_left_0 : List UInt8 := dkwX3_left_0 ++ dktX3_left_1
theorem dksX3_left_0 : cX3_left.data.toList.drop 0 = dktX3_left_0 := by decide +kernel
theorem dksX3_left_1 : cX3_left.data.toList.drop 24 = dktX3_left_1 := dk_seg dksX3_left_0 24 rfl rfl
theorem dX3_left_0 : decode cX3_left 0 = .ok (.aload_n 1, 1) := dk_43 (dk_at dksX3_left_0 0 rfl rfl)
theorem dX3_left_1 : decode cX3_left 1 = .ok (.getfield 97, 3) := dk_180 0 97 (dk_at dksX3_left_0 1 rfl rfl)
theorem dX3_left_4 : decode cX3_left 4 = .ok (.iload_n 2, 1) := dk_28 (dk_at dksX3_left_0 4 rfl rfl)
theorem dX3_left_5 : decode cX3_left 5 = .ok (.invokevirtual 63, 3) := dk_182 0 63 (dk_at dksX3_left_0 5 rfl rfl)
theorem dX3_left_8 : decode cX3_left 8 = .ok (.checkcast 100, 3) := dk_192 0 100 (dk_at dksX3_left_0 8 rfl rfl)
theorem dX3_left_11 : decode cX3_left 11 = .ok (.getfield 102, 3) := dk_180 0 102 (dk_at dksX3_left_0 11 rfl rfl)
theorem dX3_left_14 : decode cX3_left 14 = .ok (.aload_n 0, 1) := dk_42 (dk_at dksX3_left_0 14 rfl rfl)
theorem dX3_left_15 : decode cX3_left 15 = .ok (.aload_n 0, 1) := dk_42 (dk_at dksX3_left_0 15 rfl rfl)
theorem dX3_left_16 : decode cX3_left 16 = .ok (.iload_n 2, 1) := dk_28 (dk_at dksX3_left_0 16 rfl rfl)
theorem dX3_left_17 : decode cX3_left 17 = .ok (.invokevirtual 105, 3) := dk_182 0 105 (dk_at dksX3_left_0 17 rfl rfl)
theorem dX3_left_20 : decode cX3_left 20 = .ok (.invokevirtual 109, 3) := dk_182 0 109 (dk_at dksX3_left_0 20 rfl rfl)
theorem dX3_left_23 : decode cX3_left 23 = .ok (.isub, 1) := dk_100 (dk_at dksX3_left_0 23 rfl rfl)
theorem dX3_left_24 : decode cX3_left 24 = .ok (.ireturn, 1) := dk_172 (dk_at dksX3_left_1 0 rfl rfl)
abbrev cX3_in : ByteArray := prog_10_method_7_code
def yX3_in : MethodName := ⟨RX3, "in", "(I)I"⟩
def dkwX3_in_1 : List UInt8 := [46, 27, 160, 0, 9, 4, 29, 120, 167, 0, 4, 3, 128, 61, 132, 3, 1, 167, 255, 219, 28, 172]
abbrev dktX3_in_1 : List UInt8 := dkwX3_in_1 ++ []
def dkwX3_in_0 : List UInt8 := [3, 61, 3, 62, 29, 16, 8, 162, 0, 37, 28, 42, 29, 182, 0, 55, 153, 0, 19, 42, 180, 0, 15, 29]
abbrev dktX3_in_0 : List UInt8 := dkwX3_in_0 ++ dktX3_in_1
theorem dksX3_in_0 : cX3_in.data.toList.drop 0 = dktX3_in_0 := by decide +kernel
theorem dksX3_in_1 : cX3_in.data.toList.drop 24 = dktX3_in_1 := dk_seg dksX3_in_0 24 rfl rfl
theorem dX3_in_0 : decode cX3_in 0 = .ok (.iconst 0, 1) := dk_3 (dk_at dksX3_in_0 0 rfl rfl)
theorem dX3_in_1 : decode cX3_in 1 = .ok (.istore_n 2, 1) := dk_61 (dk_at dksX3_in_0 1 rfl rfl)
theorem dX3_in_2 : decode cX3_in 2 = .ok (.iconst 0, 1) := dk_3 (dk_at dksX3_in_0 2 rfl rfl)
theorem dX3_in_3 : decode cX3_in 3 = .ok (.istore_n 3, 1) := dk_62 (dk_at dksX3_in_0 3 rfl rfl)
theorem dX3_in_4 : decode cX3_in 4 = .ok (.iload_n 3, 1) := dk_29 (dk_at dksX3_in_0 4 rfl rfl)
theorem dX3_in_5 : decode cX3_in 5 = .ok (.bipush 8, 2) := dk_16 8 (dk_at dksX3_in_0 5 rfl rfl)
theorem dX3_in_7 : decode cX3_in 7 = .ok (.if_icmp .ge 37, 3) := dk_162 0 37 (dk_at dksX3_in_0 7 rfl rfl)
theorem dX3_in_10 : decode cX3_in 10 = .ok (.iload_n 2, 1) := dk_28 (dk_at dksX3_in_0 10 rfl rfl)
theorem dX3_in_11 : decode cX3_in 11 = .ok (.aload_n 0, 1) := dk_42 (dk_at dksX3_in_0 11 rfl rfl)
theorem dX3_in_12 : decode cX3_in 12 = .ok (.iload_n 3, 1) := dk_29 (dk_at dksX3_in_0 12 rfl rfl)
theorem dX3_in_13 : decode cX3_in 13 = .ok (.invokevirtual 55, 3) := dk_182 0 55 (dk_at dksX3_in_0 13 rfl rfl)
theorem dX3_in_16 : decode cX3_in 16 = .ok (.ifCond .eq 19, 3) := dk_153 0 19 (dk_at dksX3_in_0 16 rfl rfl)
theorem dX3_in_19 : decode cX3_in 19 = .ok (.aload_n 0, 1) := dk_42 (dk_at dksX3_in_0 19 rfl rfl)
theorem dX3_in_20 : decode cX3_in 20 = .ok (.getfield 15, 3) := dk_180 0 15 (dk_at dksX3_in_0 20 rfl rfl)
theorem dX3_in_23 : decode cX3_in 23 = .ok (.iload_n 3, 1) := dk_29 (dk_at dksX3_in_0 23 rfl rfl)
theorem dX3_in_24 : decode cX3_in 24 = .ok (.iaload, 1) := dk_46 (dk_at dksX3_in_1 0 rfl rfl)
theorem dX3_in_25 : decode cX3_in 25 = .ok (.iload_n 1, 1) := dk_27 (dk_at dksX3_in_1 1 rfl rfl)
theorem dX3_in_26 : decode cX3_in 26 = .ok (.if_icmp .ne 9, 3) := dk_160 0 9 (dk_at dksX3_in_1 2 rfl rfl)
theorem dX3_in_29 : decode cX3_in 29 = .ok (.iconst 1, 1) := dk_4 (dk_at dksX3_in_1 5 rfl rfl)
theorem dX3_in_30 : decode cX3_in 30 = .ok (.iload_n 3, 1) := dk_29 (dk_at dksX3_in_1 6 rfl rfl)
theorem dX3_in_31 : decode cX3_in 31 = .ok (.ishl, 1) := dk_120 (dk_at dksX3_in_1 7 rfl rfl)
theorem dX3_in_32 : decode cX3_in 32 = .ok (.goto 4, 3) := dk_167 0 4 (dk_at dksX3_in_1 8 rfl rfl)
theorem dX3_in_35 : decode cX3_in 35 = .ok (.iconst 0, 1) := dk_3 (dk_at dksX3_in_1 11 rfl rfl)
theorem dX3_in_36 : decode cX3_in 36 = .ok (.ior, 1) := dk_128 (dk_at dksX3_in_1 12 rfl rfl)
theorem dX3_in_37 : decode cX3_in 37 = .ok (.istore_n 2, 1) := dk_61 (dk_at dksX3_in_1 13 rfl rfl)
theorem dX3_in_38 : decode cX3_in 38 = .ok (.iinc 3 1, 3) := dk_132 3 1 (dk_at dksX3_in_1 14 rfl rfl)
theorem dX3_in_41 : decode cX3_in 41 = .ok (.goto (-37), 3) := dk_167 255 219 (dk_at dksX3_in_1 17 rfl rfl)
theorem dX3_in_44 : decode cX3_in 44 = .ok (.iload_n 2, 1) := dk_28 (dk_at dksX3_in_1 20 rfl rfl)
theorem dX3_in_45 : decode cX3_in 45 = .ok (.ireturn, 1) := dk_172 (dk_at dksX3_in_1 21 rfl rfl)
abbrev cX3_bulkOf : ByteArray := prog_10_method_8_code
def yX3_bulkOf : MethodName := ⟨RX3, "bulkOf", "(I)I"⟩
def dkwX3_bulkOf_1 : List UInt8 := [29, 46, 167, 0, 4, 3, 96, 61, 132, 3, 1, 167, 255, 225, 28, 172]
abbrev dktX3_bulkOf_1 : List UInt8 := dkwX3_bulkOf_1 ++ []
def dkwX3_bulkOf_0 : List UInt8 := [3, 61, 3, 62, 29, 16, 8, 162, 0, 31, 28, 27, 29, 122, 4, 126, 4, 160, 0, 12, 42, 180, 0, 9]
abbrev dktX3_bulkOf_0 : List UInt8 := dkwX3_bulkOf_0 ++ dktX3_bulkOf_1
theorem dksX3_bulkOf_0 : cX3_bulkOf.data.toList.drop 0 = dktX3_bulkOf_0 := by decide +kernel
theorem dksX3_bulkOf_1 : cX3_bulkOf.data.toList.drop 24 = dktX3_bulkOf_1 := dk_seg dksX3_bulkOf_0 24 rfl rfl
theorem dX3_bulkOf_0 : decode cX3_bulkOf 0 = .ok (.iconst 0, 1) := dk_3 (dk_at dksX3_bulkOf_0 0 rfl rfl)
theorem dX3_bulkOf_1 : decode cX3_bulkOf 1 = .ok (.istore_n 2, 1) := dk_61 (dk_at dksX3_bulkOf_0 1 rfl rfl)
theorem dX3_bulkOf_2 : decode cX3_bulkOf 2 = .ok (.iconst 0, 1) := dk_3 (dk_at dksX3_bulkOf_0 2 rfl rfl)
theorem dX3_bulkOf_3 : decode cX3_bulkOf 3 = .ok (.istore_n 3, 1) := dk_62 (dk_at dksX3_bulkOf_0 3 rfl rfl)
theorem dX3_bulkOf_4 : decode cX3_bulkOf 4 = .ok (.iload_n 3, 1) := dk_29 (dk_at dksX3_bulkOf_0 4 rfl rfl)
theorem dX3_bulkOf_5 : decode cX3_bulkOf 5 = .ok (.bipush 8, 2) := dk_16 8 (dk_at dksX3_bulkOf_0 5 rfl rfl)
theorem dX3_bulkOf_7 : decode cX3_bulkOf 7 = .ok (.if_icmp .ge 31, 3) := dk_162 0 31 (dk_at dksX3_bulkOf_0 7 rfl rfl)
theorem dX3_bulkOf_10 : decode cX3_bulkOf 10 = .ok (.iload_n 2, 1) := dk_28 (dk_at dksX3_bulkOf_0 10 rfl rfl)
theorem dX3_bulkOf_11 : decode cX3_bulkOf 11 = .ok (.iload_n 1, 1) := dk_27 (dk_at dksX3_bulkOf_0 11 rfl rfl)
theorem dX3_bulkOf_12 : decode cX3_bulkOf 12 = .ok (.iload_n 3, 1) := dk_29 (dk_at dksX3_bulkOf_0 12 rfl rfl)
theorem dX3_bulkOf_13 : decode cX3_bulkOf 13 = .ok (.ishr, 1) := dk_122 (dk_at dksX3_bulkOf_0 13 rfl rfl)
theorem dX3_bulkOf_14 : decode cX3_bulkOf 14 = .ok (.iconst 1, 1) := dk_4 (dk_at dksX3_bulkOf_0 14 rfl rfl)
theorem dX3_bulkOf_15 : decode cX3_bulkOf 15 = .ok (.iand, 1) := dk_126 (dk_at dksX3_bulkOf_0 15 rfl rfl)
theorem dX3_bulkOf_16 : decode cX3_bulkOf 16 = .ok (.iconst 1, 1) := dk_4 (dk_at dksX3_bulkOf_0 16 rfl rfl)
theorem dX3_bulkOf_17 : decode cX3_bulkOf 17 = .ok (.if_icmp .ne 12, 3) := dk_160 0 12 (dk_at dksX3_bulkOf_0 17 rfl rfl)
theorem dX3_bulkOf_20 : decode cX3_bulkOf 20 = .ok (.aload_n 0, 1) := dk_42 (dk_at dksX3_bulkOf_0 20 rfl rfl)
theorem dX3_bulkOf_21 : decode cX3_bulkOf 21 = .ok (.getfield 9, 3) := dk_180 0 9 (dk_at dksX3_bulkOf_0 21 rfl rfl)
theorem dX3_bulkOf_24 : decode cX3_bulkOf 24 = .ok (.iload_n 3, 1) := dk_29 (dk_at dksX3_bulkOf_1 0 rfl rfl)
theorem dX3_bulkOf_25 : decode cX3_bulkOf 25 = .ok (.iaload, 1) := dk_46 (dk_at dksX3_bulkOf_1 1 rfl rfl)
theorem dX3_bulkOf_26 : decode cX3_bulkOf 26 = .ok (.goto 4, 3) := dk_167 0 4 (dk_at dksX3_bulkOf_1 2 rfl rfl)
theorem dX3_bulkOf_29 : decode cX3_bulkOf 29 = .ok (.iconst 0, 1) := dk_3 (dk_at dksX3_bulkOf_1 5 rfl rfl)
theorem dX3_bulkOf_30 : decode cX3_bulkOf 30 = .ok (.iadd, 1) := dk_96 (dk_at dksX3_bulkOf_1 6 rfl rfl)
theorem dX3_bulkOf_31 : decode cX3_bulkOf 31 = .ok (.istore_n 2, 1) := dk_61 (dk_at dksX3_bulkOf_1 7 rfl rfl)
theorem dX3_bulkOf_32 : decode cX3_bulkOf 32 = .ok (.iinc 3 1, 3) := dk_132 3 1 (dk_at dksX3_bulkOf_1 8 rfl rfl)
theorem dX3_bulkOf_35 : decode cX3_bulkOf 35 = .ok (.goto (-31), 3) := dk_167 255 225 (dk_at dksX3_bulkOf_1 11 rfl rfl)
theorem dX3_bulkOf_38 : decode cX3_bulkOf 38 = .ok (.iload_n 2, 1) := dk_28 (dk_at dksX3_bulkOf_1 14 rfl rfl)
theorem dX3_bulkOf_39 : decode cX3_bulkOf 39 = .ok (.ireturn, 1) := dk_172 (dk_at dksX3_bulkOf_1 15 rfl rfl)
abbrev cX3_broodOf : ByteArray := prog_10_method_10_code
def yX3_broodOf : MethodName := ⟨RX3, "broodOf", "(LTrunkLitters$Book;II)I"⟩
def dkwX3_broodOf_4 : List UInt8 := [180, 0, 137, 100, 167, 0, 14, 43, 180, 0, 141, 25, 4, 185, 0, 145, 2, 0, 172]
abbrev dktX3_broodOf_4 : List UInt8 := dkwX3_broodOf_4 ++ []
def dkwX3_broodOf_3 : List UInt8 := [25, 4, 42, 180, 0, 84, 181, 0, 140, 43, 180, 0, 141, 199, 0, 17, 25, 4, 180, 0, 123, 25, 4]
abbrev dktX3_broodOf_3 : List UInt8 := dkwX3_broodOf_3 ++ dktX3_broodOf_4
def dkwX3_broodOf_2 : List UInt8 := [42, 180, 0, 15, 28, 46, 182, 0, 126, 181, 0, 130, 25, 4, 42, 180, 0, 52, 184, 0, 132, 181, 0, 137]
abbrev dktX3_broodOf_2 : List UInt8 := dkwX3_broodOf_2 ++ dktX3_broodOf_3
def dkwX3_broodOf_1 : List UInt8 := [25, 4, 42, 180, 0, 18, 28, 46, 42, 180, 0, 18, 29, 46, 184, 0, 119, 181, 0, 123, 25, 4, 42, 43]
abbrev dktX3_broodOf_1 : List UInt8 := dkwX3_broodOf_1 ++ dktX3_broodOf_2
def dkwX3_broodOf_0 : List UInt8 := [43, 180, 0, 112, 58, 4, 25, 4, 42, 180, 0, 9, 28, 46, 42, 180, 0, 9, 29, 46, 96, 181, 0, 116]
abbrev dktX3_broodOf_0 : List UInt8 := dkwX3_broodOf_0 ++ dktX3_broodOf_1
theorem dksX3_broodOf_0 : cX3_broodOf.data.toList.drop 0 = dktX3_broodOf_0 := by decide +kernel
theorem dksX3_broodOf_1 : cX3_broodOf.data.toList.drop 24 = dktX3_broodOf_1 := dk_seg dksX3_broodOf_0 24 rfl rfl
theorem dksX3_broodOf_2 : cX3_broodOf.data.toList.drop 48 = dktX3_broodOf_2 := dk_seg dksX3_broodOf_1 24 rfl rfl
theorem dksX3_broodOf_3 : cX3_broodOf.data.toList.drop 72 = dktX3_broodOf_3 := dk_seg dksX3_broodOf_2 24 rfl rfl
theorem dksX3_broodOf_4 : cX3_broodOf.data.toList.drop 95 = dktX3_broodOf_4 := dk_seg dksX3_broodOf_3 23 rfl rfl
theorem dX3_broodOf_0 : decode cX3_broodOf 0 = .ok (.aload_n 1, 1) := dk_43 (dk_at dksX3_broodOf_0 0 rfl rfl)
theorem dX3_broodOf_1 : decode cX3_broodOf 1 = .ok (.getfield 112, 3) := dk_180 0 112 (dk_at dksX3_broodOf_0 1 rfl rfl)
theorem dX3_broodOf_4 : decode cX3_broodOf 4 = .ok (.astore 4, 2) := dk_58 4 (dk_at dksX3_broodOf_0 4 rfl rfl)
theorem dX3_broodOf_6 : decode cX3_broodOf 6 = .ok (.aload 4, 2) := dk_25 4 (dk_at dksX3_broodOf_0 6 rfl rfl)
theorem dX3_broodOf_8 : decode cX3_broodOf 8 = .ok (.aload_n 0, 1) := dk_42 (dk_at dksX3_broodOf_0 8 rfl rfl)
theorem dX3_broodOf_9 : decode cX3_broodOf 9 = .ok (.getfield 9, 3) := dk_180 0 9 (dk_at dksX3_broodOf_0 9 rfl rfl)
theorem dX3_broodOf_12 : decode cX3_broodOf 12 = .ok (.iload_n 2, 1) := dk_28 (dk_at dksX3_broodOf_0 12 rfl rfl)
theorem dX3_broodOf_13 : decode cX3_broodOf 13 = .ok (.iaload, 1) := dk_46 (dk_at dksX3_broodOf_0 13 rfl rfl)
theorem dX3_broodOf_14 : decode cX3_broodOf 14 = .ok (.aload_n 0, 1) := dk_42 (dk_at dksX3_broodOf_0 14 rfl rfl)
theorem dX3_broodOf_15 : decode cX3_broodOf 15 = .ok (.getfield 9, 3) := dk_180 0 9 (dk_at dksX3_broodOf_0 15 rfl rfl)
theorem dX3_broodOf_18 : decode cX3_broodOf 18 = .ok (.iload_n 3, 1) := dk_29 (dk_at dksX3_broodOf_0 18 rfl rfl)
theorem dX3_broodOf_19 : decode cX3_broodOf 19 = .ok (.iaload, 1) := dk_46 (dk_at dksX3_broodOf_0 19 rfl rfl)
theorem dX3_broodOf_20 : decode cX3_broodOf 20 = .ok (.iadd, 1) := dk_96 (dk_at dksX3_broodOf_0 20 rfl rfl)
theorem dX3_broodOf_21 : decode cX3_broodOf 21 = .ok (.putfield 116, 3) := dk_181 0 116 (dk_at dksX3_broodOf_0 21 rfl rfl)
theorem dX3_broodOf_24 : decode cX3_broodOf 24 = .ok (.aload 4, 2) := dk_25 4 (dk_at dksX3_broodOf_1 0 rfl rfl)
theorem dX3_broodOf_26 : decode cX3_broodOf 26 = .ok (.aload_n 0, 1) := dk_42 (dk_at dksX3_broodOf_1 2 rfl rfl)
theorem dX3_broodOf_27 : decode cX3_broodOf 27 = .ok (.getfield 18, 3) := dk_180 0 18 (dk_at dksX3_broodOf_1 3 rfl rfl)
theorem dX3_broodOf_30 : decode cX3_broodOf 30 = .ok (.iload_n 2, 1) := dk_28 (dk_at dksX3_broodOf_1 6 rfl rfl)
theorem dX3_broodOf_31 : decode cX3_broodOf 31 = .ok (.iaload, 1) := dk_46 (dk_at dksX3_broodOf_1 7 rfl rfl)
theorem dX3_broodOf_32 : decode cX3_broodOf 32 = .ok (.aload_n 0, 1) := dk_42 (dk_at dksX3_broodOf_1 8 rfl rfl)
theorem dX3_broodOf_33 : decode cX3_broodOf 33 = .ok (.getfield 18, 3) := dk_180 0 18 (dk_at dksX3_broodOf_1 9 rfl rfl)
theorem dX3_broodOf_36 : decode cX3_broodOf 36 = .ok (.iload_n 3, 1) := dk_29 (dk_at dksX3_broodOf_1 12 rfl rfl)
theorem dX3_broodOf_37 : decode cX3_broodOf 37 = .ok (.iaload, 1) := dk_46 (dk_at dksX3_broodOf_1 13 rfl rfl)
theorem dX3_broodOf_38 : decode cX3_broodOf 38 = .ok (.invokestatic 119, 3) := dk_184 0 119 (dk_at dksX3_broodOf_1 14 rfl rfl)
theorem dX3_broodOf_41 : decode cX3_broodOf 41 = .ok (.putfield 123, 3) := dk_181 0 123 (dk_at dksX3_broodOf_1 17 rfl rfl)
theorem dX3_broodOf_44 : decode cX3_broodOf 44 = .ok (.aload 4, 2) := dk_25 4 (dk_at dksX3_broodOf_1 20 rfl rfl)
theorem dX3_broodOf_46 : decode cX3_broodOf 46 = .ok (.aload_n 0, 1) := dk_42 (dk_at dksX3_broodOf_1 22 rfl rfl)
theorem dX3_broodOf_47 : decode cX3_broodOf 47 = .ok (.aload_n 1, 1) := dk_43 (dk_at dksX3_broodOf_1 23 rfl rfl)
theorem dX3_broodOf_48 : decode cX3_broodOf 48 = .ok (.aload_n 0, 1) := dk_42 (dk_at dksX3_broodOf_2 0 rfl rfl)
theorem dX3_broodOf_49 : decode cX3_broodOf 49 = .ok (.getfield 15, 3) := dk_180 0 15 (dk_at dksX3_broodOf_2 1 rfl rfl)
theorem dX3_broodOf_52 : decode cX3_broodOf 52 = .ok (.iload_n 2, 1) := dk_28 (dk_at dksX3_broodOf_2 4 rfl rfl)
theorem dX3_broodOf_53 : decode cX3_broodOf 53 = .ok (.iaload, 1) := dk_46 (dk_at dksX3_broodOf_2 5 rfl rfl)
theorem dX3_broodOf_54 : decode cX3_broodOf 54 = .ok (.invokevirtual 126, 3) := dk_182 0 126 (dk_at dksX3_broodOf_2 6 rfl rfl)
theorem dX3_broodOf_57 : decode cX3_broodOf 57 = .ok (.putfield 130, 3) := dk_181 0 130 (dk_at dksX3_broodOf_2 9 rfl rfl)
theorem dX3_broodOf_60 : decode cX3_broodOf 60 = .ok (.aload 4, 2) := dk_25 4 (dk_at dksX3_broodOf_2 12 rfl rfl)
theorem dX3_broodOf_62 : decode cX3_broodOf 62 = .ok (.aload_n 0, 1) := dk_42 (dk_at dksX3_broodOf_2 14 rfl rfl)
theorem dX3_broodOf_63 : decode cX3_broodOf 63 = .ok (.getfield 52, 3) := dk_180 0 52 (dk_at dksX3_broodOf_2 15 rfl rfl)
theorem dX3_broodOf_66 : decode cX3_broodOf 66 = .ok (.invokestatic 132, 3) := dk_184 0 132 (dk_at dksX3_broodOf_2 18 rfl rfl)
theorem dX3_broodOf_69 : decode cX3_broodOf 69 = .ok (.putfield 137, 3) := dk_181 0 137 (dk_at dksX3_broodOf_2 21 rfl rfl)
theorem dX3_broodOf_72 : decode cX3_broodOf 72 = .ok (.aload 4, 2) := dk_25 4 (dk_at dksX3_broodOf_3 0 rfl rfl)
theorem dX3_broodOf_74 : decode cX3_broodOf 74 = .ok (.aload_n 0, 1) := dk_42 (dk_at dksX3_broodOf_3 2 rfl rfl)
theorem dX3_broodOf_75 : decode cX3_broodOf 75 = .ok (.getfield 84, 3) := dk_180 0 84 (dk_at dksX3_broodOf_3 3 rfl rfl)
theorem dX3_broodOf_78 : decode cX3_broodOf 78 = .ok (.putfield 140, 3) := dk_181 0 140 (dk_at dksX3_broodOf_3 6 rfl rfl)
theorem dX3_broodOf_81 : decode cX3_broodOf 81 = .ok (.aload_n 1, 1) := dk_43 (dk_at dksX3_broodOf_3 9 rfl rfl)
theorem dX3_broodOf_82 : decode cX3_broodOf 82 = .ok (.getfield 141, 3) := dk_180 0 141 (dk_at dksX3_broodOf_3 10 rfl rfl)
theorem dX3_broodOf_85 : decode cX3_broodOf 85 = .ok (.ifnonnull 17, 3) := dk_199 0 17 (dk_at dksX3_broodOf_3 13 rfl rfl)
theorem dX3_broodOf_88 : decode cX3_broodOf 88 = .ok (.aload 4, 2) := dk_25 4 (dk_at dksX3_broodOf_3 16 rfl rfl)
theorem dX3_broodOf_90 : decode cX3_broodOf 90 = .ok (.getfield 123, 3) := dk_180 0 123 (dk_at dksX3_broodOf_3 18 rfl rfl)
theorem dX3_broodOf_93 : decode cX3_broodOf 93 = .ok (.aload 4, 2) := dk_25 4 (dk_at dksX3_broodOf_3 21 rfl rfl)
theorem dX3_broodOf_95 : decode cX3_broodOf 95 = .ok (.getfield 137, 3) := dk_180 0 137 (dk_at dksX3_broodOf_4 0 rfl rfl)
theorem dX3_broodOf_98 : decode cX3_broodOf 98 = .ok (.isub, 1) := dk_100 (dk_at dksX3_broodOf_4 3 rfl rfl)
theorem dX3_broodOf_99 : decode cX3_broodOf 99 = .ok (.goto 14, 3) := dk_167 0 14 (dk_at dksX3_broodOf_4 4 rfl rfl)
theorem dX3_broodOf_102 : decode cX3_broodOf 102 = .ok (.aload_n 1, 1) := dk_43 (dk_at dksX3_broodOf_4 7 rfl rfl)
theorem dX3_broodOf_103 : decode cX3_broodOf 103 = .ok (.getfield 141, 3) := dk_180 0 141 (dk_at dksX3_broodOf_4 8 rfl rfl)
theorem dX3_broodOf_106 : decode cX3_broodOf 106 = .ok (.aload 4, 2) := dk_25 4 (dk_at dksX3_broodOf_4 11 rfl rfl)
theorem dX3_broodOf_108 : decode cX3_broodOf 108 = .ok (.invokeinterface 145 2, 5) := by decide +kernel
theorem dX3_broodOf_113 : decode cX3_broodOf 113 = .ok (.ireturn, 1) := dk_172 (dk_at dksX3_broodOf_4 18 rfl rfl)
abbrev cX3_coupleOf : ByteArray := prog_10_method_12_code
def yX3_coupleOf : MethodName := ⟨RX3, "coupleOf", "(I)I"⟩
def dkwX3_coupleOf_1 : List UInt8 := [182, 0, 151, 54, 4, 21, 4, 156, 0, 7, 2, 167, 0, 10, 16, 8, 29, 104, 21, 4, 96, 172]
abbrev dktX3_coupleOf_1 : List UInt8 := dkwX3_coupleOf_1 ++ []
def dkwX3_coupleOf_0 : List UInt8 := [42, 27, 182, 0, 105, 61, 42, 28, 2, 182, 0, 151, 62, 29, 156, 0, 5, 2, 172, 42, 28, 29]
abbrev dktX3_coupleOf_0 : List UInt8 := dkwX3_coupleOf_0 ++ dktX3_coupleOf_1
theorem dksX3_coupleOf_0 : cX3_coupleOf.data.toList.drop 0 = dktX3_coupleOf_0 := by decide +kernel
theorem dksX3_coupleOf_1 : cX3_coupleOf.data.toList.drop 22 = dktX3_coupleOf_1 := dk_seg dksX3_coupleOf_0 22 rfl rfl
theorem dX3_coupleOf_0 : decode cX3_coupleOf 0 = .ok (.aload_n 0, 1) := dk_42 (dk_at dksX3_coupleOf_0 0 rfl rfl)
theorem dX3_coupleOf_1 : decode cX3_coupleOf 1 = .ok (.iload_n 1, 1) := dk_27 (dk_at dksX3_coupleOf_0 1 rfl rfl)
theorem dX3_coupleOf_2 : decode cX3_coupleOf 2 = .ok (.invokevirtual 105, 3) := dk_182 0 105 (dk_at dksX3_coupleOf_0 2 rfl rfl)
theorem dX3_coupleOf_5 : decode cX3_coupleOf 5 = .ok (.istore_n 2, 1) := dk_61 (dk_at dksX3_coupleOf_0 5 rfl rfl)
theorem dX3_coupleOf_6 : decode cX3_coupleOf 6 = .ok (.aload_n 0, 1) := dk_42 (dk_at dksX3_coupleOf_0 6 rfl rfl)
theorem dX3_coupleOf_7 : decode cX3_coupleOf 7 = .ok (.iload_n 2, 1) := dk_28 (dk_at dksX3_coupleOf_0 7 rfl rfl)
theorem dX3_coupleOf_8 : decode cX3_coupleOf 8 = .ok (.iconst (-1), 1) := dk_2 (dk_at dksX3_coupleOf_0 8 rfl rfl)
theorem dX3_coupleOf_9 : decode cX3_coupleOf 9 = .ok (.invokevirtual 151, 3) := dk_182 0 151 (dk_at dksX3_coupleOf_0 9 rfl rfl)
theorem dX3_coupleOf_12 : decode cX3_coupleOf 12 = .ok (.istore_n 3, 1) := dk_62 (dk_at dksX3_coupleOf_0 12 rfl rfl)
theorem dX3_coupleOf_13 : decode cX3_coupleOf 13 = .ok (.iload_n 3, 1) := dk_29 (dk_at dksX3_coupleOf_0 13 rfl rfl)
theorem dX3_coupleOf_14 : decode cX3_coupleOf 14 = .ok (.ifCond .ge 5, 3) := dk_156 0 5 (dk_at dksX3_coupleOf_0 14 rfl rfl)
theorem dX3_coupleOf_17 : decode cX3_coupleOf 17 = .ok (.iconst (-1), 1) := dk_2 (dk_at dksX3_coupleOf_0 17 rfl rfl)
theorem dX3_coupleOf_18 : decode cX3_coupleOf 18 = .ok (.ireturn, 1) := dk_172 (dk_at dksX3_coupleOf_0 18 rfl rfl)
theorem dX3_coupleOf_19 : decode cX3_coupleOf 19 = .ok (.aload_n 0, 1) := dk_42 (dk_at dksX3_coupleOf_0 19 rfl rfl)
theorem dX3_coupleOf_20 : decode cX3_coupleOf 20 = .ok (.iload_n 2, 1) := dk_28 (dk_at dksX3_coupleOf_0 20 rfl rfl)
theorem dX3_coupleOf_21 : decode cX3_coupleOf 21 = .ok (.iload_n 3, 1) := dk_29 (dk_at dksX3_coupleOf_0 21 rfl rfl)
theorem dX3_coupleOf_22 : decode cX3_coupleOf 22 = .ok (.invokevirtual 151, 3) := dk_182 0 151 (dk_at dksX3_coupleOf_1 0 rfl rfl)
theorem dX3_coupleOf_25 : decode cX3_coupleOf 25 = .ok (.istore 4, 2) := dk_54 4 (dk_at dksX3_coupleOf_1 3 rfl rfl)
theorem dX3_coupleOf_27 : decode cX3_coupleOf 27 = .ok (.iload 4, 2) := dk_21 4 (dk_at dksX3_coupleOf_1 5 rfl rfl)
theorem dX3_coupleOf_29 : decode cX3_coupleOf 29 = .ok (.ifCond .ge 7, 3) := dk_156 0 7 (dk_at dksX3_coupleOf_1 7 rfl rfl)
theorem dX3_coupleOf_32 : decode cX3_coupleOf 32 = .ok (.iconst (-1), 1) := dk_2 (dk_at dksX3_coupleOf_1 10 rfl rfl)
theorem dX3_coupleOf_33 : decode cX3_coupleOf 33 = .ok (.goto 10, 3) := dk_167 0 10 (dk_at dksX3_coupleOf_1 11 rfl rfl)
theorem dX3_coupleOf_36 : decode cX3_coupleOf 36 = .ok (.bipush 8, 2) := dk_16 8 (dk_at dksX3_coupleOf_1 14 rfl rfl)
theorem dX3_coupleOf_38 : decode cX3_coupleOf 38 = .ok (.iload_n 3, 1) := dk_29 (dk_at dksX3_coupleOf_1 16 rfl rfl)
theorem dX3_coupleOf_39 : decode cX3_coupleOf 39 = .ok (.imul, 1) := dk_104 (dk_at dksX3_coupleOf_1 17 rfl rfl)
theorem dX3_coupleOf_40 : decode cX3_coupleOf 40 = .ok (.iload 4, 2) := dk_21 4 (dk_at dksX3_coupleOf_1 18 rfl rfl)
theorem dX3_coupleOf_42 : decode cX3_coupleOf 42 = .ok (.iadd, 1) := dk_96 (dk_at dksX3_coupleOf_1 20 rfl rfl)
theorem dX3_coupleOf_43 : decode cX3_coupleOf 43 = .ok (.ireturn, 1) := dk_172 (dk_at dksX3_coupleOf_1 21 rfl rfl)
abbrev cX3_greatest : ByteArray := prog_10_method_11_code
def yX3_greatest : MethodName := ⟨RX3, "greatest", "(II)I"⟩
def dkwX3_greatest_2 : List UInt8 := [46, 42, 180, 0, 9, 29, 46, 164, 0, 6, 21, 4, 62, 132, 4, 1, 167, 255, 197, 29, 172]
abbrev dktX3_greatest_2 : List UInt8 := dkwX3_greatest_2 ++ []
def dkwX3_greatest_1 : List UInt8 := [28, 159, 0, 36, 42, 180, 0, 24, 21, 4, 46, 154, 0, 26, 29, 155, 0, 19, 42, 180, 0, 9, 21, 4]
abbrev dktX3_greatest_1 : List UInt8 := dkwX3_greatest_1 ++ dktX3_greatest_2
def dkwX3_greatest_0 : List UInt8 := [2, 62, 3, 54, 4, 21, 4, 16, 8, 162, 0, 58, 27, 21, 4, 122, 4, 126, 4, 160, 0, 42, 21, 4]
abbrev dktX3_greatest_0 : List UInt8 := dkwX3_greatest_0 ++ dktX3_greatest_1
theorem dksX3_greatest_0 : cX3_greatest.data.toList.drop 0 = dktX3_greatest_0 := by decide +kernel
theorem dksX3_greatest_1 : cX3_greatest.data.toList.drop 24 = dktX3_greatest_1 := dk_seg dksX3_greatest_0 24 rfl rfl
theorem dksX3_greatest_2 : cX3_greatest.data.toList.drop 48 = dktX3_greatest_2 := dk_seg dksX3_greatest_1 24 rfl rfl
theorem dX3_greatest_0 : decode cX3_greatest 0 = .ok (.iconst (-1), 1) := dk_2 (dk_at dksX3_greatest_0 0 rfl rfl)
theorem dX3_greatest_1 : decode cX3_greatest 1 = .ok (.istore_n 3, 1) := dk_62 (dk_at dksX3_greatest_0 1 rfl rfl)
theorem dX3_greatest_2 : decode cX3_greatest 2 = .ok (.iconst 0, 1) := dk_3 (dk_at dksX3_greatest_0 2 rfl rfl)
theorem dX3_greatest_3 : decode cX3_greatest 3 = .ok (.istore 4, 2) := dk_54 4 (dk_at dksX3_greatest_0 3 rfl rfl)
theorem dX3_greatest_5 : decode cX3_greatest 5 = .ok (.iload 4, 2) := dk_21 4 (dk_at dksX3_greatest_0 5 rfl rfl)
theorem dX3_greatest_7 : decode cX3_greatest 7 = .ok (.bipush 8, 2) := dk_16 8 (dk_at dksX3_greatest_0 7 rfl rfl)
theorem dX3_greatest_9 : decode cX3_greatest 9 = .ok (.if_icmp .ge 58, 3) := dk_162 0 58 (dk_at dksX3_greatest_0 9 rfl rfl)
theorem dX3_greatest_12 : decode cX3_greatest 12 = .ok (.iload_n 1, 1) := dk_27 (dk_at dksX3_greatest_0 12 rfl rfl)
theorem dX3_greatest_13 : decode cX3_greatest 13 = .ok (.iload 4, 2) := dk_21 4 (dk_at dksX3_greatest_0 13 rfl rfl)
theorem dX3_greatest_15 : decode cX3_greatest 15 = .ok (.ishr, 1) := dk_122 (dk_at dksX3_greatest_0 15 rfl rfl)
theorem dX3_greatest_16 : decode cX3_greatest 16 = .ok (.iconst 1, 1) := dk_4 (dk_at dksX3_greatest_0 16 rfl rfl)
theorem dX3_greatest_17 : decode cX3_greatest 17 = .ok (.iand, 1) := dk_126 (dk_at dksX3_greatest_0 17 rfl rfl)
theorem dX3_greatest_18 : decode cX3_greatest 18 = .ok (.iconst 1, 1) := dk_4 (dk_at dksX3_greatest_0 18 rfl rfl)
theorem dX3_greatest_19 : decode cX3_greatest 19 = .ok (.if_icmp .ne 42, 3) := dk_160 0 42 (dk_at dksX3_greatest_0 19 rfl rfl)
theorem dX3_greatest_22 : decode cX3_greatest 22 = .ok (.iload 4, 2) := dk_21 4 (dk_at dksX3_greatest_0 22 rfl rfl)
theorem dX3_greatest_24 : decode cX3_greatest 24 = .ok (.iload_n 2, 1) := dk_28 (dk_at dksX3_greatest_1 0 rfl rfl)
theorem dX3_greatest_25 : decode cX3_greatest 25 = .ok (.if_icmp .eq 36, 3) := dk_159 0 36 (dk_at dksX3_greatest_1 1 rfl rfl)
theorem dX3_greatest_28 : decode cX3_greatest 28 = .ok (.aload_n 0, 1) := dk_42 (dk_at dksX3_greatest_1 4 rfl rfl)
theorem dX3_greatest_29 : decode cX3_greatest 29 = .ok (.getfield 24, 3) := dk_180 0 24 (dk_at dksX3_greatest_1 5 rfl rfl)
theorem dX3_greatest_32 : decode cX3_greatest 32 = .ok (.iload 4, 2) := dk_21 4 (dk_at dksX3_greatest_1 8 rfl rfl)
theorem dX3_greatest_34 : decode cX3_greatest 34 = .ok (.iaload, 1) := dk_46 (dk_at dksX3_greatest_1 10 rfl rfl)
theorem dX3_greatest_35 : decode cX3_greatest 35 = .ok (.ifCond .ne 26, 3) := dk_154 0 26 (dk_at dksX3_greatest_1 11 rfl rfl)
theorem dX3_greatest_38 : decode cX3_greatest 38 = .ok (.iload_n 3, 1) := dk_29 (dk_at dksX3_greatest_1 14 rfl rfl)
theorem dX3_greatest_39 : decode cX3_greatest 39 = .ok (.ifCond .lt 19, 3) := dk_155 0 19 (dk_at dksX3_greatest_1 15 rfl rfl)
theorem dX3_greatest_42 : decode cX3_greatest 42 = .ok (.aload_n 0, 1) := dk_42 (dk_at dksX3_greatest_1 18 rfl rfl)
theorem dX3_greatest_43 : decode cX3_greatest 43 = .ok (.getfield 9, 3) := dk_180 0 9 (dk_at dksX3_greatest_1 19 rfl rfl)
theorem dX3_greatest_46 : decode cX3_greatest 46 = .ok (.iload 4, 2) := dk_21 4 (dk_at dksX3_greatest_1 22 rfl rfl)
theorem dX3_greatest_48 : decode cX3_greatest 48 = .ok (.iaload, 1) := dk_46 (dk_at dksX3_greatest_2 0 rfl rfl)
theorem dX3_greatest_49 : decode cX3_greatest 49 = .ok (.aload_n 0, 1) := dk_42 (dk_at dksX3_greatest_2 1 rfl rfl)
theorem dX3_greatest_50 : decode cX3_greatest 50 = .ok (.getfield 9, 3) := dk_180 0 9 (dk_at dksX3_greatest_2 2 rfl rfl)
theorem dX3_greatest_53 : decode cX3_greatest 53 = .ok (.iload_n 3, 1) := dk_29 (dk_at dksX3_greatest_2 5 rfl rfl)
theorem dX3_greatest_54 : decode cX3_greatest 54 = .ok (.iaload, 1) := dk_46 (dk_at dksX3_greatest_2 6 rfl rfl)
theorem dX3_greatest_55 : decode cX3_greatest 55 = .ok (.if_icmp .le 6, 3) := dk_164 0 6 (dk_at dksX3_greatest_2 7 rfl rfl)
theorem dX3_greatest_58 : decode cX3_greatest 58 = .ok (.iload 4, 2) := dk_21 4 (dk_at dksX3_greatest_2 10 rfl rfl)
theorem dX3_greatest_60 : decode cX3_greatest 60 = .ok (.istore_n 3, 1) := dk_62 (dk_at dksX3_greatest_2 12 rfl rfl)
theorem dX3_greatest_61 : decode cX3_greatest 61 = .ok (.iinc 4 1, 3) := dk_132 4 1 (dk_at dksX3_greatest_2 13 rfl rfl)
theorem dX3_greatest_64 : decode cX3_greatest 64 = .ok (.goto (-59), 3) := dk_167 255 197 (dk_at dksX3_greatest_2 16 rfl rfl)
theorem dX3_greatest_67 : decode cX3_greatest 67 = .ok (.iload_n 3, 1) := dk_29 (dk_at dksX3_greatest_2 19 rfl rfl)
theorem dX3_greatest_68 : decode cX3_greatest 68 = .ok (.ireturn, 1) := dk_172 (dk_at dksX3_greatest_2 20 rfl rfl)
abbrev cX3_isRipe : ByteArray := prog_10_method_15_code
def yX3_isRipe : MethodName := ⟨RX3, "isRipe", "(LTrunkLitters$Book;I)Z"⟩
def dkwX3_isRipe_2 : List UInt8 := [167, 0, 4, 3, 172]
abbrev dktX3_isRipe_2 : List UInt8 := dkwX3_isRipe_2 ++ []
def dkwX3_isRipe_1 : List UInt8 := [16, 8, 112, 182, 0, 165, 158, 0, 21, 42, 29, 182, 0, 169, 42, 43, 28, 182, 0, 126, 163, 0, 7, 4]
abbrev dktX3_isRipe_1 : List UInt8 := dkwX3_isRipe_1 ++ dktX3_isRipe_2
def dkwX3_isRipe_0 : List UInt8 := [42, 28, 182, 0, 159, 62, 29, 155, 0, 44, 42, 182, 0, 162, 155, 0, 37, 42, 43, 29, 16, 8, 108, 29]
abbrev dktX3_isRipe_0 : List UInt8 := dkwX3_isRipe_0 ++ dktX3_isRipe_1
theorem dksX3_isRipe_0 : cX3_isRipe.data.toList.drop 0 = dktX3_isRipe_0 := by decide +kernel
theorem dksX3_isRipe_1 : cX3_isRipe.data.toList.drop 24 = dktX3_isRipe_1 := dk_seg dksX3_isRipe_0 24 rfl rfl
theorem dksX3_isRipe_2 : cX3_isRipe.data.toList.drop 48 = dktX3_isRipe_2 := dk_seg dksX3_isRipe_1 24 rfl rfl
theorem dX3_isRipe_0 : decode cX3_isRipe 0 = .ok (.aload_n 0, 1) := dk_42 (dk_at dksX3_isRipe_0 0 rfl rfl)
theorem dX3_isRipe_1 : decode cX3_isRipe 1 = .ok (.iload_n 2, 1) := dk_28 (dk_at dksX3_isRipe_0 1 rfl rfl)
theorem dX3_isRipe_2 : decode cX3_isRipe 2 = .ok (.invokevirtual 159, 3) := dk_182 0 159 (dk_at dksX3_isRipe_0 2 rfl rfl)
theorem dX3_isRipe_5 : decode cX3_isRipe 5 = .ok (.istore_n 3, 1) := dk_62 (dk_at dksX3_isRipe_0 5 rfl rfl)
theorem dX3_isRipe_6 : decode cX3_isRipe 6 = .ok (.iload_n 3, 1) := dk_29 (dk_at dksX3_isRipe_0 6 rfl rfl)
theorem dX3_isRipe_7 : decode cX3_isRipe 7 = .ok (.ifCond .lt 44, 3) := dk_155 0 44 (dk_at dksX3_isRipe_0 7 rfl rfl)
theorem dX3_isRipe_10 : decode cX3_isRipe 10 = .ok (.aload_n 0, 1) := dk_42 (dk_at dksX3_isRipe_0 10 rfl rfl)
theorem dX3_isRipe_11 : decode cX3_isRipe 11 = .ok (.invokevirtual 162, 3) := dk_182 0 162 (dk_at dksX3_isRipe_0 11 rfl rfl)
theorem dX3_isRipe_14 : decode cX3_isRipe 14 = .ok (.ifCond .lt 37, 3) := dk_155 0 37 (dk_at dksX3_isRipe_0 14 rfl rfl)
theorem dX3_isRipe_17 : decode cX3_isRipe 17 = .ok (.aload_n 0, 1) := dk_42 (dk_at dksX3_isRipe_0 17 rfl rfl)
theorem dX3_isRipe_18 : decode cX3_isRipe 18 = .ok (.aload_n 1, 1) := dk_43 (dk_at dksX3_isRipe_0 18 rfl rfl)
theorem dX3_isRipe_19 : decode cX3_isRipe 19 = .ok (.iload_n 3, 1) := dk_29 (dk_at dksX3_isRipe_0 19 rfl rfl)
theorem dX3_isRipe_20 : decode cX3_isRipe 20 = .ok (.bipush 8, 2) := dk_16 8 (dk_at dksX3_isRipe_0 20 rfl rfl)
theorem dX3_isRipe_22 : decode cX3_isRipe 22 = .ok (.idiv, 1) := dk_108 (dk_at dksX3_isRipe_0 22 rfl rfl)
theorem dX3_isRipe_23 : decode cX3_isRipe 23 = .ok (.iload_n 3, 1) := dk_29 (dk_at dksX3_isRipe_0 23 rfl rfl)
theorem dX3_isRipe_24 : decode cX3_isRipe 24 = .ok (.bipush 8, 2) := dk_16 8 (dk_at dksX3_isRipe_1 0 rfl rfl)
theorem dX3_isRipe_26 : decode cX3_isRipe 26 = .ok (.irem, 1) := dk_112 (dk_at dksX3_isRipe_1 2 rfl rfl)
theorem dX3_isRipe_27 : decode cX3_isRipe 27 = .ok (.invokevirtual 165, 3) := dk_182 0 165 (dk_at dksX3_isRipe_1 3 rfl rfl)
theorem dX3_isRipe_30 : decode cX3_isRipe 30 = .ok (.ifCond .le 21, 3) := dk_158 0 21 (dk_at dksX3_isRipe_1 6 rfl rfl)
theorem dX3_isRipe_33 : decode cX3_isRipe 33 = .ok (.aload_n 0, 1) := dk_42 (dk_at dksX3_isRipe_1 9 rfl rfl)
theorem dX3_isRipe_34 : decode cX3_isRipe 34 = .ok (.iload_n 3, 1) := dk_29 (dk_at dksX3_isRipe_1 10 rfl rfl)
theorem dX3_isRipe_35 : decode cX3_isRipe 35 = .ok (.invokevirtual 169, 3) := dk_182 0 169 (dk_at dksX3_isRipe_1 11 rfl rfl)
theorem dX3_isRipe_38 : decode cX3_isRipe 38 = .ok (.aload_n 0, 1) := dk_42 (dk_at dksX3_isRipe_1 14 rfl rfl)
theorem dX3_isRipe_39 : decode cX3_isRipe 39 = .ok (.aload_n 1, 1) := dk_43 (dk_at dksX3_isRipe_1 15 rfl rfl)
theorem dX3_isRipe_40 : decode cX3_isRipe 40 = .ok (.iload_n 2, 1) := dk_28 (dk_at dksX3_isRipe_1 16 rfl rfl)
theorem dX3_isRipe_41 : decode cX3_isRipe 41 = .ok (.invokevirtual 126, 3) := dk_182 0 126 (dk_at dksX3_isRipe_1 17 rfl rfl)
theorem dX3_isRipe_44 : decode cX3_isRipe 44 = .ok (.if_icmp .gt 7, 3) := dk_163 0 7 (dk_at dksX3_isRipe_1 20 rfl rfl)
theorem dX3_isRipe_47 : decode cX3_isRipe 47 = .ok (.iconst 1, 1) := dk_4 (dk_at dksX3_isRipe_1 23 rfl rfl)
theorem dX3_isRipe_48 : decode cX3_isRipe 48 = .ok (.goto 4, 3) := dk_167 0 4 (dk_at dksX3_isRipe_2 0 rfl rfl)
theorem dX3_isRipe_51 : decode cX3_isRipe 51 = .ok (.iconst 0, 1) := dk_3 (dk_at dksX3_isRipe_2 3 rfl rfl)
theorem dX3_isRipe_52 : decode cX3_isRipe 52 = .ok (.ireturn, 1) := dk_172 (dk_at dksX3_isRipe_2 4 rfl rfl)
abbrev cX3_freePlace : ByteArray := prog_10_method_14_code
def yX3_freePlace : MethodName := ⟨RX3, "freePlace", "()I"⟩
def dkwX3_freePlace_1 : List UInt8 := [16, 8, 162, 0, 7, 27, 167, 0, 4, 2, 172]
abbrev dktX3_freePlace_1 : List UInt8 := dkwX3_freePlace_1 ++ []
def dkwX3_freePlace_0 : List UInt8 := [3, 60, 27, 16, 8, 162, 0, 17, 42, 27, 182, 0, 55, 153, 0, 9, 132, 1, 1, 167, 255, 239, 27]
abbrev dktX3_freePlace_0 : List UInt8 := dkwX3_freePlace_0 ++ dktX3_freePlace_1
theorem dksX3_freePlace_0 : cX3_freePlace.data.toList.drop 0 = dktX3_freePlace_0 := by decide +kernel
theorem dksX3_freePlace_1 : cX3_freePlace.data.toList.drop 23 = dktX3_freePlace_1 := dk_seg dksX3_freePlace_0 23 rfl rfl
theorem dX3_freePlace_0 : decode cX3_freePlace 0 = .ok (.iconst 0, 1) := dk_3 (dk_at dksX3_freePlace_0 0 rfl rfl)
theorem dX3_freePlace_1 : decode cX3_freePlace 1 = .ok (.istore_n 1, 1) := dk_60 (dk_at dksX3_freePlace_0 1 rfl rfl)
theorem dX3_freePlace_2 : decode cX3_freePlace 2 = .ok (.iload_n 1, 1) := dk_27 (dk_at dksX3_freePlace_0 2 rfl rfl)
theorem dX3_freePlace_3 : decode cX3_freePlace 3 = .ok (.bipush 8, 2) := dk_16 8 (dk_at dksX3_freePlace_0 3 rfl rfl)
theorem dX3_freePlace_5 : decode cX3_freePlace 5 = .ok (.if_icmp .ge 17, 3) := dk_162 0 17 (dk_at dksX3_freePlace_0 5 rfl rfl)
theorem dX3_freePlace_8 : decode cX3_freePlace 8 = .ok (.aload_n 0, 1) := dk_42 (dk_at dksX3_freePlace_0 8 rfl rfl)
theorem dX3_freePlace_9 : decode cX3_freePlace 9 = .ok (.iload_n 1, 1) := dk_27 (dk_at dksX3_freePlace_0 9 rfl rfl)
theorem dX3_freePlace_10 : decode cX3_freePlace 10 = .ok (.invokevirtual 55, 3) := dk_182 0 55 (dk_at dksX3_freePlace_0 10 rfl rfl)
theorem dX3_freePlace_13 : decode cX3_freePlace 13 = .ok (.ifCond .eq 9, 3) := dk_153 0 9 (dk_at dksX3_freePlace_0 13 rfl rfl)
theorem dX3_freePlace_16 : decode cX3_freePlace 16 = .ok (.iinc 1 1, 3) := dk_132 1 1 (dk_at dksX3_freePlace_0 16 rfl rfl)
theorem dX3_freePlace_19 : decode cX3_freePlace 19 = .ok (.goto (-17), 3) := dk_167 255 239 (dk_at dksX3_freePlace_0 19 rfl rfl)
theorem dX3_freePlace_22 : decode cX3_freePlace 22 = .ok (.iload_n 1, 1) := dk_27 (dk_at dksX3_freePlace_0 22 rfl rfl)
theorem dX3_freePlace_23 : decode cX3_freePlace 23 = .ok (.bipush 8, 2) := dk_16 8 (dk_at dksX3_freePlace_1 0 rfl rfl)
theorem dX3_freePlace_25 : decode cX3_freePlace 25 = .ok (.if_icmp .ge 7, 3) := dk_162 0 7 (dk_at dksX3_freePlace_1 2 rfl rfl)
theorem dX3_freePlace_28 : decode cX3_freePlace 28 = .ok (.iload_n 1, 1) := dk_27 (dk_at dksX3_freePlace_1 5 rfl rfl)
theorem dX3_freePlace_29 : decode cX3_freePlace 29 = .ok (.goto 4, 3) := dk_167 0 4 (dk_at dksX3_freePlace_1 6 rfl rfl)
theorem dX3_freePlace_32 : decode cX3_freePlace 32 = .ok (.iconst (-1), 1) := dk_2 (dk_at dksX3_freePlace_1 9 rfl rfl)
theorem dX3_freePlace_33 : decode cX3_freePlace 33 = .ok (.ireturn, 1) := dk_172 (dk_at dksX3_freePlace_1 10 rfl rfl)
abbrev cX3_youngBulk : ByteArray := prog_10_method_13_code
def yX3_youngBulk : MethodName := ⟨RX3, "youngBulk", "(I)I"⟩
def dkwX3_youngBulk_1 : List UInt8 := [184, 0, 154, 172]
abbrev dktX3_youngBulk_1 : List UInt8 := dkwX3_youngBulk_1 ++ []
def dkwX3_youngBulk_0 : List UInt8 := [4, 42, 180, 0, 9, 27, 16, 8, 108, 46, 42, 180, 0, 9, 27, 16, 8, 112, 46, 96, 7, 108]
abbrev dktX3_youngBulk_0 : List UInt8 := dkwX3_youngBulk_0 ++ dktX3_youngBulk_1
theorem dksX3_youngBulk_0 : cX3_youngBulk.data.toList.drop 0 = dktX3_youngBulk_0 := by decide +kernel
theorem dksX3_youngBulk_1 : cX3_youngBulk.data.toList.drop 22 = dktX3_youngBulk_1 := dk_seg dksX3_youngBulk_0 22 rfl rfl
theorem dX3_youngBulk_0 : decode cX3_youngBulk 0 = .ok (.iconst 1, 1) := dk_4 (dk_at dksX3_youngBulk_0 0 rfl rfl)
theorem dX3_youngBulk_1 : decode cX3_youngBulk 1 = .ok (.aload_n 0, 1) := dk_42 (dk_at dksX3_youngBulk_0 1 rfl rfl)
theorem dX3_youngBulk_2 : decode cX3_youngBulk 2 = .ok (.getfield 9, 3) := dk_180 0 9 (dk_at dksX3_youngBulk_0 2 rfl rfl)
theorem dX3_youngBulk_5 : decode cX3_youngBulk 5 = .ok (.iload_n 1, 1) := dk_27 (dk_at dksX3_youngBulk_0 5 rfl rfl)
theorem dX3_youngBulk_6 : decode cX3_youngBulk 6 = .ok (.bipush 8, 2) := dk_16 8 (dk_at dksX3_youngBulk_0 6 rfl rfl)
theorem dX3_youngBulk_8 : decode cX3_youngBulk 8 = .ok (.idiv, 1) := dk_108 (dk_at dksX3_youngBulk_0 8 rfl rfl)
theorem dX3_youngBulk_9 : decode cX3_youngBulk 9 = .ok (.iaload, 1) := dk_46 (dk_at dksX3_youngBulk_0 9 rfl rfl)
theorem dX3_youngBulk_10 : decode cX3_youngBulk 10 = .ok (.aload_n 0, 1) := dk_42 (dk_at dksX3_youngBulk_0 10 rfl rfl)
theorem dX3_youngBulk_11 : decode cX3_youngBulk 11 = .ok (.getfield 9, 3) := dk_180 0 9 (dk_at dksX3_youngBulk_0 11 rfl rfl)
theorem dX3_youngBulk_14 : decode cX3_youngBulk 14 = .ok (.iload_n 1, 1) := dk_27 (dk_at dksX3_youngBulk_0 14 rfl rfl)
theorem dX3_youngBulk_15 : decode cX3_youngBulk 15 = .ok (.bipush 8, 2) := dk_16 8 (dk_at dksX3_youngBulk_0 15 rfl rfl)
theorem dX3_youngBulk_17 : decode cX3_youngBulk 17 = .ok (.irem, 1) := dk_112 (dk_at dksX3_youngBulk_0 17 rfl rfl)
theorem dX3_youngBulk_18 : decode cX3_youngBulk 18 = .ok (.iaload, 1) := dk_46 (dk_at dksX3_youngBulk_0 18 rfl rfl)
theorem dX3_youngBulk_19 : decode cX3_youngBulk 19 = .ok (.iadd, 1) := dk_96 (dk_at dksX3_youngBulk_0 19 rfl rfl)
theorem dX3_youngBulk_20 : decode cX3_youngBulk 20 = .ok (.iconst 4, 1) := dk_7 (dk_at dksX3_youngBulk_0 20 rfl rfl)
theorem dX3_youngBulk_21 : decode cX3_youngBulk 21 = .ok (.idiv, 1) := dk_108 (dk_at dksX3_youngBulk_0 21 rfl rfl)
theorem dX3_youngBulk_22 : decode cX3_youngBulk 22 = .ok (.invokestatic 154, 3) := dk_184 0 154 (dk_at dksX3_youngBulk_1 0 rfl rfl)
theorem dX3_youngBulk_25 : decode cX3_youngBulk 25 = .ok (.ireturn, 1) := dk_172 (dk_at dksX3_youngBulk_1 3 rfl rfl)
abbrev cX3_copy : ByteArray := prog_10_method_3_code
def yX3_copy : MethodName := ⟨RX3, "copy", "(LTrunkLitters$House;)LTrunkLitters$House;"⟩
def dkwX3_copy_7 : List UInt8 := [42, 176]
abbrev dktX3_copy_7 : List UInt8 := dkwX3_copy_7 ++ []
def dkwX3_copy_6 : List UInt8 := [181, 0, 84, 42, 43, 180, 0, 90, 181, 0, 90, 42, 43, 180, 0, 77, 181, 0, 77, 42, 2, 181, 0, 36]
abbrev dktX3_copy_6 : List UInt8 := dkwX3_copy_6 ++ dktX3_copy_7
def dkwX3_copy_5 : List UInt8 := [184, 0, 91, 42, 43, 180, 0, 52, 181, 0, 52, 42, 43, 180, 0, 83, 181, 0, 83, 42, 43, 180, 0, 84]
abbrev dktX3_copy_5 : List UInt8 := dkwX3_copy_5 ++ dktX3_copy_6
def dkwX3_copy_4 : List UInt8 := [3, 42, 180, 0, 30, 3, 16, 8, 184, 0, 91, 43, 180, 0, 33, 3, 42, 180, 0, 33, 3, 16, 8]
abbrev dktX3_copy_4 : List UInt8 := dkwX3_copy_4 ++ dktX3_copy_5
def dkwX3_copy_3 : List UInt8 := [16, 8, 184, 0, 91, 43, 180, 0, 27, 3, 42, 180, 0, 27, 3, 16, 8, 184, 0, 91, 43, 180, 0, 30]
abbrev dktX3_copy_3 : List UInt8 := dkwX3_copy_3 ++ dktX3_copy_4
def dkwX3_copy_2 : List UInt8 := [180, 0, 21, 3, 42, 180, 0, 21, 3, 16, 8, 184, 0, 91, 43, 180, 0, 24, 3, 42, 180, 0, 24, 3]
abbrev dktX3_copy_2 : List UInt8 := dkwX3_copy_2 ++ dktX3_copy_3
def dkwX3_copy_1 : List UInt8 := [3, 16, 8, 184, 0, 91, 43, 180, 0, 18, 3, 42, 180, 0, 18, 3, 16, 8, 184, 0, 91, 43]
abbrev dktX3_copy_1 : List UInt8 := dkwX3_copy_1 ++ dktX3_copy_2
def dkwX3_copy_0 : List UInt8 := [43, 180, 0, 9, 3, 42, 180, 0, 9, 3, 16, 8, 184, 0, 91, 43, 180, 0, 15, 3, 42, 180, 0, 15]
abbrev dktX3_copy_0 : List UInt8 := dkwX3_copy_0 ++ dktX3_copy_1
theorem dksX3_copy_0 : cX3_copy.data.toList.drop 0 = dktX3_copy_0 := by decide +kernel
theorem dksX3_copy_1 : cX3_copy.data.toList.drop 24 = dktX3_copy_1 := dk_seg dksX3_copy_0 24 rfl rfl
theorem dksX3_copy_2 : cX3_copy.data.toList.drop 46 = dktX3_copy_2 := dk_seg dksX3_copy_1 22 rfl rfl
theorem dksX3_copy_3 : cX3_copy.data.toList.drop 70 = dktX3_copy_3 := dk_seg dksX3_copy_2 24 rfl rfl
theorem dksX3_copy_4 : cX3_copy.data.toList.drop 94 = dktX3_copy_4 := dk_seg dksX3_copy_3 24 rfl rfl
theorem dksX3_copy_5 : cX3_copy.data.toList.drop 117 = dktX3_copy_5 := dk_seg dksX3_copy_4 23 rfl rfl
theorem dksX3_copy_6 : cX3_copy.data.toList.drop 141 = dktX3_copy_6 := dk_seg dksX3_copy_5 24 rfl rfl
theorem dksX3_copy_7 : cX3_copy.data.toList.drop 165 = dktX3_copy_7 := dk_seg dksX3_copy_6 24 rfl rfl
theorem dX3_copy_0 : decode cX3_copy 0 = .ok (.aload_n 1, 1) := dk_43 (dk_at dksX3_copy_0 0 rfl rfl)
theorem dX3_copy_1 : decode cX3_copy 1 = .ok (.getfield 9, 3) := dk_180 0 9 (dk_at dksX3_copy_0 1 rfl rfl)
theorem dX3_copy_4 : decode cX3_copy 4 = .ok (.iconst 0, 1) := dk_3 (dk_at dksX3_copy_0 4 rfl rfl)
theorem dX3_copy_5 : decode cX3_copy 5 = .ok (.aload_n 0, 1) := dk_42 (dk_at dksX3_copy_0 5 rfl rfl)
theorem dX3_copy_6 : decode cX3_copy 6 = .ok (.getfield 9, 3) := dk_180 0 9 (dk_at dksX3_copy_0 6 rfl rfl)
theorem dX3_copy_9 : decode cX3_copy 9 = .ok (.iconst 0, 1) := dk_3 (dk_at dksX3_copy_0 9 rfl rfl)
theorem dX3_copy_10 : decode cX3_copy 10 = .ok (.bipush 8, 2) := dk_16 8 (dk_at dksX3_copy_0 10 rfl rfl)
theorem dX3_copy_12 : decode cX3_copy 12 = .ok (.invokestatic 91, 3) := dk_184 0 91 (dk_at dksX3_copy_0 12 rfl rfl)
theorem dX3_copy_15 : decode cX3_copy 15 = .ok (.aload_n 1, 1) := dk_43 (dk_at dksX3_copy_0 15 rfl rfl)
theorem dX3_copy_16 : decode cX3_copy 16 = .ok (.getfield 15, 3) := dk_180 0 15 (dk_at dksX3_copy_0 16 rfl rfl)
theorem dX3_copy_19 : decode cX3_copy 19 = .ok (.iconst 0, 1) := dk_3 (dk_at dksX3_copy_0 19 rfl rfl)
theorem dX3_copy_20 : decode cX3_copy 20 = .ok (.aload_n 0, 1) := dk_42 (dk_at dksX3_copy_0 20 rfl rfl)
theorem dX3_copy_21 : decode cX3_copy 21 = .ok (.getfield 15, 3) := dk_180 0 15 (dk_at dksX3_copy_0 21 rfl rfl)
theorem dX3_copy_24 : decode cX3_copy 24 = .ok (.iconst 0, 1) := dk_3 (dk_at dksX3_copy_1 0 rfl rfl)
theorem dX3_copy_25 : decode cX3_copy 25 = .ok (.bipush 8, 2) := dk_16 8 (dk_at dksX3_copy_1 1 rfl rfl)
theorem dX3_copy_27 : decode cX3_copy 27 = .ok (.invokestatic 91, 3) := dk_184 0 91 (dk_at dksX3_copy_1 3 rfl rfl)
theorem dX3_copy_30 : decode cX3_copy 30 = .ok (.aload_n 1, 1) := dk_43 (dk_at dksX3_copy_1 6 rfl rfl)
theorem dX3_copy_31 : decode cX3_copy 31 = .ok (.getfield 18, 3) := dk_180 0 18 (dk_at dksX3_copy_1 7 rfl rfl)
theorem dX3_copy_34 : decode cX3_copy 34 = .ok (.iconst 0, 1) := dk_3 (dk_at dksX3_copy_1 10 rfl rfl)
theorem dX3_copy_35 : decode cX3_copy 35 = .ok (.aload_n 0, 1) := dk_42 (dk_at dksX3_copy_1 11 rfl rfl)
theorem dX3_copy_36 : decode cX3_copy 36 = .ok (.getfield 18, 3) := dk_180 0 18 (dk_at dksX3_copy_1 12 rfl rfl)
theorem dX3_copy_39 : decode cX3_copy 39 = .ok (.iconst 0, 1) := dk_3 (dk_at dksX3_copy_1 15 rfl rfl)
theorem dX3_copy_40 : decode cX3_copy 40 = .ok (.bipush 8, 2) := dk_16 8 (dk_at dksX3_copy_1 16 rfl rfl)
theorem dX3_copy_42 : decode cX3_copy 42 = .ok (.invokestatic 91, 3) := dk_184 0 91 (dk_at dksX3_copy_1 18 rfl rfl)
theorem dX3_copy_45 : decode cX3_copy 45 = .ok (.aload_n 1, 1) := dk_43 (dk_at dksX3_copy_1 21 rfl rfl)
theorem dX3_copy_46 : decode cX3_copy 46 = .ok (.getfield 21, 3) := dk_180 0 21 (dk_at dksX3_copy_2 0 rfl rfl)
theorem dX3_copy_49 : decode cX3_copy 49 = .ok (.iconst 0, 1) := dk_3 (dk_at dksX3_copy_2 3 rfl rfl)
theorem dX3_copy_50 : decode cX3_copy 50 = .ok (.aload_n 0, 1) := dk_42 (dk_at dksX3_copy_2 4 rfl rfl)
theorem dX3_copy_51 : decode cX3_copy 51 = .ok (.getfield 21, 3) := dk_180 0 21 (dk_at dksX3_copy_2 5 rfl rfl)
theorem dX3_copy_54 : decode cX3_copy 54 = .ok (.iconst 0, 1) := dk_3 (dk_at dksX3_copy_2 8 rfl rfl)
theorem dX3_copy_55 : decode cX3_copy 55 = .ok (.bipush 8, 2) := dk_16 8 (dk_at dksX3_copy_2 9 rfl rfl)
theorem dX3_copy_57 : decode cX3_copy 57 = .ok (.invokestatic 91, 3) := dk_184 0 91 (dk_at dksX3_copy_2 11 rfl rfl)
theorem dX3_copy_60 : decode cX3_copy 60 = .ok (.aload_n 1, 1) := dk_43 (dk_at dksX3_copy_2 14 rfl rfl)
theorem dX3_copy_61 : decode cX3_copy 61 = .ok (.getfield 24, 3) := dk_180 0 24 (dk_at dksX3_copy_2 15 rfl rfl)
theorem dX3_copy_64 : decode cX3_copy 64 = .ok (.iconst 0, 1) := dk_3 (dk_at dksX3_copy_2 18 rfl rfl)
theorem dX3_copy_65 : decode cX3_copy 65 = .ok (.aload_n 0, 1) := dk_42 (dk_at dksX3_copy_2 19 rfl rfl)
theorem dX3_copy_66 : decode cX3_copy 66 = .ok (.getfield 24, 3) := dk_180 0 24 (dk_at dksX3_copy_2 20 rfl rfl)
theorem dX3_copy_69 : decode cX3_copy 69 = .ok (.iconst 0, 1) := dk_3 (dk_at dksX3_copy_2 23 rfl rfl)
theorem dX3_copy_70 : decode cX3_copy 70 = .ok (.bipush 8, 2) := dk_16 8 (dk_at dksX3_copy_3 0 rfl rfl)
theorem dX3_copy_72 : decode cX3_copy 72 = .ok (.invokestatic 91, 3) := dk_184 0 91 (dk_at dksX3_copy_3 2 rfl rfl)
theorem dX3_copy_75 : decode cX3_copy 75 = .ok (.aload_n 1, 1) := dk_43 (dk_at dksX3_copy_3 5 rfl rfl)
theorem dX3_copy_76 : decode cX3_copy 76 = .ok (.getfield 27, 3) := dk_180 0 27 (dk_at dksX3_copy_3 6 rfl rfl)
theorem dX3_copy_79 : decode cX3_copy 79 = .ok (.iconst 0, 1) := dk_3 (dk_at dksX3_copy_3 9 rfl rfl)
theorem dX3_copy_80 : decode cX3_copy 80 = .ok (.aload_n 0, 1) := dk_42 (dk_at dksX3_copy_3 10 rfl rfl)
theorem dX3_copy_81 : decode cX3_copy 81 = .ok (.getfield 27, 3) := dk_180 0 27 (dk_at dksX3_copy_3 11 rfl rfl)
theorem dX3_copy_84 : decode cX3_copy 84 = .ok (.iconst 0, 1) := dk_3 (dk_at dksX3_copy_3 14 rfl rfl)
theorem dX3_copy_85 : decode cX3_copy 85 = .ok (.bipush 8, 2) := dk_16 8 (dk_at dksX3_copy_3 15 rfl rfl)
theorem dX3_copy_87 : decode cX3_copy 87 = .ok (.invokestatic 91, 3) := dk_184 0 91 (dk_at dksX3_copy_3 17 rfl rfl)
theorem dX3_copy_90 : decode cX3_copy 90 = .ok (.aload_n 1, 1) := dk_43 (dk_at dksX3_copy_3 20 rfl rfl)
theorem dX3_copy_91 : decode cX3_copy 91 = .ok (.getfield 30, 3) := dk_180 0 30 (dk_at dksX3_copy_3 21 rfl rfl)
theorem dX3_copy_94 : decode cX3_copy 94 = .ok (.iconst 0, 1) := dk_3 (dk_at dksX3_copy_4 0 rfl rfl)
theorem dX3_copy_95 : decode cX3_copy 95 = .ok (.aload_n 0, 1) := dk_42 (dk_at dksX3_copy_4 1 rfl rfl)
theorem dX3_copy_96 : decode cX3_copy 96 = .ok (.getfield 30, 3) := dk_180 0 30 (dk_at dksX3_copy_4 2 rfl rfl)
theorem dX3_copy_99 : decode cX3_copy 99 = .ok (.iconst 0, 1) := dk_3 (dk_at dksX3_copy_4 5 rfl rfl)
theorem dX3_copy_100 : decode cX3_copy 100 = .ok (.bipush 8, 2) := dk_16 8 (dk_at dksX3_copy_4 6 rfl rfl)
theorem dX3_copy_102 : decode cX3_copy 102 = .ok (.invokestatic 91, 3) := dk_184 0 91 (dk_at dksX3_copy_4 8 rfl rfl)
theorem dX3_copy_105 : decode cX3_copy 105 = .ok (.aload_n 1, 1) := dk_43 (dk_at dksX3_copy_4 11 rfl rfl)
theorem dX3_copy_106 : decode cX3_copy 106 = .ok (.getfield 33, 3) := dk_180 0 33 (dk_at dksX3_copy_4 12 rfl rfl)
theorem dX3_copy_109 : decode cX3_copy 109 = .ok (.iconst 0, 1) := dk_3 (dk_at dksX3_copy_4 15 rfl rfl)
theorem dX3_copy_110 : decode cX3_copy 110 = .ok (.aload_n 0, 1) := dk_42 (dk_at dksX3_copy_4 16 rfl rfl)
theorem dX3_copy_111 : decode cX3_copy 111 = .ok (.getfield 33, 3) := dk_180 0 33 (dk_at dksX3_copy_4 17 rfl rfl)
theorem dX3_copy_114 : decode cX3_copy 114 = .ok (.iconst 0, 1) := dk_3 (dk_at dksX3_copy_4 20 rfl rfl)
theorem dX3_copy_115 : decode cX3_copy 115 = .ok (.bipush 8, 2) := dk_16 8 (dk_at dksX3_copy_4 21 rfl rfl)
theorem dX3_copy_117 : decode cX3_copy 117 = .ok (.invokestatic 91, 3) := dk_184 0 91 (dk_at dksX3_copy_5 0 rfl rfl)
theorem dX3_copy_120 : decode cX3_copy 120 = .ok (.aload_n 0, 1) := dk_42 (dk_at dksX3_copy_5 3 rfl rfl)
theorem dX3_copy_121 : decode cX3_copy 121 = .ok (.aload_n 1, 1) := dk_43 (dk_at dksX3_copy_5 4 rfl rfl)
theorem dX3_copy_122 : decode cX3_copy 122 = .ok (.getfield 52, 3) := dk_180 0 52 (dk_at dksX3_copy_5 5 rfl rfl)
theorem dX3_copy_125 : decode cX3_copy 125 = .ok (.putfield 52, 3) := dk_181 0 52 (dk_at dksX3_copy_5 8 rfl rfl)
theorem dX3_copy_128 : decode cX3_copy 128 = .ok (.aload_n 0, 1) := dk_42 (dk_at dksX3_copy_5 11 rfl rfl)
theorem dX3_copy_129 : decode cX3_copy 129 = .ok (.aload_n 1, 1) := dk_43 (dk_at dksX3_copy_5 12 rfl rfl)
theorem dX3_copy_130 : decode cX3_copy 130 = .ok (.getfield 83, 3) := dk_180 0 83 (dk_at dksX3_copy_5 13 rfl rfl)
theorem dX3_copy_133 : decode cX3_copy 133 = .ok (.putfield 83, 3) := dk_181 0 83 (dk_at dksX3_copy_5 16 rfl rfl)
theorem dX3_copy_136 : decode cX3_copy 136 = .ok (.aload_n 0, 1) := dk_42 (dk_at dksX3_copy_5 19 rfl rfl)
theorem dX3_copy_137 : decode cX3_copy 137 = .ok (.aload_n 1, 1) := dk_43 (dk_at dksX3_copy_5 20 rfl rfl)
theorem dX3_copy_138 : decode cX3_copy 138 = .ok (.getfield 84, 3) := dk_180 0 84 (dk_at dksX3_copy_5 21 rfl rfl)
theorem dX3_copy_141 : decode cX3_copy 141 = .ok (.putfield 84, 3) := dk_181 0 84 (dk_at dksX3_copy_6 0 rfl rfl)
theorem dX3_copy_144 : decode cX3_copy 144 = .ok (.aload_n 0, 1) := dk_42 (dk_at dksX3_copy_6 3 rfl rfl)
theorem dX3_copy_145 : decode cX3_copy 145 = .ok (.aload_n 1, 1) := dk_43 (dk_at dksX3_copy_6 4 rfl rfl)
theorem dX3_copy_146 : decode cX3_copy 146 = .ok (.getfield 90, 3) := dk_180 0 90 (dk_at dksX3_copy_6 5 rfl rfl)
theorem dX3_copy_149 : decode cX3_copy 149 = .ok (.putfield 90, 3) := dk_181 0 90 (dk_at dksX3_copy_6 8 rfl rfl)
theorem dX3_copy_152 : decode cX3_copy 152 = .ok (.aload_n 0, 1) := dk_42 (dk_at dksX3_copy_6 11 rfl rfl)
theorem dX3_copy_153 : decode cX3_copy 153 = .ok (.aload_n 1, 1) := dk_43 (dk_at dksX3_copy_6 12 rfl rfl)
theorem dX3_copy_154 : decode cX3_copy 154 = .ok (.getfield 77, 3) := dk_180 0 77 (dk_at dksX3_copy_6 13 rfl rfl)
theorem dX3_copy_157 : decode cX3_copy 157 = .ok (.putfield 77, 3) := dk_181 0 77 (dk_at dksX3_copy_6 16 rfl rfl)
theorem dX3_copy_160 : decode cX3_copy 160 = .ok (.aload_n 0, 1) := dk_42 (dk_at dksX3_copy_6 19 rfl rfl)
theorem dX3_copy_161 : decode cX3_copy 161 = .ok (.iconst (-1), 1) := dk_2 (dk_at dksX3_copy_6 20 rfl rfl)
theorem dX3_copy_162 : decode cX3_copy 162 = .ok (.putfield 36, 3) := dk_181 0 36 (dk_at dksX3_copy_6 21 rfl rfl)
theorem dX3_copy_165 : decode cX3_copy 165 = .ok (.aload_n 0, 1) := dk_42 (dk_at dksX3_copy_7 0 rfl rfl)
theorem dX3_copy_166 : decode cX3_copy 166 = .ok (.areturn, 1) := dk_176 (dk_at dksX3_copy_7 1 rfl rfl)
abbrev cX3_go : ByteArray := prog_10_method_18_code
def yX3_go : MethodName := ⟨RX3, "go", "(LTrunkLitters$Book;)I"⟩
def dkwX3_go_6 : List UInt8 := [181, 0, 84, 28, 172]
abbrev dktX3_go_6 : List UInt8 := dkwX3_go_6 ++ []
def dkwX3_go_5 : List UInt8 := [153, 0, 11, 28, 42, 29, 182, 0, 184, 128, 61, 132, 3, 1, 167, 255, 225, 42, 89, 180, 0, 84, 4, 96]
abbrev dktX3_go_5 : List UInt8 := dkwX3_go_5 ++ dktX3_go_6
def dkwX3_go_4 : List UInt8 := [167, 255, 195, 3, 62, 29, 43, 180, 0, 97, 182, 0, 46, 162, 0, 26, 42, 43, 29, 182, 0, 180]
abbrev dktX3_go_4 : List UInt8 := dkwX3_go_4 ++ dktX3_go_5
def dkwX3_go_3 : List UInt8 := [180, 0, 15, 29, 46, 182, 0, 126, 158, 0, 13, 42, 180, 0, 9, 29, 92, 46, 4, 96, 79, 132, 3, 1]
abbrev dktX3_go_3 : List UInt8 := dkwX3_go_3 ++ dktX3_go_4
def dkwX3_go_2 : List UInt8 := [180, 0, 24, 29, 46, 154, 0, 38, 42, 180, 0, 9, 29, 46, 16, 20, 162, 0, 27, 42, 43, 42]
abbrev dktX3_go_2 : List UInt8 := dkwX3_go_2 ++ dktX3_go_3
def dkwX3_go_1 : List UInt8 := [132, 3, 1, 167, 255, 233, 3, 62, 29, 16, 8, 162, 0, 61, 42, 29, 182, 0, 55, 153, 0, 47, 42]
abbrev dktX3_go_1 : List UInt8 := dkwX3_go_1 ++ dktX3_go_2
def dkwX3_go_0 : List UInt8 := [3, 61, 3, 62, 29, 16, 8, 162, 0, 23, 42, 29, 182, 0, 55, 153, 0, 9, 42, 43, 29, 182, 0, 176]
abbrev dktX3_go_0 : List UInt8 := dkwX3_go_0 ++ dktX3_go_1
theorem dksX3_go_0 : cX3_go.data.toList.drop 0 = dktX3_go_0 := by decide +kernel
theorem dksX3_go_1 : cX3_go.data.toList.drop 24 = dktX3_go_1 := dk_seg dksX3_go_0 24 rfl rfl
theorem dksX3_go_2 : cX3_go.data.toList.drop 47 = dktX3_go_2 := dk_seg dksX3_go_1 23 rfl rfl
theorem dksX3_go_3 : cX3_go.data.toList.drop 69 = dktX3_go_3 := dk_seg dksX3_go_2 22 rfl rfl
theorem dksX3_go_4 : cX3_go.data.toList.drop 93 = dktX3_go_4 := dk_seg dksX3_go_3 24 rfl rfl
theorem dksX3_go_5 : cX3_go.data.toList.drop 115 = dktX3_go_5 := dk_seg dksX3_go_4 22 rfl rfl
theorem dksX3_go_6 : cX3_go.data.toList.drop 139 = dktX3_go_6 := dk_seg dksX3_go_5 24 rfl rfl
theorem dX3_go_0 : decode cX3_go 0 = .ok (.iconst 0, 1) := dk_3 (dk_at dksX3_go_0 0 rfl rfl)
theorem dX3_go_1 : decode cX3_go 1 = .ok (.istore_n 2, 1) := dk_61 (dk_at dksX3_go_0 1 rfl rfl)
theorem dX3_go_2 : decode cX3_go 2 = .ok (.iconst 0, 1) := dk_3 (dk_at dksX3_go_0 2 rfl rfl)
theorem dX3_go_3 : decode cX3_go 3 = .ok (.istore_n 3, 1) := dk_62 (dk_at dksX3_go_0 3 rfl rfl)
theorem dX3_go_4 : decode cX3_go 4 = .ok (.iload_n 3, 1) := dk_29 (dk_at dksX3_go_0 4 rfl rfl)
theorem dX3_go_5 : decode cX3_go 5 = .ok (.bipush 8, 2) := dk_16 8 (dk_at dksX3_go_0 5 rfl rfl)
theorem dX3_go_7 : decode cX3_go 7 = .ok (.if_icmp .ge 23, 3) := dk_162 0 23 (dk_at dksX3_go_0 7 rfl rfl)
theorem dX3_go_10 : decode cX3_go 10 = .ok (.aload_n 0, 1) := dk_42 (dk_at dksX3_go_0 10 rfl rfl)
theorem dX3_go_11 : decode cX3_go 11 = .ok (.iload_n 3, 1) := dk_29 (dk_at dksX3_go_0 11 rfl rfl)
theorem dX3_go_12 : decode cX3_go 12 = .ok (.invokevirtual 55, 3) := dk_182 0 55 (dk_at dksX3_go_0 12 rfl rfl)
theorem dX3_go_15 : decode cX3_go 15 = .ok (.ifCond .eq 9, 3) := dk_153 0 9 (dk_at dksX3_go_0 15 rfl rfl)
theorem dX3_go_18 : decode cX3_go 18 = .ok (.aload_n 0, 1) := dk_42 (dk_at dksX3_go_0 18 rfl rfl)
theorem dX3_go_19 : decode cX3_go 19 = .ok (.aload_n 1, 1) := dk_43 (dk_at dksX3_go_0 19 rfl rfl)
theorem dX3_go_20 : decode cX3_go 20 = .ok (.iload_n 3, 1) := dk_29 (dk_at dksX3_go_0 20 rfl rfl)
theorem dX3_go_21 : decode cX3_go 21 = .ok (.invokevirtual 176, 3) := dk_182 0 176 (dk_at dksX3_go_0 21 rfl rfl)
theorem dX3_go_24 : decode cX3_go 24 = .ok (.iinc 3 1, 3) := dk_132 3 1 (dk_at dksX3_go_1 0 rfl rfl)
theorem dX3_go_27 : decode cX3_go 27 = .ok (.goto (-23), 3) := dk_167 255 233 (dk_at dksX3_go_1 3 rfl rfl)
theorem dX3_go_30 : decode cX3_go 30 = .ok (.iconst 0, 1) := dk_3 (dk_at dksX3_go_1 6 rfl rfl)
theorem dX3_go_31 : decode cX3_go 31 = .ok (.istore_n 3, 1) := dk_62 (dk_at dksX3_go_1 7 rfl rfl)
theorem dX3_go_32 : decode cX3_go 32 = .ok (.iload_n 3, 1) := dk_29 (dk_at dksX3_go_1 8 rfl rfl)
theorem dX3_go_33 : decode cX3_go 33 = .ok (.bipush 8, 2) := dk_16 8 (dk_at dksX3_go_1 9 rfl rfl)
theorem dX3_go_35 : decode cX3_go 35 = .ok (.if_icmp .ge 61, 3) := dk_162 0 61 (dk_at dksX3_go_1 11 rfl rfl)
theorem dX3_go_38 : decode cX3_go 38 = .ok (.aload_n 0, 1) := dk_42 (dk_at dksX3_go_1 14 rfl rfl)
theorem dX3_go_39 : decode cX3_go 39 = .ok (.iload_n 3, 1) := dk_29 (dk_at dksX3_go_1 15 rfl rfl)
theorem dX3_go_40 : decode cX3_go 40 = .ok (.invokevirtual 55, 3) := dk_182 0 55 (dk_at dksX3_go_1 16 rfl rfl)
theorem dX3_go_43 : decode cX3_go 43 = .ok (.ifCond .eq 47, 3) := dk_153 0 47 (dk_at dksX3_go_1 19 rfl rfl)
theorem dX3_go_46 : decode cX3_go 46 = .ok (.aload_n 0, 1) := dk_42 (dk_at dksX3_go_1 22 rfl rfl)
theorem dX3_go_47 : decode cX3_go 47 = .ok (.getfield 24, 3) := dk_180 0 24 (dk_at dksX3_go_2 0 rfl rfl)
theorem dX3_go_50 : decode cX3_go 50 = .ok (.iload_n 3, 1) := dk_29 (dk_at dksX3_go_2 3 rfl rfl)
theorem dX3_go_51 : decode cX3_go 51 = .ok (.iaload, 1) := dk_46 (dk_at dksX3_go_2 4 rfl rfl)
theorem dX3_go_52 : decode cX3_go 52 = .ok (.ifCond .ne 38, 3) := dk_154 0 38 (dk_at dksX3_go_2 5 rfl rfl)
theorem dX3_go_55 : decode cX3_go 55 = .ok (.aload_n 0, 1) := dk_42 (dk_at dksX3_go_2 8 rfl rfl)
theorem dX3_go_56 : decode cX3_go 56 = .ok (.getfield 9, 3) := dk_180 0 9 (dk_at dksX3_go_2 9 rfl rfl)
theorem dX3_go_59 : decode cX3_go 59 = .ok (.iload_n 3, 1) := dk_29 (dk_at dksX3_go_2 12 rfl rfl)
theorem dX3_go_60 : decode cX3_go 60 = .ok (.iaload, 1) := dk_46 (dk_at dksX3_go_2 13 rfl rfl)
theorem dX3_go_61 : decode cX3_go 61 = .ok (.bipush 20, 2) := dk_16 20 (dk_at dksX3_go_2 14 rfl rfl)
theorem dX3_go_63 : decode cX3_go 63 = .ok (.if_icmp .ge 27, 3) := dk_162 0 27 (dk_at dksX3_go_2 16 rfl rfl)
theorem dX3_go_66 : decode cX3_go 66 = .ok (.aload_n 0, 1) := dk_42 (dk_at dksX3_go_2 19 rfl rfl)
theorem dX3_go_67 : decode cX3_go 67 = .ok (.aload_n 1, 1) := dk_43 (dk_at dksX3_go_2 20 rfl rfl)
theorem dX3_go_68 : decode cX3_go 68 = .ok (.aload_n 0, 1) := dk_42 (dk_at dksX3_go_2 21 rfl rfl)
theorem dX3_go_69 : decode cX3_go 69 = .ok (.getfield 15, 3) := dk_180 0 15 (dk_at dksX3_go_3 0 rfl rfl)
theorem dX3_go_72 : decode cX3_go 72 = .ok (.iload_n 3, 1) := dk_29 (dk_at dksX3_go_3 3 rfl rfl)
theorem dX3_go_73 : decode cX3_go 73 = .ok (.iaload, 1) := dk_46 (dk_at dksX3_go_3 4 rfl rfl)
theorem dX3_go_74 : decode cX3_go 74 = .ok (.invokevirtual 126, 3) := dk_182 0 126 (dk_at dksX3_go_3 5 rfl rfl)
theorem dX3_go_77 : decode cX3_go 77 = .ok (.ifCond .le 13, 3) := dk_158 0 13 (dk_at dksX3_go_3 8 rfl rfl)
theorem dX3_go_80 : decode cX3_go 80 = .ok (.aload_n 0, 1) := dk_42 (dk_at dksX3_go_3 11 rfl rfl)
theorem dX3_go_81 : decode cX3_go 81 = .ok (.getfield 9, 3) := dk_180 0 9 (dk_at dksX3_go_3 12 rfl rfl)
theorem dX3_go_84 : decode cX3_go 84 = .ok (.iload_n 3, 1) := dk_29 (dk_at dksX3_go_3 15 rfl rfl)
theorem dX3_go_85 : decode cX3_go 85 = .ok (.dup2, 1) := dk_92 (dk_at dksX3_go_3 16 rfl rfl)
theorem dX3_go_86 : decode cX3_go 86 = .ok (.iaload, 1) := dk_46 (dk_at dksX3_go_3 17 rfl rfl)
theorem dX3_go_87 : decode cX3_go 87 = .ok (.iconst 1, 1) := dk_4 (dk_at dksX3_go_3 18 rfl rfl)
theorem dX3_go_88 : decode cX3_go 88 = .ok (.iadd, 1) := dk_96 (dk_at dksX3_go_3 19 rfl rfl)
theorem dX3_go_89 : decode cX3_go 89 = .ok (.iastore, 1) := dk_79 (dk_at dksX3_go_3 20 rfl rfl)
theorem dX3_go_90 : decode cX3_go 90 = .ok (.iinc 3 1, 3) := dk_132 3 1 (dk_at dksX3_go_3 21 rfl rfl)
theorem dX3_go_93 : decode cX3_go 93 = .ok (.goto (-61), 3) := dk_167 255 195 (dk_at dksX3_go_4 0 rfl rfl)
theorem dX3_go_96 : decode cX3_go 96 = .ok (.iconst 0, 1) := dk_3 (dk_at dksX3_go_4 3 rfl rfl)
theorem dX3_go_97 : decode cX3_go 97 = .ok (.istore_n 3, 1) := dk_62 (dk_at dksX3_go_4 4 rfl rfl)
theorem dX3_go_98 : decode cX3_go 98 = .ok (.iload_n 3, 1) := dk_29 (dk_at dksX3_go_4 5 rfl rfl)
theorem dX3_go_99 : decode cX3_go 99 = .ok (.aload_n 1, 1) := dk_43 (dk_at dksX3_go_4 6 rfl rfl)
theorem dX3_go_100 : decode cX3_go 100 = .ok (.getfield 97, 3) := dk_180 0 97 (dk_at dksX3_go_4 7 rfl rfl)
theorem dX3_go_103 : decode cX3_go 103 = .ok (.invokevirtual 46, 3) := dk_182 0 46 (dk_at dksX3_go_4 10 rfl rfl)
theorem dX3_go_106 : decode cX3_go 106 = .ok (.if_icmp .ge 26, 3) := dk_162 0 26 (dk_at dksX3_go_4 13 rfl rfl)
theorem dX3_go_109 : decode cX3_go 109 = .ok (.aload_n 0, 1) := dk_42 (dk_at dksX3_go_4 16 rfl rfl)
theorem dX3_go_110 : decode cX3_go 110 = .ok (.aload_n 1, 1) := dk_43 (dk_at dksX3_go_4 17 rfl rfl)
theorem dX3_go_111 : decode cX3_go 111 = .ok (.iload_n 3, 1) := dk_29 (dk_at dksX3_go_4 18 rfl rfl)
theorem dX3_go_112 : decode cX3_go 112 = .ok (.invokevirtual 180, 3) := dk_182 0 180 (dk_at dksX3_go_4 19 rfl rfl)
theorem dX3_go_115 : decode cX3_go 115 = .ok (.ifCond .eq 11, 3) := dk_153 0 11 (dk_at dksX3_go_5 0 rfl rfl)
theorem dX3_go_118 : decode cX3_go 118 = .ok (.iload_n 2, 1) := dk_28 (dk_at dksX3_go_5 3 rfl rfl)
theorem dX3_go_119 : decode cX3_go 119 = .ok (.aload_n 0, 1) := dk_42 (dk_at dksX3_go_5 4 rfl rfl)
theorem dX3_go_120 : decode cX3_go 120 = .ok (.iload_n 3, 1) := dk_29 (dk_at dksX3_go_5 5 rfl rfl)
theorem dX3_go_121 : decode cX3_go 121 = .ok (.invokevirtual 184, 3) := dk_182 0 184 (dk_at dksX3_go_5 6 rfl rfl)
theorem dX3_go_124 : decode cX3_go 124 = .ok (.ior, 1) := dk_128 (dk_at dksX3_go_5 9 rfl rfl)
theorem dX3_go_125 : decode cX3_go 125 = .ok (.istore_n 2, 1) := dk_61 (dk_at dksX3_go_5 10 rfl rfl)
theorem dX3_go_126 : decode cX3_go 126 = .ok (.iinc 3 1, 3) := dk_132 3 1 (dk_at dksX3_go_5 11 rfl rfl)
theorem dX3_go_129 : decode cX3_go 129 = .ok (.goto (-31), 3) := dk_167 255 225 (dk_at dksX3_go_5 14 rfl rfl)
theorem dX3_go_132 : decode cX3_go 132 = .ok (.aload_n 0, 1) := dk_42 (dk_at dksX3_go_5 17 rfl rfl)
theorem dX3_go_133 : decode cX3_go 133 = .ok (.dup, 1) := dk_89 (dk_at dksX3_go_5 18 rfl rfl)
theorem dX3_go_134 : decode cX3_go 134 = .ok (.getfield 84, 3) := dk_180 0 84 (dk_at dksX3_go_5 19 rfl rfl)
theorem dX3_go_137 : decode cX3_go 137 = .ok (.iconst 1, 1) := dk_4 (dk_at dksX3_go_5 22 rfl rfl)
theorem dX3_go_138 : decode cX3_go 138 = .ok (.iadd, 1) := dk_96 (dk_at dksX3_go_5 23 rfl rfl)
theorem dX3_go_139 : decode cX3_go 139 = .ok (.putfield 84, 3) := dk_181 0 84 (dk_at dksX3_go_6 0 rfl rfl)
theorem dX3_go_142 : decode cX3_go 142 = .ok (.iload_n 2, 1) := dk_28 (dk_at dksX3_go_6 3 rfl rfl)
theorem dX3_go_143 : decode cX3_go 143 = .ok (.ireturn, 1) := dk_172 (dk_at dksX3_go_6 4 rfl rfl)
abbrev cX3_listens : ByteArray := prog_10_method_17_code
def yX3_listens : MethodName := ⟨RX3, "listens", "(LTrunkLitters$Book;I)V"⟩
def dkwX3_listens_2 : List UInt8 := [156, 0, 10, 43, 180, 0, 172, 167, 0, 7, 42, 180, 0, 36, 161, 0, 8, 42, 28, 182, 0, 173, 177]
abbrev dktX3_listens_2 : List UInt8 := dkwX3_listens_2 ++ []
def dkwX3_listens_1 : List UInt8 := [3, 79, 177, 42, 180, 0, 24, 28, 92, 46, 4, 96, 79, 42, 180, 0, 24, 28, 46, 42, 180, 0, 36]
abbrev dktX3_listens_1 : List UInt8 := dkwX3_listens_1 ++ dktX3_listens_2
def dkwX3_listens_0 : List UInt8 := [42, 180, 0, 21, 28, 46, 158, 0, 21, 42, 180, 0, 21, 28, 92, 46, 4, 100, 79, 42, 180, 0, 24, 28]
abbrev dktX3_listens_0 : List UInt8 := dkwX3_listens_0 ++ dktX3_listens_1
theorem dksX3_listens_0 : cX3_listens.data.toList.drop 0 = dktX3_listens_0 := by decide +kernel
theorem dksX3_listens_1 : cX3_listens.data.toList.drop 24 = dktX3_listens_1 := dk_seg dksX3_listens_0 24 rfl rfl
theorem dksX3_listens_2 : cX3_listens.data.toList.drop 47 = dktX3_listens_2 := dk_seg dksX3_listens_1 23 rfl rfl
theorem dX3_listens_0 : decode cX3_listens 0 = .ok (.aload_n 0, 1) := dk_42 (dk_at dksX3_listens_0 0 rfl rfl)
theorem dX3_listens_1 : decode cX3_listens 1 = .ok (.getfield 21, 3) := dk_180 0 21 (dk_at dksX3_listens_0 1 rfl rfl)
theorem dX3_listens_4 : decode cX3_listens 4 = .ok (.iload_n 2, 1) := dk_28 (dk_at dksX3_listens_0 4 rfl rfl)
theorem dX3_listens_5 : decode cX3_listens 5 = .ok (.iaload, 1) := dk_46 (dk_at dksX3_listens_0 5 rfl rfl)
theorem dX3_listens_6 : decode cX3_listens 6 = .ok (.ifCond .le 21, 3) := dk_158 0 21 (dk_at dksX3_listens_0 6 rfl rfl)
theorem dX3_listens_9 : decode cX3_listens 9 = .ok (.aload_n 0, 1) := dk_42 (dk_at dksX3_listens_0 9 rfl rfl)
theorem dX3_listens_10 : decode cX3_listens 10 = .ok (.getfield 21, 3) := dk_180 0 21 (dk_at dksX3_listens_0 10 rfl rfl)
theorem dX3_listens_13 : decode cX3_listens 13 = .ok (.iload_n 2, 1) := dk_28 (dk_at dksX3_listens_0 13 rfl rfl)
theorem dX3_listens_14 : decode cX3_listens 14 = .ok (.dup2, 1) := dk_92 (dk_at dksX3_listens_0 14 rfl rfl)
theorem dX3_listens_15 : decode cX3_listens 15 = .ok (.iaload, 1) := dk_46 (dk_at dksX3_listens_0 15 rfl rfl)
theorem dX3_listens_16 : decode cX3_listens 16 = .ok (.iconst 1, 1) := dk_4 (dk_at dksX3_listens_0 16 rfl rfl)
theorem dX3_listens_17 : decode cX3_listens 17 = .ok (.isub, 1) := dk_100 (dk_at dksX3_listens_0 17 rfl rfl)
theorem dX3_listens_18 : decode cX3_listens 18 = .ok (.iastore, 1) := dk_79 (dk_at dksX3_listens_0 18 rfl rfl)
theorem dX3_listens_19 : decode cX3_listens 19 = .ok (.aload_n 0, 1) := dk_42 (dk_at dksX3_listens_0 19 rfl rfl)
theorem dX3_listens_20 : decode cX3_listens 20 = .ok (.getfield 24, 3) := dk_180 0 24 (dk_at dksX3_listens_0 20 rfl rfl)
theorem dX3_listens_23 : decode cX3_listens 23 = .ok (.iload_n 2, 1) := dk_28 (dk_at dksX3_listens_0 23 rfl rfl)
theorem dX3_listens_24 : decode cX3_listens 24 = .ok (.iconst 0, 1) := dk_3 (dk_at dksX3_listens_1 0 rfl rfl)
theorem dX3_listens_25 : decode cX3_listens 25 = .ok (.iastore, 1) := dk_79 (dk_at dksX3_listens_1 1 rfl rfl)
theorem dX3_listens_26 : decode cX3_listens 26 = .ok (.return_, 1) := dk_177 (dk_at dksX3_listens_1 2 rfl rfl)
theorem dX3_listens_27 : decode cX3_listens 27 = .ok (.aload_n 0, 1) := dk_42 (dk_at dksX3_listens_1 3 rfl rfl)
theorem dX3_listens_28 : decode cX3_listens 28 = .ok (.getfield 24, 3) := dk_180 0 24 (dk_at dksX3_listens_1 4 rfl rfl)
theorem dX3_listens_31 : decode cX3_listens 31 = .ok (.iload_n 2, 1) := dk_28 (dk_at dksX3_listens_1 7 rfl rfl)
theorem dX3_listens_32 : decode cX3_listens 32 = .ok (.dup2, 1) := dk_92 (dk_at dksX3_listens_1 8 rfl rfl)
theorem dX3_listens_33 : decode cX3_listens 33 = .ok (.iaload, 1) := dk_46 (dk_at dksX3_listens_1 9 rfl rfl)
theorem dX3_listens_34 : decode cX3_listens 34 = .ok (.iconst 1, 1) := dk_4 (dk_at dksX3_listens_1 10 rfl rfl)
theorem dX3_listens_35 : decode cX3_listens 35 = .ok (.iadd, 1) := dk_96 (dk_at dksX3_listens_1 11 rfl rfl)
theorem dX3_listens_36 : decode cX3_listens 36 = .ok (.iastore, 1) := dk_79 (dk_at dksX3_listens_1 12 rfl rfl)
theorem dX3_listens_37 : decode cX3_listens 37 = .ok (.aload_n 0, 1) := dk_42 (dk_at dksX3_listens_1 13 rfl rfl)
theorem dX3_listens_38 : decode cX3_listens 38 = .ok (.getfield 24, 3) := dk_180 0 24 (dk_at dksX3_listens_1 14 rfl rfl)
theorem dX3_listens_41 : decode cX3_listens 41 = .ok (.iload_n 2, 1) := dk_28 (dk_at dksX3_listens_1 17 rfl rfl)
theorem dX3_listens_42 : decode cX3_listens 42 = .ok (.iaload, 1) := dk_46 (dk_at dksX3_listens_1 18 rfl rfl)
theorem dX3_listens_43 : decode cX3_listens 43 = .ok (.aload_n 0, 1) := dk_42 (dk_at dksX3_listens_1 19 rfl rfl)
theorem dX3_listens_44 : decode cX3_listens 44 = .ok (.getfield 36, 3) := dk_180 0 36 (dk_at dksX3_listens_1 20 rfl rfl)
theorem dX3_listens_47 : decode cX3_listens 47 = .ok (.ifCond .ge 10, 3) := dk_156 0 10 (dk_at dksX3_listens_2 0 rfl rfl)
theorem dX3_listens_50 : decode cX3_listens 50 = .ok (.aload_n 1, 1) := dk_43 (dk_at dksX3_listens_2 3 rfl rfl)
theorem dX3_listens_51 : decode cX3_listens 51 = .ok (.getfield 172, 3) := dk_180 0 172 (dk_at dksX3_listens_2 4 rfl rfl)
theorem dX3_listens_54 : decode cX3_listens 54 = .ok (.goto 7, 3) := dk_167 0 7 (dk_at dksX3_listens_2 7 rfl rfl)
theorem dX3_listens_57 : decode cX3_listens 57 = .ok (.aload_n 0, 1) := dk_42 (dk_at dksX3_listens_2 10 rfl rfl)
theorem dX3_listens_58 : decode cX3_listens 58 = .ok (.getfield 36, 3) := dk_180 0 36 (dk_at dksX3_listens_2 11 rfl rfl)
theorem dX3_listens_61 : decode cX3_listens 61 = .ok (.if_icmp .lt 8, 3) := dk_161 0 8 (dk_at dksX3_listens_2 14 rfl rfl)
theorem dX3_listens_64 : decode cX3_listens 64 = .ok (.aload_n 0, 1) := dk_42 (dk_at dksX3_listens_2 17 rfl rfl)
theorem dX3_listens_65 : decode cX3_listens 65 = .ok (.iload_n 2, 1) := dk_28 (dk_at dksX3_listens_2 18 rfl rfl)
theorem dX3_listens_66 : decode cX3_listens 66 = .ok (.invokevirtual 173, 3) := dk_182 0 173 (dk_at dksX3_listens_2 19 rfl rfl)
theorem dX3_listens_69 : decode cX3_listens 69 = .ok (.return_, 1) := dk_177 (dk_at dksX3_listens_2 22 rfl rfl)
abbrev cX3_leaves : ByteArray := prog_10_method_6_code
def yX3_leaves : MethodName := ⟨RX3, "leaves", "(I)V"⟩
def dkwX3_leaves_3 : List UInt8 := [167, 0, 9, 42, 180, 0, 30, 28, 46, 79, 132, 2, 1, 167, 255, 195, 177]
abbrev dktX3_leaves_3 : List UInt8 := dkwX3_leaves_3 ++ []
def dkwX3_leaves_2 : List UInt8 := [180, 0, 27, 28, 46, 79, 42, 180, 0, 30, 28, 42, 180, 0, 30, 28, 46, 27, 160, 0, 7, 2]
abbrev dktX3_leaves_2 : List UInt8 := dkwX3_leaves_2 ++ dktX3_leaves_3
def dkwX3_leaves_1 : List UInt8 := [162, 0, 61, 42, 180, 0, 27, 28, 42, 180, 0, 27, 28, 46, 27, 160, 0, 7, 2, 167, 0, 9, 42]
abbrev dktX3_leaves_1 : List UInt8 := dkwX3_leaves_1 ++ dktX3_leaves_2
def dkwX3_leaves_0 : List UInt8 := [42, 89, 180, 0, 52, 4, 27, 120, 2, 130, 126, 181, 0, 52, 42, 27, 182, 0, 59, 3, 61, 28, 16, 8]
abbrev dktX3_leaves_0 : List UInt8 := dkwX3_leaves_0 ++ dktX3_leaves_1
theorem dksX3_leaves_0 : cX3_leaves.data.toList.drop 0 = dktX3_leaves_0 := by decide +kernel
theorem dksX3_leaves_1 : cX3_leaves.data.toList.drop 24 = dktX3_leaves_1 := dk_seg dksX3_leaves_0 24 rfl rfl
theorem dksX3_leaves_2 : cX3_leaves.data.toList.drop 47 = dktX3_leaves_2 := dk_seg dksX3_leaves_1 23 rfl rfl
theorem dksX3_leaves_3 : cX3_leaves.data.toList.drop 69 = dktX3_leaves_3 := dk_seg dksX3_leaves_2 22 rfl rfl
theorem dX3_leaves_0 : decode cX3_leaves 0 = .ok (.aload_n 0, 1) := dk_42 (dk_at dksX3_leaves_0 0 rfl rfl)
theorem dX3_leaves_1 : decode cX3_leaves 1 = .ok (.dup, 1) := dk_89 (dk_at dksX3_leaves_0 1 rfl rfl)
theorem dX3_leaves_2 : decode cX3_leaves 2 = .ok (.getfield 52, 3) := dk_180 0 52 (dk_at dksX3_leaves_0 2 rfl rfl)
theorem dX3_leaves_5 : decode cX3_leaves 5 = .ok (.iconst 1, 1) := dk_4 (dk_at dksX3_leaves_0 5 rfl rfl)
theorem dX3_leaves_6 : decode cX3_leaves 6 = .ok (.iload_n 1, 1) := dk_27 (dk_at dksX3_leaves_0 6 rfl rfl)
theorem dX3_leaves_7 : decode cX3_leaves 7 = .ok (.ishl, 1) := dk_120 (dk_at dksX3_leaves_0 7 rfl rfl)
theorem dX3_leaves_8 : decode cX3_leaves 8 = .ok (.iconst (-1), 1) := dk_2 (dk_at dksX3_leaves_0 8 rfl rfl)
theorem dX3_leaves_9 : decode cX3_leaves 9 = .ok (.ixor, 1) := dk_130 (dk_at dksX3_leaves_0 9 rfl rfl)
theorem dX3_leaves_10 : decode cX3_leaves 10 = .ok (.iand, 1) := dk_126 (dk_at dksX3_leaves_0 10 rfl rfl)
theorem dX3_leaves_11 : decode cX3_leaves 11 = .ok (.putfield 52, 3) := dk_181 0 52 (dk_at dksX3_leaves_0 11 rfl rfl)
theorem dX3_leaves_14 : decode cX3_leaves 14 = .ok (.aload_n 0, 1) := dk_42 (dk_at dksX3_leaves_0 14 rfl rfl)
theorem dX3_leaves_15 : decode cX3_leaves 15 = .ok (.iload_n 1, 1) := dk_27 (dk_at dksX3_leaves_0 15 rfl rfl)
theorem dX3_leaves_16 : decode cX3_leaves 16 = .ok (.invokevirtual 59, 3) := dk_182 0 59 (dk_at dksX3_leaves_0 16 rfl rfl)
theorem dX3_leaves_19 : decode cX3_leaves 19 = .ok (.iconst 0, 1) := dk_3 (dk_at dksX3_leaves_0 19 rfl rfl)
theorem dX3_leaves_20 : decode cX3_leaves 20 = .ok (.istore_n 2, 1) := dk_61 (dk_at dksX3_leaves_0 20 rfl rfl)
theorem dX3_leaves_21 : decode cX3_leaves 21 = .ok (.iload_n 2, 1) := dk_28 (dk_at dksX3_leaves_0 21 rfl rfl)
theorem dX3_leaves_22 : decode cX3_leaves 22 = .ok (.bipush 8, 2) := dk_16 8 (dk_at dksX3_leaves_0 22 rfl rfl)
theorem dX3_leaves_24 : decode cX3_leaves 24 = .ok (.if_icmp .ge 61, 3) := dk_162 0 61 (dk_at dksX3_leaves_1 0 rfl rfl)
theorem dX3_leaves_27 : decode cX3_leaves 27 = .ok (.aload_n 0, 1) := dk_42 (dk_at dksX3_leaves_1 3 rfl rfl)
theorem dX3_leaves_28 : decode cX3_leaves 28 = .ok (.getfield 27, 3) := dk_180 0 27 (dk_at dksX3_leaves_1 4 rfl rfl)
theorem dX3_leaves_31 : decode cX3_leaves 31 = .ok (.iload_n 2, 1) := dk_28 (dk_at dksX3_leaves_1 7 rfl rfl)
theorem dX3_leaves_32 : decode cX3_leaves 32 = .ok (.aload_n 0, 1) := dk_42 (dk_at dksX3_leaves_1 8 rfl rfl)
theorem dX3_leaves_33 : decode cX3_leaves 33 = .ok (.getfield 27, 3) := dk_180 0 27 (dk_at dksX3_leaves_1 9 rfl rfl)
theorem dX3_leaves_36 : decode cX3_leaves 36 = .ok (.iload_n 2, 1) := dk_28 (dk_at dksX3_leaves_1 12 rfl rfl)
theorem dX3_leaves_37 : decode cX3_leaves 37 = .ok (.iaload, 1) := dk_46 (dk_at dksX3_leaves_1 13 rfl rfl)
theorem dX3_leaves_38 : decode cX3_leaves 38 = .ok (.iload_n 1, 1) := dk_27 (dk_at dksX3_leaves_1 14 rfl rfl)
theorem dX3_leaves_39 : decode cX3_leaves 39 = .ok (.if_icmp .ne 7, 3) := dk_160 0 7 (dk_at dksX3_leaves_1 15 rfl rfl)
theorem dX3_leaves_42 : decode cX3_leaves 42 = .ok (.iconst (-1), 1) := dk_2 (dk_at dksX3_leaves_1 18 rfl rfl)
theorem dX3_leaves_43 : decode cX3_leaves 43 = .ok (.goto 9, 3) := dk_167 0 9 (dk_at dksX3_leaves_1 19 rfl rfl)
theorem dX3_leaves_46 : decode cX3_leaves 46 = .ok (.aload_n 0, 1) := dk_42 (dk_at dksX3_leaves_1 22 rfl rfl)
theorem dX3_leaves_47 : decode cX3_leaves 47 = .ok (.getfield 27, 3) := dk_180 0 27 (dk_at dksX3_leaves_2 0 rfl rfl)
theorem dX3_leaves_50 : decode cX3_leaves 50 = .ok (.iload_n 2, 1) := dk_28 (dk_at dksX3_leaves_2 3 rfl rfl)
theorem dX3_leaves_51 : decode cX3_leaves 51 = .ok (.iaload, 1) := dk_46 (dk_at dksX3_leaves_2 4 rfl rfl)
theorem dX3_leaves_52 : decode cX3_leaves 52 = .ok (.iastore, 1) := dk_79 (dk_at dksX3_leaves_2 5 rfl rfl)
theorem dX3_leaves_53 : decode cX3_leaves 53 = .ok (.aload_n 0, 1) := dk_42 (dk_at dksX3_leaves_2 6 rfl rfl)
theorem dX3_leaves_54 : decode cX3_leaves 54 = .ok (.getfield 30, 3) := dk_180 0 30 (dk_at dksX3_leaves_2 7 rfl rfl)
theorem dX3_leaves_57 : decode cX3_leaves 57 = .ok (.iload_n 2, 1) := dk_28 (dk_at dksX3_leaves_2 10 rfl rfl)
theorem dX3_leaves_58 : decode cX3_leaves 58 = .ok (.aload_n 0, 1) := dk_42 (dk_at dksX3_leaves_2 11 rfl rfl)
theorem dX3_leaves_59 : decode cX3_leaves 59 = .ok (.getfield 30, 3) := dk_180 0 30 (dk_at dksX3_leaves_2 12 rfl rfl)
theorem dX3_leaves_62 : decode cX3_leaves 62 = .ok (.iload_n 2, 1) := dk_28 (dk_at dksX3_leaves_2 15 rfl rfl)
theorem dX3_leaves_63 : decode cX3_leaves 63 = .ok (.iaload, 1) := dk_46 (dk_at dksX3_leaves_2 16 rfl rfl)
theorem dX3_leaves_64 : decode cX3_leaves 64 = .ok (.iload_n 1, 1) := dk_27 (dk_at dksX3_leaves_2 17 rfl rfl)
theorem dX3_leaves_65 : decode cX3_leaves 65 = .ok (.if_icmp .ne 7, 3) := dk_160 0 7 (dk_at dksX3_leaves_2 18 rfl rfl)
theorem dX3_leaves_68 : decode cX3_leaves 68 = .ok (.iconst (-1), 1) := dk_2 (dk_at dksX3_leaves_2 21 rfl rfl)
theorem dX3_leaves_69 : decode cX3_leaves 69 = .ok (.goto 9, 3) := dk_167 0 9 (dk_at dksX3_leaves_3 0 rfl rfl)
theorem dX3_leaves_72 : decode cX3_leaves 72 = .ok (.aload_n 0, 1) := dk_42 (dk_at dksX3_leaves_3 3 rfl rfl)
theorem dX3_leaves_73 : decode cX3_leaves 73 = .ok (.getfield 30, 3) := dk_180 0 30 (dk_at dksX3_leaves_3 4 rfl rfl)
theorem dX3_leaves_76 : decode cX3_leaves 76 = .ok (.iload_n 2, 1) := dk_28 (dk_at dksX3_leaves_3 7 rfl rfl)
theorem dX3_leaves_77 : decode cX3_leaves 77 = .ok (.iaload, 1) := dk_46 (dk_at dksX3_leaves_3 8 rfl rfl)
theorem dX3_leaves_78 : decode cX3_leaves 78 = .ok (.iastore, 1) := dk_79 (dk_at dksX3_leaves_3 9 rfl rfl)
theorem dX3_leaves_79 : decode cX3_leaves 79 = .ok (.iinc 2 1, 3) := dk_132 2 1 (dk_at dksX3_leaves_3 10 rfl rfl)
theorem dX3_leaves_82 : decode cX3_leaves 82 = .ok (.goto (-61), 3) := dk_167 255 195 (dk_at dksX3_leaves_3 13 rfl rfl)
theorem dX3_leaves_85 : decode cX3_leaves 85 = .ok (.return_, 1) := dk_177 (dk_at dksX3_leaves_3 16 rfl rfl)
abbrev cX3_bringForth : ByteArray := prog_10_method_16_code
def yX3_bringForth : MethodName := ⟨RX3, "bringForth", "(I)I"⟩
def dkwX3_bringForth_7 : List UInt8 := [89, 180, 0, 52, 4, 29, 120, 128, 181, 0, 52, 4, 29, 120, 172]
abbrev dktX3_bringForth_7 : List UInt8 := dkwX3_bringForth_7 ++ []
def dkwX3_bringForth_6 : List UInt8 := [21, 5, 79, 42, 180, 0, 33, 29, 42, 180, 0, 77, 79, 42, 89, 180, 0, 77, 4, 96, 181, 0, 77, 42]
abbrev dktX3_bringForth_6 : List UInt8 := dkwX3_bringForth_6 ++ dktX3_bringForth_7
def dkwX3_bringForth_5 : List UInt8 := [120, 126, 128, 79, 132, 6, 1, 167, 255, 197, 42, 180, 0, 27, 29, 21, 4, 79, 42, 180, 0, 30, 29]
abbrev dktX3_bringForth_5 : List UInt8 := dkwX3_bringForth_5 ++ dktX3_bringForth_6
def dkwX3_bringForth_4 : List UInt8 := [180, 0, 18, 21, 4, 46, 4, 21, 6, 120, 126, 167, 0, 15, 42, 180, 0, 18, 21, 5, 46, 4, 21, 6]
abbrev dktX3_bringForth_4 : List UInt8 := dkwX3_bringForth_4 ++ dktX3_bringForth_5
def dkwX3_bringForth_3 : List UInt8 := [162, 0, 58, 42, 180, 0, 18, 29, 92, 46, 42, 180, 0, 90, 21, 6, 122, 4, 126, 4, 160, 0, 18, 42]
abbrev dktX3_bringForth_3 : List UInt8 := dkwX3_bringForth_3 ++ dktX3_bringForth_4
def dkwX3_bringForth_2 : List UInt8 := [180, 0, 9, 29, 42, 28, 182, 0, 169, 79, 42, 180, 0, 15, 29, 27, 79, 3, 54, 6, 21, 6, 16, 6]
abbrev dktX3_bringForth_2 : List UInt8 := dkwX3_bringForth_2 ++ dktX3_bringForth_3
def dkwX3_bringForth_1 : List UInt8 := [42, 180, 0, 90, 17, 0, 137, 104, 16, 71, 96, 17, 3, 232, 112, 181, 0, 90, 42, 29, 182, 0, 59, 42]
abbrev dktX3_bringForth_1 : List UInt8 := dkwX3_bringForth_1 ++ dktX3_bringForth_2
def dkwX3_bringForth_0 : List UInt8 := [42, 27, 182, 0, 159, 61, 42, 182, 0, 162, 62, 28, 16, 8, 108, 54, 4, 28, 16, 8, 112, 54, 5, 42]
abbrev dktX3_bringForth_0 : List UInt8 := dkwX3_bringForth_0 ++ dktX3_bringForth_1
theorem dksX3_bringForth_0 : cX3_bringForth.data.toList.drop 0 = dktX3_bringForth_0 := by decide +kernel
theorem dksX3_bringForth_1 : cX3_bringForth.data.toList.drop 24 = dktX3_bringForth_1 := dk_seg dksX3_bringForth_0 24 rfl rfl
theorem dksX3_bringForth_2 : cX3_bringForth.data.toList.drop 48 = dktX3_bringForth_2 := dk_seg dksX3_bringForth_1 24 rfl rfl
theorem dksX3_bringForth_3 : cX3_bringForth.data.toList.drop 72 = dktX3_bringForth_3 := dk_seg dksX3_bringForth_2 24 rfl rfl
theorem dksX3_bringForth_4 : cX3_bringForth.data.toList.drop 96 = dktX3_bringForth_4 := dk_seg dksX3_bringForth_3 24 rfl rfl
theorem dksX3_bringForth_5 : cX3_bringForth.data.toList.drop 120 = dktX3_bringForth_5 := dk_seg dksX3_bringForth_4 24 rfl rfl
theorem dksX3_bringForth_6 : cX3_bringForth.data.toList.drop 143 = dktX3_bringForth_6 := dk_seg dksX3_bringForth_5 23 rfl rfl
theorem dksX3_bringForth_7 : cX3_bringForth.data.toList.drop 167 = dktX3_bringForth_7 := dk_seg dksX3_bringForth_6 24 rfl rfl
theorem dX3_bringForth_0 : decode cX3_bringForth 0 = .ok (.aload_n 0, 1) := dk_42 (dk_at dksX3_bringForth_0 0 rfl rfl)
theorem dX3_bringForth_1 : decode cX3_bringForth 1 = .ok (.iload_n 1, 1) := dk_27 (dk_at dksX3_bringForth_0 1 rfl rfl)
theorem dX3_bringForth_2 : decode cX3_bringForth 2 = .ok (.invokevirtual 159, 3) := dk_182 0 159 (dk_at dksX3_bringForth_0 2 rfl rfl)
theorem dX3_bringForth_5 : decode cX3_bringForth 5 = .ok (.istore_n 2, 1) := dk_61 (dk_at dksX3_bringForth_0 5 rfl rfl)
theorem dX3_bringForth_6 : decode cX3_bringForth 6 = .ok (.aload_n 0, 1) := dk_42 (dk_at dksX3_bringForth_0 6 rfl rfl)
theorem dX3_bringForth_7 : decode cX3_bringForth 7 = .ok (.invokevirtual 162, 3) := dk_182 0 162 (dk_at dksX3_bringForth_0 7 rfl rfl)
theorem dX3_bringForth_10 : decode cX3_bringForth 10 = .ok (.istore_n 3, 1) := dk_62 (dk_at dksX3_bringForth_0 10 rfl rfl)
theorem dX3_bringForth_11 : decode cX3_bringForth 11 = .ok (.iload_n 2, 1) := dk_28 (dk_at dksX3_bringForth_0 11 rfl rfl)
theorem dX3_bringForth_12 : decode cX3_bringForth 12 = .ok (.bipush 8, 2) := dk_16 8 (dk_at dksX3_bringForth_0 12 rfl rfl)
theorem dX3_bringForth_14 : decode cX3_bringForth 14 = .ok (.idiv, 1) := dk_108 (dk_at dksX3_bringForth_0 14 rfl rfl)
theorem dX3_bringForth_15 : decode cX3_bringForth 15 = .ok (.istore 4, 2) := dk_54 4 (dk_at dksX3_bringForth_0 15 rfl rfl)
theorem dX3_bringForth_17 : decode cX3_bringForth 17 = .ok (.iload_n 2, 1) := dk_28 (dk_at dksX3_bringForth_0 17 rfl rfl)
theorem dX3_bringForth_18 : decode cX3_bringForth 18 = .ok (.bipush 8, 2) := dk_16 8 (dk_at dksX3_bringForth_0 18 rfl rfl)
theorem dX3_bringForth_20 : decode cX3_bringForth 20 = .ok (.irem, 1) := dk_112 (dk_at dksX3_bringForth_0 20 rfl rfl)
theorem dX3_bringForth_21 : decode cX3_bringForth 21 = .ok (.istore 5, 2) := dk_54 5 (dk_at dksX3_bringForth_0 21 rfl rfl)
theorem dX3_bringForth_23 : decode cX3_bringForth 23 = .ok (.aload_n 0, 1) := dk_42 (dk_at dksX3_bringForth_0 23 rfl rfl)
theorem dX3_bringForth_24 : decode cX3_bringForth 24 = .ok (.aload_n 0, 1) := dk_42 (dk_at dksX3_bringForth_1 0 rfl rfl)
theorem dX3_bringForth_25 : decode cX3_bringForth 25 = .ok (.getfield 90, 3) := dk_180 0 90 (dk_at dksX3_bringForth_1 1 rfl rfl)
theorem dX3_bringForth_28 : decode cX3_bringForth 28 = .ok (.sipush 137, 3) := dk_17 0 137 (dk_at dksX3_bringForth_1 4 rfl rfl)
theorem dX3_bringForth_31 : decode cX3_bringForth 31 = .ok (.imul, 1) := dk_104 (dk_at dksX3_bringForth_1 7 rfl rfl)
theorem dX3_bringForth_32 : decode cX3_bringForth 32 = .ok (.bipush 71, 2) := dk_16 71 (dk_at dksX3_bringForth_1 8 rfl rfl)
theorem dX3_bringForth_34 : decode cX3_bringForth 34 = .ok (.iadd, 1) := dk_96 (dk_at dksX3_bringForth_1 10 rfl rfl)
theorem dX3_bringForth_35 : decode cX3_bringForth 35 = .ok (.sipush 1000, 3) := dk_17 3 232 (dk_at dksX3_bringForth_1 11 rfl rfl)
theorem dX3_bringForth_38 : decode cX3_bringForth 38 = .ok (.irem, 1) := dk_112 (dk_at dksX3_bringForth_1 14 rfl rfl)
theorem dX3_bringForth_39 : decode cX3_bringForth 39 = .ok (.putfield 90, 3) := dk_181 0 90 (dk_at dksX3_bringForth_1 15 rfl rfl)
theorem dX3_bringForth_42 : decode cX3_bringForth 42 = .ok (.aload_n 0, 1) := dk_42 (dk_at dksX3_bringForth_1 18 rfl rfl)
theorem dX3_bringForth_43 : decode cX3_bringForth 43 = .ok (.iload_n 3, 1) := dk_29 (dk_at dksX3_bringForth_1 19 rfl rfl)
theorem dX3_bringForth_44 : decode cX3_bringForth 44 = .ok (.invokevirtual 59, 3) := dk_182 0 59 (dk_at dksX3_bringForth_1 20 rfl rfl)
theorem dX3_bringForth_47 : decode cX3_bringForth 47 = .ok (.aload_n 0, 1) := dk_42 (dk_at dksX3_bringForth_1 23 rfl rfl)
theorem dX3_bringForth_48 : decode cX3_bringForth 48 = .ok (.getfield 9, 3) := dk_180 0 9 (dk_at dksX3_bringForth_2 0 rfl rfl)
theorem dX3_bringForth_51 : decode cX3_bringForth 51 = .ok (.iload_n 3, 1) := dk_29 (dk_at dksX3_bringForth_2 3 rfl rfl)
theorem dX3_bringForth_52 : decode cX3_bringForth 52 = .ok (.aload_n 0, 1) := dk_42 (dk_at dksX3_bringForth_2 4 rfl rfl)
theorem dX3_bringForth_53 : decode cX3_bringForth 53 = .ok (.iload_n 2, 1) := dk_28 (dk_at dksX3_bringForth_2 5 rfl rfl)
theorem dX3_bringForth_54 : decode cX3_bringForth 54 = .ok (.invokevirtual 169, 3) := dk_182 0 169 (dk_at dksX3_bringForth_2 6 rfl rfl)
theorem dX3_bringForth_57 : decode cX3_bringForth 57 = .ok (.iastore, 1) := dk_79 (dk_at dksX3_bringForth_2 9 rfl rfl)
theorem dX3_bringForth_58 : decode cX3_bringForth 58 = .ok (.aload_n 0, 1) := dk_42 (dk_at dksX3_bringForth_2 10 rfl rfl)
theorem dX3_bringForth_59 : decode cX3_bringForth 59 = .ok (.getfield 15, 3) := dk_180 0 15 (dk_at dksX3_bringForth_2 11 rfl rfl)
theorem dX3_bringForth_62 : decode cX3_bringForth 62 = .ok (.iload_n 3, 1) := dk_29 (dk_at dksX3_bringForth_2 14 rfl rfl)
theorem dX3_bringForth_63 : decode cX3_bringForth 63 = .ok (.iload_n 1, 1) := dk_27 (dk_at dksX3_bringForth_2 15 rfl rfl)
theorem dX3_bringForth_64 : decode cX3_bringForth 64 = .ok (.iastore, 1) := dk_79 (dk_at dksX3_bringForth_2 16 rfl rfl)
theorem dX3_bringForth_65 : decode cX3_bringForth 65 = .ok (.iconst 0, 1) := dk_3 (dk_at dksX3_bringForth_2 17 rfl rfl)
theorem dX3_bringForth_66 : decode cX3_bringForth 66 = .ok (.istore 6, 2) := dk_54 6 (dk_at dksX3_bringForth_2 18 rfl rfl)
theorem dX3_bringForth_68 : decode cX3_bringForth 68 = .ok (.iload 6, 2) := dk_21 6 (dk_at dksX3_bringForth_2 20 rfl rfl)
theorem dX3_bringForth_70 : decode cX3_bringForth 70 = .ok (.bipush 6, 2) := dk_16 6 (dk_at dksX3_bringForth_2 22 rfl rfl)
theorem dX3_bringForth_72 : decode cX3_bringForth 72 = .ok (.if_icmp .ge 58, 3) := dk_162 0 58 (dk_at dksX3_bringForth_3 0 rfl rfl)
theorem dX3_bringForth_75 : decode cX3_bringForth 75 = .ok (.aload_n 0, 1) := dk_42 (dk_at dksX3_bringForth_3 3 rfl rfl)
theorem dX3_bringForth_76 : decode cX3_bringForth 76 = .ok (.getfield 18, 3) := dk_180 0 18 (dk_at dksX3_bringForth_3 4 rfl rfl)
theorem dX3_bringForth_79 : decode cX3_bringForth 79 = .ok (.iload_n 3, 1) := dk_29 (dk_at dksX3_bringForth_3 7 rfl rfl)
theorem dX3_bringForth_80 : decode cX3_bringForth 80 = .ok (.dup2, 1) := dk_92 (dk_at dksX3_bringForth_3 8 rfl rfl)
theorem dX3_bringForth_81 : decode cX3_bringForth 81 = .ok (.iaload, 1) := dk_46 (dk_at dksX3_bringForth_3 9 rfl rfl)
theorem dX3_bringForth_82 : decode cX3_bringForth 82 = .ok (.aload_n 0, 1) := dk_42 (dk_at dksX3_bringForth_3 10 rfl rfl)
theorem dX3_bringForth_83 : decode cX3_bringForth 83 = .ok (.getfield 90, 3) := dk_180 0 90 (dk_at dksX3_bringForth_3 11 rfl rfl)
theorem dX3_bringForth_86 : decode cX3_bringForth 86 = .ok (.iload 6, 2) := dk_21 6 (dk_at dksX3_bringForth_3 14 rfl rfl)
theorem dX3_bringForth_88 : decode cX3_bringForth 88 = .ok (.ishr, 1) := dk_122 (dk_at dksX3_bringForth_3 16 rfl rfl)
theorem dX3_bringForth_89 : decode cX3_bringForth 89 = .ok (.iconst 1, 1) := dk_4 (dk_at dksX3_bringForth_3 17 rfl rfl)
theorem dX3_bringForth_90 : decode cX3_bringForth 90 = .ok (.iand, 1) := dk_126 (dk_at dksX3_bringForth_3 18 rfl rfl)
theorem dX3_bringForth_91 : decode cX3_bringForth 91 = .ok (.iconst 1, 1) := dk_4 (dk_at dksX3_bringForth_3 19 rfl rfl)
theorem dX3_bringForth_92 : decode cX3_bringForth 92 = .ok (.if_icmp .ne 18, 3) := dk_160 0 18 (dk_at dksX3_bringForth_3 20 rfl rfl)
theorem dX3_bringForth_95 : decode cX3_bringForth 95 = .ok (.aload_n 0, 1) := dk_42 (dk_at dksX3_bringForth_3 23 rfl rfl)
theorem dX3_bringForth_96 : decode cX3_bringForth 96 = .ok (.getfield 18, 3) := dk_180 0 18 (dk_at dksX3_bringForth_4 0 rfl rfl)
theorem dX3_bringForth_99 : decode cX3_bringForth 99 = .ok (.iload 4, 2) := dk_21 4 (dk_at dksX3_bringForth_4 3 rfl rfl)
theorem dX3_bringForth_101 : decode cX3_bringForth 101 = .ok (.iaload, 1) := dk_46 (dk_at dksX3_bringForth_4 5 rfl rfl)
theorem dX3_bringForth_102 : decode cX3_bringForth 102 = .ok (.iconst 1, 1) := dk_4 (dk_at dksX3_bringForth_4 6 rfl rfl)
theorem dX3_bringForth_103 : decode cX3_bringForth 103 = .ok (.iload 6, 2) := dk_21 6 (dk_at dksX3_bringForth_4 7 rfl rfl)
theorem dX3_bringForth_105 : decode cX3_bringForth 105 = .ok (.ishl, 1) := dk_120 (dk_at dksX3_bringForth_4 9 rfl rfl)
theorem dX3_bringForth_106 : decode cX3_bringForth 106 = .ok (.iand, 1) := dk_126 (dk_at dksX3_bringForth_4 10 rfl rfl)
theorem dX3_bringForth_107 : decode cX3_bringForth 107 = .ok (.goto 15, 3) := dk_167 0 15 (dk_at dksX3_bringForth_4 11 rfl rfl)
theorem dX3_bringForth_110 : decode cX3_bringForth 110 = .ok (.aload_n 0, 1) := dk_42 (dk_at dksX3_bringForth_4 14 rfl rfl)
theorem dX3_bringForth_111 : decode cX3_bringForth 111 = .ok (.getfield 18, 3) := dk_180 0 18 (dk_at dksX3_bringForth_4 15 rfl rfl)
theorem dX3_bringForth_114 : decode cX3_bringForth 114 = .ok (.iload 5, 2) := dk_21 5 (dk_at dksX3_bringForth_4 18 rfl rfl)
theorem dX3_bringForth_116 : decode cX3_bringForth 116 = .ok (.iaload, 1) := dk_46 (dk_at dksX3_bringForth_4 20 rfl rfl)
theorem dX3_bringForth_117 : decode cX3_bringForth 117 = .ok (.iconst 1, 1) := dk_4 (dk_at dksX3_bringForth_4 21 rfl rfl)
theorem dX3_bringForth_118 : decode cX3_bringForth 118 = .ok (.iload 6, 2) := dk_21 6 (dk_at dksX3_bringForth_4 22 rfl rfl)
theorem dX3_bringForth_120 : decode cX3_bringForth 120 = .ok (.ishl, 1) := dk_120 (dk_at dksX3_bringForth_5 0 rfl rfl)
theorem dX3_bringForth_121 : decode cX3_bringForth 121 = .ok (.iand, 1) := dk_126 (dk_at dksX3_bringForth_5 1 rfl rfl)
theorem dX3_bringForth_122 : decode cX3_bringForth 122 = .ok (.ior, 1) := dk_128 (dk_at dksX3_bringForth_5 2 rfl rfl)
theorem dX3_bringForth_123 : decode cX3_bringForth 123 = .ok (.iastore, 1) := dk_79 (dk_at dksX3_bringForth_5 3 rfl rfl)
theorem dX3_bringForth_124 : decode cX3_bringForth 124 = .ok (.iinc 6 1, 3) := dk_132 6 1 (dk_at dksX3_bringForth_5 4 rfl rfl)
theorem dX3_bringForth_127 : decode cX3_bringForth 127 = .ok (.goto (-59), 3) := dk_167 255 197 (dk_at dksX3_bringForth_5 7 rfl rfl)
theorem dX3_bringForth_130 : decode cX3_bringForth 130 = .ok (.aload_n 0, 1) := dk_42 (dk_at dksX3_bringForth_5 10 rfl rfl)
theorem dX3_bringForth_131 : decode cX3_bringForth 131 = .ok (.getfield 27, 3) := dk_180 0 27 (dk_at dksX3_bringForth_5 11 rfl rfl)
theorem dX3_bringForth_134 : decode cX3_bringForth 134 = .ok (.iload_n 3, 1) := dk_29 (dk_at dksX3_bringForth_5 14 rfl rfl)
theorem dX3_bringForth_135 : decode cX3_bringForth 135 = .ok (.iload 4, 2) := dk_21 4 (dk_at dksX3_bringForth_5 15 rfl rfl)
theorem dX3_bringForth_137 : decode cX3_bringForth 137 = .ok (.iastore, 1) := dk_79 (dk_at dksX3_bringForth_5 17 rfl rfl)
theorem dX3_bringForth_138 : decode cX3_bringForth 138 = .ok (.aload_n 0, 1) := dk_42 (dk_at dksX3_bringForth_5 18 rfl rfl)
theorem dX3_bringForth_139 : decode cX3_bringForth 139 = .ok (.getfield 30, 3) := dk_180 0 30 (dk_at dksX3_bringForth_5 19 rfl rfl)
theorem dX3_bringForth_142 : decode cX3_bringForth 142 = .ok (.iload_n 3, 1) := dk_29 (dk_at dksX3_bringForth_5 22 rfl rfl)
theorem dX3_bringForth_143 : decode cX3_bringForth 143 = .ok (.iload 5, 2) := dk_21 5 (dk_at dksX3_bringForth_6 0 rfl rfl)
theorem dX3_bringForth_145 : decode cX3_bringForth 145 = .ok (.iastore, 1) := dk_79 (dk_at dksX3_bringForth_6 2 rfl rfl)
theorem dX3_bringForth_146 : decode cX3_bringForth 146 = .ok (.aload_n 0, 1) := dk_42 (dk_at dksX3_bringForth_6 3 rfl rfl)
theorem dX3_bringForth_147 : decode cX3_bringForth 147 = .ok (.getfield 33, 3) := dk_180 0 33 (dk_at dksX3_bringForth_6 4 rfl rfl)
theorem dX3_bringForth_150 : decode cX3_bringForth 150 = .ok (.iload_n 3, 1) := dk_29 (dk_at dksX3_bringForth_6 7 rfl rfl)
theorem dX3_bringForth_151 : decode cX3_bringForth 151 = .ok (.aload_n 0, 1) := dk_42 (dk_at dksX3_bringForth_6 8 rfl rfl)
theorem dX3_bringForth_152 : decode cX3_bringForth 152 = .ok (.getfield 77, 3) := dk_180 0 77 (dk_at dksX3_bringForth_6 9 rfl rfl)
theorem dX3_bringForth_155 : decode cX3_bringForth 155 = .ok (.iastore, 1) := dk_79 (dk_at dksX3_bringForth_6 12 rfl rfl)
theorem dX3_bringForth_156 : decode cX3_bringForth 156 = .ok (.aload_n 0, 1) := dk_42 (dk_at dksX3_bringForth_6 13 rfl rfl)
theorem dX3_bringForth_157 : decode cX3_bringForth 157 = .ok (.dup, 1) := dk_89 (dk_at dksX3_bringForth_6 14 rfl rfl)
theorem dX3_bringForth_158 : decode cX3_bringForth 158 = .ok (.getfield 77, 3) := dk_180 0 77 (dk_at dksX3_bringForth_6 15 rfl rfl)
theorem dX3_bringForth_161 : decode cX3_bringForth 161 = .ok (.iconst 1, 1) := dk_4 (dk_at dksX3_bringForth_6 18 rfl rfl)
theorem dX3_bringForth_162 : decode cX3_bringForth 162 = .ok (.iadd, 1) := dk_96 (dk_at dksX3_bringForth_6 19 rfl rfl)
theorem dX3_bringForth_163 : decode cX3_bringForth 163 = .ok (.putfield 77, 3) := dk_181 0 77 (dk_at dksX3_bringForth_6 20 rfl rfl)
theorem dX3_bringForth_166 : decode cX3_bringForth 166 = .ok (.aload_n 0, 1) := dk_42 (dk_at dksX3_bringForth_6 23 rfl rfl)
theorem dX3_bringForth_167 : decode cX3_bringForth 167 = .ok (.dup, 1) := dk_89 (dk_at dksX3_bringForth_7 0 rfl rfl)
theorem dX3_bringForth_168 : decode cX3_bringForth 168 = .ok (.getfield 52, 3) := dk_180 0 52 (dk_at dksX3_bringForth_7 1 rfl rfl)
theorem dX3_bringForth_171 : decode cX3_bringForth 171 = .ok (.iconst 1, 1) := dk_4 (dk_at dksX3_bringForth_7 4 rfl rfl)
theorem dX3_bringForth_172 : decode cX3_bringForth 172 = .ok (.iload_n 3, 1) := dk_29 (dk_at dksX3_bringForth_7 5 rfl rfl)
theorem dX3_bringForth_173 : decode cX3_bringForth 173 = .ok (.ishl, 1) := dk_120 (dk_at dksX3_bringForth_7 6 rfl rfl)
theorem dX3_bringForth_174 : decode cX3_bringForth 174 = .ok (.ior, 1) := dk_128 (dk_at dksX3_bringForth_7 7 rfl rfl)
theorem dX3_bringForth_175 : decode cX3_bringForth 175 = .ok (.putfield 52, 3) := dk_181 0 52 (dk_at dksX3_bringForth_7 8 rfl rfl)
theorem dX3_bringForth_178 : decode cX3_bringForth 178 = .ok (.iconst 1, 1) := dk_4 (dk_at dksX3_bringForth_7 11 rfl rfl)
theorem dX3_bringForth_179 : decode cX3_bringForth 179 = .ok (.iload_n 3, 1) := dk_29 (dk_at dksX3_bringForth_7 12 rfl rfl)
theorem dX3_bringForth_180 : decode cX3_bringForth 180 = .ok (.ishl, 1) := dk_120 (dk_at dksX3_bringForth_7 13 rfl rfl)
theorem dX3_bringForth_181 : decode cX3_bringForth 181 = .ok (.ireturn, 1) := dk_172 (dk_at dksX3_bringForth_7 14 rfl rfl)
theorem q129 : (Jvm.Cond.initialized "TrunkLitters$House") ∈ lw_all := lw_g (lw_at lw_m1 7 rfl) rfl
theorem q206 : (Jvm.Cond.fieldLink "TrunkLitters$House" (116 : Nat) "TrunkLitters$Ask" "bulk" "I") ∈ lw_all := lw_g (lw_at lw_m1 84 rfl) rfl
theorem q208 : (Jvm.Cond.fieldLink "TrunkLitters$House" (123 : Nat) "TrunkLitters$Ask" "alike" "I") ∈ lw_all := lw_g (lw_at lw_m1 86 rfl) rfl
theorem q210 : (Jvm.Cond.fieldLink "TrunkLitters$House" (130 : Nat) "TrunkLitters$Ask" "left" "I") ∈ lw_all := lw_g (lw_at lw_m1 88 rfl) rfl
theorem q212 : (Jvm.Cond.fieldLink "TrunkLitters$House" (137 : Nat) "TrunkLitters$Ask" "many" "I") ∈ lw_all := lw_g (lw_at lw_m1 90 rfl) rfl
theorem q214 : (Jvm.Cond.fieldLink "TrunkLitters$House" (140 : Nat) "TrunkLitters$Ask" "year" "I") ∈ lw_all := lw_g (lw_at lw_m1 92 rfl) rfl
theorem q227 : (Jvm.Cond.fieldLink "TrunkLitters$House" (97 : Nat) "TrunkLitters$Book" "rooms" "Ljava/util/ArrayList;") ∈ lw_all := lw_g (lw_at lw_m1 105 rfl) rfl
theorem q231 : (Jvm.Cond.fieldLink "TrunkLitters$House" (40 : Nat) "TrunkLitters$Book" "trunks" "Ljava/util/ArrayList;") ∈ lw_all := lw_g (lw_at lw_m1 109 rfl) rfl
theorem q235 : (Jvm.Cond.fieldLink "TrunkLitters$House" (112 : Nat) "TrunkLitters$Book" "ask" "LTrunkLitters$Ask;") ∈ lw_all := lw_g (lw_at lw_m1 113 rfl) rfl
theorem q236 : (Jvm.Cond.fieldLink "TrunkLitters$House" (141 : Nat) "TrunkLitters$Book" "brood" "LTrunkLitters$Node;") ∈ lw_all := lw_g (lw_at lw_m1 114 rfl) rfl
theorem q239 : (Jvm.Cond.fieldLink "TrunkLitters$House" (172 : Nat) "TrunkLitters$Book" "pines" "I") ∈ lw_all := lw_g (lw_at lw_m1 117 rfl) rfl
theorem q242 : (Jvm.Cond.fieldLink "TrunkLitters$House" (80 : Nat) "TrunkLitters$Book" "tales" "I") ∈ lw_all := lw_g (lw_at lw_m1 120 rfl) rfl
theorem q244 : (Jvm.Cond.fieldLink "TrunkLitters$House" (87 : Nat) "TrunkLitters$Book" "seed" "I") ∈ lw_all := lw_g (lw_at lw_m1 122 rfl) rfl
theorem q266 : (Jvm.Cond.instantiable "TrunkLitters$House" (14 : Nat)) ∈ lw_all := lw_g (lw_at lw_m1 144 rfl) rfl
theorem q268 : (Jvm.Cond.instanceMethod ({ cls := "TrunkLitters$House", name := "<init>", desc := "()V" } : Jvm.MethodName)) ∈ lw_all := lw_g (lw_at lw_m1 146 rfl) rfl
theorem q269 : (Jvm.Cond.code ({ cls := "TrunkLitters$House", name := "<init>", desc := "()V" } : Jvm.MethodName) prog_10_method_1_code (1 : Nat) (Option.none : Option Jvm.ClassFile.FieldType)) ∈ lw_all := lw_g (lw_at lw_m1 147 rfl) rfl
theorem q270 : (Jvm.Cond.methodLink "TrunkLitters$House" (3 : Nat) ({ cls := "java/lang/Object", name := "<init>", desc := "()V" } : Jvm.MethodName)) ∈ lw_all := lw_g (lw_at lw_m1 148 rfl) rfl
theorem q271 : (Jvm.Cond.fieldLink "TrunkLitters$House" (9 : Nat) "TrunkLitters$House" "bulk" "[I") ∈ lw_all := lw_g (lw_at lw_m1 149 rfl) rfl
theorem q273 : (Jvm.Cond.fieldLink "TrunkLitters$House" (15 : Nat) "TrunkLitters$House" "at" "[I") ∈ lw_all := lw_g (lw_at lw_m1 151 rfl) rfl
theorem q275 : (Jvm.Cond.fieldLink "TrunkLitters$House" (18 : Nat) "TrunkLitters$House" "marks" "[I") ∈ lw_all := lw_g (lw_at lw_m1 153 rfl) rfl
theorem q277 : (Jvm.Cond.fieldLink "TrunkLitters$House" (21 : Nat) "TrunkLitters$House" "told" "[I") ∈ lw_all := lw_g (lw_at lw_m1 155 rfl) rfl
theorem q279 : (Jvm.Cond.fieldLink "TrunkLitters$House" (24 : Nat) "TrunkLitters$House" "pining" "[I") ∈ lw_all := lw_g (lw_at lw_m1 157 rfl) rfl
theorem q281 : (Jvm.Cond.fieldLink "TrunkLitters$House" (27 : Nat) "TrunkLitters$House" "one" "[I") ∈ lw_all := lw_g (lw_at lw_m1 159 rfl) rfl
theorem q283 : (Jvm.Cond.fieldLink "TrunkLitters$House" (30 : Nat) "TrunkLitters$House" "two" "[I") ∈ lw_all := lw_g (lw_at lw_m1 161 rfl) rfl
theorem q285 : (Jvm.Cond.fieldLink "TrunkLitters$House" (33 : Nat) "TrunkLitters$House" "born" "[I") ∈ lw_all := lw_g (lw_at lw_m1 163 rfl) rfl
theorem q287 : (Jvm.Cond.fieldLink "TrunkLitters$House" (52 : Nat) "TrunkLitters$House" "there" "I") ∈ lw_all := lw_g (lw_at lw_m1 165 rfl) rfl
theorem q289 : (Jvm.Cond.fieldLink "TrunkLitters$House" (83 : Nat) "TrunkLitters$House" "tales" "I") ∈ lw_all := lw_g (lw_at lw_m1 167 rfl) rfl
theorem q291 : (Jvm.Cond.fieldLink "TrunkLitters$House" (84 : Nat) "TrunkLitters$House" "year" "I") ∈ lw_all := lw_g (lw_at lw_m1 169 rfl) rfl
theorem q293 : (Jvm.Cond.fieldLink "TrunkLitters$House" (90 : Nat) "TrunkLitters$House" "seed" "I") ∈ lw_all := lw_g (lw_at lw_m1 171 rfl) rfl
theorem q295 : (Jvm.Cond.fieldLink "TrunkLitters$House" (77 : Nat) "TrunkLitters$House" "births" "I") ∈ lw_all := lw_g (lw_at lw_m1 173 rfl) rfl
theorem q296 : (Jvm.Cond.fieldLink "TrunkLitters$House" (36 : Nat) "TrunkLitters$House" "pines" "I") ∈ lw_all := lw_g (lw_at lw_m1 174 rfl) rfl
theorem q298 : (Jvm.Cond.laysFinal "TrunkLitters$House" "TrunkLitters$House" "bulk" "[I") ∈ lw_all := lw_g (lw_at lw_m1 176 rfl) rfl
theorem q299 : (Jvm.Cond.soleField "TrunkLitters$House" "bulk") ∈ lw_all := lw_g (lw_at lw_m1 177 rfl) rfl
theorem q300 : (Jvm.Cond.laysFinal "TrunkLitters$House" "TrunkLitters$House" "at" "[I") ∈ lw_all := lw_g (lw_at lw_m1 178 rfl) rfl
theorem q301 : (Jvm.Cond.soleField "TrunkLitters$House" "at") ∈ lw_all := lw_g (lw_at lw_m1 179 rfl) rfl
theorem q302 : (Jvm.Cond.laysFinal "TrunkLitters$House" "TrunkLitters$House" "marks" "[I") ∈ lw_all := lw_g (lw_at lw_m1 180 rfl) rfl
theorem q303 : (Jvm.Cond.soleField "TrunkLitters$House" "marks") ∈ lw_all := lw_g (lw_at lw_m1 181 rfl) rfl
theorem q304 : (Jvm.Cond.laysFinal "TrunkLitters$House" "TrunkLitters$House" "told" "[I") ∈ lw_all := lw_g (lw_at lw_m1 182 rfl) rfl
theorem q305 : (Jvm.Cond.soleField "TrunkLitters$House" "told") ∈ lw_all := lw_g (lw_at lw_m1 183 rfl) rfl
theorem q306 : (Jvm.Cond.laysFinal "TrunkLitters$House" "TrunkLitters$House" "pining" "[I") ∈ lw_all := lw_g (lw_at lw_m1 184 rfl) rfl
theorem q307 : (Jvm.Cond.soleField "TrunkLitters$House" "pining") ∈ lw_all := lw_g (lw_at lw_m1 185 rfl) rfl
theorem q308 : (Jvm.Cond.laysFinal "TrunkLitters$House" "TrunkLitters$House" "one" "[I") ∈ lw_all := lw_g (lw_at lw_m1 186 rfl) rfl
theorem q309 : (Jvm.Cond.soleField "TrunkLitters$House" "one") ∈ lw_all := lw_g (lw_at lw_m1 187 rfl) rfl
theorem q310 : (Jvm.Cond.laysFinal "TrunkLitters$House" "TrunkLitters$House" "two" "[I") ∈ lw_all := lw_g (lw_at lw_m1 188 rfl) rfl
theorem q311 : (Jvm.Cond.soleField "TrunkLitters$House" "two") ∈ lw_all := lw_g (lw_at lw_m1 189 rfl) rfl
theorem q312 : (Jvm.Cond.laysFinal "TrunkLitters$House" "TrunkLitters$House" "born" "[I") ∈ lw_all := lw_g (lw_at lw_m1 190 rfl) rfl
theorem q313 : (Jvm.Cond.soleField "TrunkLitters$House" "born") ∈ lw_all := lw_g (lw_at lw_m1 191 rfl) rfl
theorem q314 : (Jvm.Cond.lays "TrunkLitters$House" "TrunkLitters$House" "there" "I") ∈ lw_all := lw_g (lw_at lw_m1 192 rfl) rfl
theorem q315 : (Jvm.Cond.soleField "TrunkLitters$House" "there") ∈ lw_all := lw_g (lw_at lw_m1 193 rfl) rfl
theorem q316 : (Jvm.Cond.lays "TrunkLitters$House" "TrunkLitters$House" "tales" "I") ∈ lw_all := lw_g (lw_at lw_m1 194 rfl) rfl
theorem q317 : (Jvm.Cond.soleField "TrunkLitters$House" "tales") ∈ lw_all := lw_g (lw_at lw_m1 195 rfl) rfl
theorem q318 : (Jvm.Cond.lays "TrunkLitters$House" "TrunkLitters$House" "year" "I") ∈ lw_all := lw_g (lw_at lw_m1 196 rfl) rfl
theorem q319 : (Jvm.Cond.soleField "TrunkLitters$House" "year") ∈ lw_all := lw_g (lw_at lw_m1 197 rfl) rfl
theorem q320 : (Jvm.Cond.lays "TrunkLitters$House" "TrunkLitters$House" "seed" "I") ∈ lw_all := lw_g (lw_at lw_m1 198 rfl) rfl
theorem q321 : (Jvm.Cond.soleField "TrunkLitters$House" "seed") ∈ lw_all := lw_g (lw_at lw_m1 199 rfl) rfl
theorem q322 : (Jvm.Cond.lays "TrunkLitters$House" "TrunkLitters$House" "births" "I") ∈ lw_all := lw_g (lw_at lw_m1 200 rfl) rfl
theorem q323 : (Jvm.Cond.soleField "TrunkLitters$House" "births") ∈ lw_all := lw_g (lw_at lw_m1 201 rfl) rfl
theorem q324 : (Jvm.Cond.lays "TrunkLitters$House" "TrunkLitters$House" "pines" "I") ∈ lw_all := lw_g (lw_at lw_m1 202 rfl) rfl
theorem q325 : (Jvm.Cond.soleField "TrunkLitters$House" "pines") ∈ lw_all := lw_g (lw_at lw_m1 203 rfl) rfl
theorem q326 : (Jvm.Cond.superclass "TrunkLitters$House" "java/lang/Object") ∈ lw_all := lw_g (lw_at lw_m1 204 rfl) rfl
theorem q329 : (Jvm.Cond.instanceMethod ({ cls := "TrunkLitters$House", name := "begin", desc := "(LTrunkLitters$Book;)LTrunkLitters$House;" } : Jvm.MethodName)) ∈ lw_all := lw_g (lw_at lw_m1 207 rfl) rfl
theorem q330 : (Jvm.Cond.selects "TrunkLitters$House" ({ cls := "TrunkLitters$House", name := "begin", desc := "(LTrunkLitters$Book;)LTrunkLitters$House;" } : Jvm.MethodName) ({ cls := "TrunkLitters$House", name := "begin", desc := "(LTrunkLitters$Book;)LTrunkLitters$House;" } : Jvm.MethodName)) ∈ lw_all := lw_g (lw_at lw_m1 208 rfl) rfl
theorem q331 : (Jvm.Cond.code ({ cls := "TrunkLitters$House", name := "begin", desc := "(LTrunkLitters$Book;)LTrunkLitters$House;" } : Jvm.MethodName) prog_10_method_2_code (4 : Nat) (Option.some (Jvm.ClassFile.FieldType.object "TrunkLitters$House"))) ∈ lw_all := lw_g (lw_at lw_m1 209 rfl) rfl
theorem q332 : (Jvm.Cond.methodLink "TrunkLitters$House" (46 : Nat) ({ cls := "java/util/ArrayList", name := "size", desc := "()I" } : Jvm.MethodName)) ∈ lw_all := lw_g (lw_at lw_m1 210 rfl) rfl
theorem q336 : (Jvm.Cond.methodLink "TrunkLitters$House" (55 : Nat) ({ cls := "TrunkLitters$House", name := "has", desc := "(I)Z" } : Jvm.MethodName)) ∈ lw_all := lw_g (lw_at lw_m1 214 rfl) rfl
theorem q337 : (Jvm.Cond.instanceMethod ({ cls := "TrunkLitters$House", name := "has", desc := "(I)Z" } : Jvm.MethodName)) ∈ lw_all := lw_g (lw_at lw_m1 215 rfl) rfl
theorem q338 : (Jvm.Cond.selects "TrunkLitters$House" ({ cls := "TrunkLitters$House", name := "has", desc := "(I)Z" } : Jvm.MethodName) ({ cls := "TrunkLitters$House", name := "has", desc := "(I)Z" } : Jvm.MethodName)) ∈ lw_all := lw_g (lw_at lw_m1 216 rfl) rfl
theorem q339 : (Jvm.Cond.code ({ cls := "TrunkLitters$House", name := "has", desc := "(I)Z" } : Jvm.MethodName) prog_10_method_4_code (2 : Nat) (Option.some Jvm.ClassFile.FieldType.boolean)) ∈ lw_all := lw_g (lw_at lw_m1 217 rfl) rfl
theorem q340 : (Jvm.Cond.methodLink "TrunkLitters$House" (59 : Nat) ({ cls := "TrunkLitters$House", name := "clear", desc := "(I)V" } : Jvm.MethodName)) ∈ lw_all := lw_g (lw_at lw_m1 218 rfl) rfl
theorem q341 : (Jvm.Cond.privateMethod ({ cls := "TrunkLitters$House", name := "clear", desc := "(I)V" } : Jvm.MethodName)) ∈ lw_tbl := lw_at lw_m1 219 rfl
theorem q342 : (Jvm.Cond.instanceMethod ({ cls := "TrunkLitters$House", name := "clear", desc := "(I)V" } : Jvm.MethodName)) ∈ lw_all := lw_g (lw_at lw_m1 220 rfl) rfl
theorem q343 : (Jvm.Cond.code ({ cls := "TrunkLitters$House", name := "clear", desc := "(I)V" } : Jvm.MethodName) prog_10_method_5_code (2 : Nat) (Option.none : Option Jvm.ClassFile.FieldType)) ∈ lw_all := lw_g (lw_at lw_m1 221 rfl) rfl
theorem q344 : (Jvm.Cond.methodLink "TrunkLitters$House" (63 : Nat) ({ cls := "java/util/ArrayList", name := "get", desc := "(I)Ljava/lang/Object;" } : Jvm.MethodName)) ∈ lw_all := lw_g (lw_at lw_m1 222 rfl) rfl
theorem q358 : (Jvm.Cond.classLink "TrunkLitters$House" (67 : Nat) "TrunkLitters$Trunk") ∈ lw_all := lw_g (lw_at lw_m1 236 rfl) rfl
theorem q903 : (Jvm.Cond.fieldLink "TrunkLitters$House" (102 : Nat) "TrunkLitters$Room" "holds" "I") ∈ lw_all := lw_g (lw_at lw_m4 61 rfl) rfl
theorem q965 : (Jvm.Cond.selects "TrunkLitters$House" ({ cls := "java/lang/Object", name := "getClass", desc := "()Ljava/lang/Class;" } : Jvm.MethodName) ({ cls := "java/lang/Object", name := "getClass", desc := "()Ljava/lang/Class;" } : Jvm.MethodName)) ∈ lw_all := lw_g (lw_at lw_m4 123 rfl) rfl
theorem q996 : (Jvm.Cond.fieldLink "TrunkLitters$House" (69 : Nat) "TrunkLitters$Trunk" "bulk" "I") ∈ lw_all := lw_g (lw_at lw_m4 154 rfl) rfl
theorem q998 : (Jvm.Cond.fieldLink "TrunkLitters$House" (71 : Nat) "TrunkLitters$Trunk" "at" "I") ∈ lw_all := lw_g (lw_at lw_m4 156 rfl) rfl
theorem q1000 : (Jvm.Cond.fieldLink "TrunkLitters$House" (73 : Nat) "TrunkLitters$Trunk" "marks" "I") ∈ lw_all := lw_g (lw_at lw_m4 158 rfl) rfl
theorem q1003 : (Jvm.Cond.fieldLink "TrunkLitters$House" (75 : Nat) "TrunkLitters$Trunk" "told" "I") ∈ lw_all := lw_g (lw_at lw_m4 161 rfl) rfl
theorem q1135 : (Jvm.Cond.instanceMethod ({ cls := "TrunkLitters$House", name := "left", desc := "(LTrunkLitters$Book;I)I" } : Jvm.MethodName)) ∈ lw_all := lw_g (lw_at lw_m5 53 rfl) rfl
theorem q1136 : (Jvm.Cond.selects "TrunkLitters$House" ({ cls := "TrunkLitters$House", name := "left", desc := "(LTrunkLitters$Book;I)I" } : Jvm.MethodName) ({ cls := "TrunkLitters$House", name := "left", desc := "(LTrunkLitters$Book;I)I" } : Jvm.MethodName)) ∈ lw_all := lw_g (lw_at lw_m5 54 rfl) rfl
theorem q1137 : (Jvm.Cond.code ({ cls := "TrunkLitters$House", name := "left", desc := "(LTrunkLitters$Book;I)I" } : Jvm.MethodName) prog_10_method_9_code (3 : Nat) (Option.some Jvm.ClassFile.FieldType.int)) ∈ lw_all := lw_g (lw_at lw_m5 55 rfl) rfl
theorem q1138 : (Jvm.Cond.classLink "TrunkLitters$House" (100 : Nat) "TrunkLitters$Room") ∈ lw_all := lw_g (lw_at lw_m5 56 rfl) rfl
theorem q1139 : (Jvm.Cond.methodLink "TrunkLitters$House" (105 : Nat) ({ cls := "TrunkLitters$House", name := "in", desc := "(I)I" } : Jvm.MethodName)) ∈ lw_all := lw_g (lw_at lw_m5 57 rfl) rfl
theorem q1140 : (Jvm.Cond.instanceMethod ({ cls := "TrunkLitters$House", name := "in", desc := "(I)I" } : Jvm.MethodName)) ∈ lw_all := lw_g (lw_at lw_m5 58 rfl) rfl
theorem q1141 : (Jvm.Cond.selects "TrunkLitters$House" ({ cls := "TrunkLitters$House", name := "in", desc := "(I)I" } : Jvm.MethodName) ({ cls := "TrunkLitters$House", name := "in", desc := "(I)I" } : Jvm.MethodName)) ∈ lw_all := lw_g (lw_at lw_m5 59 rfl) rfl
theorem q1142 : (Jvm.Cond.code ({ cls := "TrunkLitters$House", name := "in", desc := "(I)I" } : Jvm.MethodName) prog_10_method_7_code (4 : Nat) (Option.some Jvm.ClassFile.FieldType.int)) ∈ lw_all := lw_g (lw_at lw_m5 60 rfl) rfl
theorem q1143 : (Jvm.Cond.methodLink "TrunkLitters$House" (109 : Nat) ({ cls := "TrunkLitters$House", name := "bulkOf", desc := "(I)I" } : Jvm.MethodName)) ∈ lw_all := lw_g (lw_at lw_m5 61 rfl) rfl
theorem q1144 : (Jvm.Cond.instanceMethod ({ cls := "TrunkLitters$House", name := "bulkOf", desc := "(I)I" } : Jvm.MethodName)) ∈ lw_all := lw_g (lw_at lw_m5 62 rfl) rfl
theorem q1145 : (Jvm.Cond.selects "TrunkLitters$House" ({ cls := "TrunkLitters$House", name := "bulkOf", desc := "(I)I" } : Jvm.MethodName) ({ cls := "TrunkLitters$House", name := "bulkOf", desc := "(I)I" } : Jvm.MethodName)) ∈ lw_all := lw_g (lw_at lw_m5 63 rfl) rfl
theorem q1146 : (Jvm.Cond.code ({ cls := "TrunkLitters$House", name := "bulkOf", desc := "(I)I" } : Jvm.MethodName) prog_10_method_8_code (4 : Nat) (Option.some Jvm.ClassFile.FieldType.int)) ∈ lw_all := lw_g (lw_at lw_m5 64 rfl) rfl
theorem q1162 : (Jvm.Cond.instanceMethod ({ cls := "TrunkLitters$House", name := "broodOf", desc := "(LTrunkLitters$Book;II)I" } : Jvm.MethodName)) ∈ lw_all := lw_g (lw_at lw_m5 80 rfl) rfl
theorem q1163 : (Jvm.Cond.selects "TrunkLitters$House" ({ cls := "TrunkLitters$House", name := "broodOf", desc := "(LTrunkLitters$Book;II)I" } : Jvm.MethodName) ({ cls := "TrunkLitters$House", name := "broodOf", desc := "(LTrunkLitters$Book;II)I" } : Jvm.MethodName)) ∈ lw_all := lw_g (lw_at lw_m5 81 rfl) rfl
theorem q1164 : (Jvm.Cond.code ({ cls := "TrunkLitters$House", name := "broodOf", desc := "(LTrunkLitters$Book;II)I" } : Jvm.MethodName) prog_10_method_10_code (5 : Nat) (Option.some Jvm.ClassFile.FieldType.int)) ∈ lw_all := lw_g (lw_at lw_m5 82 rfl) rfl
theorem q1165 : (Jvm.Cond.methodLinkNest "TrunkLitters$House" (119 : Nat) ({ cls := "TrunkLitters", name := "shared", desc := "(II)I" } : Jvm.MethodName) "TrunkLitters") ∈ lw_tbl := lw_at lw_m5 83 rfl
theorem q1174 : (Jvm.Cond.methodLink "TrunkLitters$House" (126 : Nat) ({ cls := "TrunkLitters$House", name := "left", desc := "(LTrunkLitters$Book;I)I" } : Jvm.MethodName)) ∈ lw_all := lw_g (lw_at lw_m5 92 rfl) rfl
theorem q1175 : (Jvm.Cond.methodLink "TrunkLitters$House" (132 : Nat) ({ cls := "java/lang/Integer", name := "bitCount", desc := "(I)I" } : Jvm.MethodName)) ∈ lw_all := lw_g (lw_at lw_m5 93 rfl) rfl
theorem q1176 : (Jvm.Cond.interfaceEntry "TrunkLitters$House" (145 : Nat)) ∈ lw_tbl := lw_at lw_m5 94 rfl
theorem q1177 : (Jvm.Cond.methodLink "TrunkLitters$House" (145 : Nat) ({ cls := "TrunkLitters$Node", name := "of", desc := "(LTrunkLitters$Ask;)I" } : Jvm.MethodName)) ∈ lw_all := lw_g (lw_at lw_m5 95 rfl) rfl
theorem q1238 : (Jvm.Cond.instanceMethod ({ cls := "TrunkLitters$House", name := "coupleOf", desc := "(I)I" } : Jvm.MethodName)) ∈ lw_all := lw_g (lw_at lw_m5 156 rfl) rfl
theorem q1239 : (Jvm.Cond.selects "TrunkLitters$House" ({ cls := "TrunkLitters$House", name := "coupleOf", desc := "(I)I" } : Jvm.MethodName) ({ cls := "TrunkLitters$House", name := "coupleOf", desc := "(I)I" } : Jvm.MethodName)) ∈ lw_all := lw_g (lw_at lw_m5 157 rfl) rfl
theorem q1240 : (Jvm.Cond.code ({ cls := "TrunkLitters$House", name := "coupleOf", desc := "(I)I" } : Jvm.MethodName) prog_10_method_12_code (5 : Nat) (Option.some Jvm.ClassFile.FieldType.int)) ∈ lw_all := lw_g (lw_at lw_m5 158 rfl) rfl
theorem q1241 : (Jvm.Cond.methodLink "TrunkLitters$House" (151 : Nat) ({ cls := "TrunkLitters$House", name := "greatest", desc := "(II)I" } : Jvm.MethodName)) ∈ lw_all := lw_g (lw_at lw_m5 159 rfl) rfl
theorem q1242 : (Jvm.Cond.privateMethod ({ cls := "TrunkLitters$House", name := "greatest", desc := "(II)I" } : Jvm.MethodName)) ∈ lw_tbl := lw_at lw_m5 160 rfl
theorem q1243 : (Jvm.Cond.instanceMethod ({ cls := "TrunkLitters$House", name := "greatest", desc := "(II)I" } : Jvm.MethodName)) ∈ lw_all := lw_g (lw_at lw_m5 161 rfl) rfl
theorem q1244 : (Jvm.Cond.code ({ cls := "TrunkLitters$House", name := "greatest", desc := "(II)I" } : Jvm.MethodName) prog_10_method_11_code (5 : Nat) (Option.some Jvm.ClassFile.FieldType.int)) ∈ lw_all := lw_g (lw_at lw_m5 162 rfl) rfl
theorem q1250 : (Jvm.Cond.instanceMethod ({ cls := "TrunkLitters$House", name := "isRipe", desc := "(LTrunkLitters$Book;I)Z" } : Jvm.MethodName)) ∈ lw_all := lw_g (lw_at lw_m5 168 rfl) rfl
theorem q1251 : (Jvm.Cond.selects "TrunkLitters$House" ({ cls := "TrunkLitters$House", name := "isRipe", desc := "(LTrunkLitters$Book;I)Z" } : Jvm.MethodName) ({ cls := "TrunkLitters$House", name := "isRipe", desc := "(LTrunkLitters$Book;I)Z" } : Jvm.MethodName)) ∈ lw_all := lw_g (lw_at lw_m5 169 rfl) rfl
theorem q1252 : (Jvm.Cond.code ({ cls := "TrunkLitters$House", name := "isRipe", desc := "(LTrunkLitters$Book;I)Z" } : Jvm.MethodName) prog_10_method_15_code (4 : Nat) (Option.some Jvm.ClassFile.FieldType.boolean)) ∈ lw_all := lw_g (lw_at lw_m5 170 rfl) rfl
theorem q1253 : (Jvm.Cond.methodLink "TrunkLitters$House" (159 : Nat) ({ cls := "TrunkLitters$House", name := "coupleOf", desc := "(I)I" } : Jvm.MethodName)) ∈ lw_all := lw_g (lw_at lw_m5 171 rfl) rfl
theorem q1254 : (Jvm.Cond.methodLink "TrunkLitters$House" (162 : Nat) ({ cls := "TrunkLitters$House", name := "freePlace", desc := "()I" } : Jvm.MethodName)) ∈ lw_all := lw_g (lw_at lw_m5 172 rfl) rfl
theorem q1255 : (Jvm.Cond.privateMethod ({ cls := "TrunkLitters$House", name := "freePlace", desc := "()I" } : Jvm.MethodName)) ∈ lw_tbl := lw_at lw_m5 173 rfl
theorem q1256 : (Jvm.Cond.instanceMethod ({ cls := "TrunkLitters$House", name := "freePlace", desc := "()I" } : Jvm.MethodName)) ∈ lw_all := lw_g (lw_at lw_m5 174 rfl) rfl
theorem q1257 : (Jvm.Cond.code ({ cls := "TrunkLitters$House", name := "freePlace", desc := "()I" } : Jvm.MethodName) prog_10_method_14_code (2 : Nat) (Option.some Jvm.ClassFile.FieldType.int)) ∈ lw_all := lw_g (lw_at lw_m5 175 rfl) rfl
theorem q1258 : (Jvm.Cond.methodLink "TrunkLitters$House" (165 : Nat) ({ cls := "TrunkLitters$House", name := "broodOf", desc := "(LTrunkLitters$Book;II)I" } : Jvm.MethodName)) ∈ lw_all := lw_g (lw_at lw_m5 176 rfl) rfl
theorem q1259 : (Jvm.Cond.methodLink "TrunkLitters$House" (169 : Nat) ({ cls := "TrunkLitters$House", name := "youngBulk", desc := "(I)I" } : Jvm.MethodName)) ∈ lw_all := lw_g (lw_at lw_m5 177 rfl) rfl
theorem q1260 : (Jvm.Cond.instanceMethod ({ cls := "TrunkLitters$House", name := "youngBulk", desc := "(I)I" } : Jvm.MethodName)) ∈ lw_all := lw_g (lw_at lw_m5 178 rfl) rfl
theorem q1261 : (Jvm.Cond.selects "TrunkLitters$House" ({ cls := "TrunkLitters$House", name := "youngBulk", desc := "(I)I" } : Jvm.MethodName) ({ cls := "TrunkLitters$House", name := "youngBulk", desc := "(I)I" } : Jvm.MethodName)) ∈ lw_all := lw_g (lw_at lw_m5 179 rfl) rfl
theorem q1262 : (Jvm.Cond.code ({ cls := "TrunkLitters$House", name := "youngBulk", desc := "(I)I" } : Jvm.MethodName) prog_10_method_13_code (2 : Nat) (Option.some Jvm.ClassFile.FieldType.int)) ∈ lw_all := lw_g (lw_at lw_m5 180 rfl) rfl
theorem q1263 : (Jvm.Cond.methodLink "TrunkLitters$House" (154 : Nat) ({ cls := "java/lang/Math", name := "max", desc := "(II)I" } : Jvm.MethodName)) ∈ lw_all := lw_g (lw_at lw_m5 181 rfl) rfl
theorem q1274 : (Jvm.Cond.instanceMethod ({ cls := "TrunkLitters$House", name := "copy", desc := "(LTrunkLitters$House;)LTrunkLitters$House;" } : Jvm.MethodName)) ∈ lw_all := lw_g (lw_at lw_m5 192 rfl) rfl
theorem q1275 : (Jvm.Cond.selects "TrunkLitters$House" ({ cls := "TrunkLitters$House", name := "copy", desc := "(LTrunkLitters$House;)LTrunkLitters$House;" } : Jvm.MethodName) ({ cls := "TrunkLitters$House", name := "copy", desc := "(LTrunkLitters$House;)LTrunkLitters$House;" } : Jvm.MethodName)) ∈ lw_all := lw_g (lw_at lw_m5 193 rfl) rfl
theorem q1276 : (Jvm.Cond.code ({ cls := "TrunkLitters$House", name := "copy", desc := "(LTrunkLitters$House;)LTrunkLitters$House;" } : Jvm.MethodName) prog_10_method_3_code (2 : Nat) (Option.some (Jvm.ClassFile.FieldType.object "TrunkLitters$House"))) ∈ lw_all := lw_g (lw_at lw_m5 194 rfl) rfl
theorem q1277 : (Jvm.Cond.methodLink "TrunkLitters$House" (91 : Nat) ({ cls := "java/lang/System", name := "arraycopy", desc := "(Ljava/lang/Object;ILjava/lang/Object;II)V" } : Jvm.MethodName)) ∈ lw_all := lw_g (lw_at lw_m5 195 rfl) rfl
theorem q1279 : (Jvm.Cond.instanceMethod ({ cls := "TrunkLitters$House", name := "go", desc := "(LTrunkLitters$Book;)I" } : Jvm.MethodName)) ∈ lw_all := lw_g (lw_at lw_m5 197 rfl) rfl
theorem q1280 : (Jvm.Cond.selects "TrunkLitters$House" ({ cls := "TrunkLitters$House", name := "go", desc := "(LTrunkLitters$Book;)I" } : Jvm.MethodName) ({ cls := "TrunkLitters$House", name := "go", desc := "(LTrunkLitters$Book;)I" } : Jvm.MethodName)) ∈ lw_all := lw_g (lw_at lw_m5 198 rfl) rfl
theorem q1281 : (Jvm.Cond.code ({ cls := "TrunkLitters$House", name := "go", desc := "(LTrunkLitters$Book;)I" } : Jvm.MethodName) prog_10_method_18_code (4 : Nat) (Option.some Jvm.ClassFile.FieldType.int)) ∈ lw_all := lw_g (lw_at lw_m5 199 rfl) rfl
theorem q1282 : (Jvm.Cond.methodLink "TrunkLitters$House" (176 : Nat) ({ cls := "TrunkLitters$House", name := "listens", desc := "(LTrunkLitters$Book;I)V" } : Jvm.MethodName)) ∈ lw_all := lw_g (lw_at lw_m5 200 rfl) rfl
theorem q1283 : (Jvm.Cond.privateMethod ({ cls := "TrunkLitters$House", name := "listens", desc := "(LTrunkLitters$Book;I)V" } : Jvm.MethodName)) ∈ lw_tbl := lw_at lw_m5 201 rfl
theorem q1284 : (Jvm.Cond.instanceMethod ({ cls := "TrunkLitters$House", name := "listens", desc := "(LTrunkLitters$Book;I)V" } : Jvm.MethodName)) ∈ lw_all := lw_g (lw_at lw_m5 202 rfl) rfl
theorem q1285 : (Jvm.Cond.code ({ cls := "TrunkLitters$House", name := "listens", desc := "(LTrunkLitters$Book;I)V" } : Jvm.MethodName) prog_10_method_17_code (3 : Nat) (Option.none : Option Jvm.ClassFile.FieldType)) ∈ lw_all := lw_g (lw_at lw_m5 203 rfl) rfl
theorem q1286 : (Jvm.Cond.methodLink "TrunkLitters$House" (173 : Nat) ({ cls := "TrunkLitters$House", name := "leaves", desc := "(I)V" } : Jvm.MethodName)) ∈ lw_all := lw_g (lw_at lw_m5 204 rfl) rfl
theorem q1287 : (Jvm.Cond.instanceMethod ({ cls := "TrunkLitters$House", name := "leaves", desc := "(I)V" } : Jvm.MethodName)) ∈ lw_all := lw_g (lw_at lw_m5 205 rfl) rfl
theorem q1288 : (Jvm.Cond.selects "TrunkLitters$House" ({ cls := "TrunkLitters$House", name := "leaves", desc := "(I)V" } : Jvm.MethodName) ({ cls := "TrunkLitters$House", name := "leaves", desc := "(I)V" } : Jvm.MethodName)) ∈ lw_all := lw_g (lw_at lw_m5 206 rfl) rfl
theorem q1289 : (Jvm.Cond.code ({ cls := "TrunkLitters$House", name := "leaves", desc := "(I)V" } : Jvm.MethodName) prog_10_method_6_code (3 : Nat) (Option.none : Option Jvm.ClassFile.FieldType)) ∈ lw_all := lw_g (lw_at lw_m5 207 rfl) rfl
theorem q1290 : (Jvm.Cond.methodLink "TrunkLitters$House" (180 : Nat) ({ cls := "TrunkLitters$House", name := "isRipe", desc := "(LTrunkLitters$Book;I)Z" } : Jvm.MethodName)) ∈ lw_all := lw_g (lw_at lw_m5 208 rfl) rfl
theorem q1291 : (Jvm.Cond.methodLink "TrunkLitters$House" (184 : Nat) ({ cls := "TrunkLitters$House", name := "bringForth", desc := "(I)I" } : Jvm.MethodName)) ∈ lw_all := lw_g (lw_at lw_m5 209 rfl) rfl
theorem q1292 : (Jvm.Cond.privateMethod ({ cls := "TrunkLitters$House", name := "bringForth", desc := "(I)I" } : Jvm.MethodName)) ∈ lw_tbl := lw_at lw_m5 210 rfl
theorem q1293 : (Jvm.Cond.instanceMethod ({ cls := "TrunkLitters$House", name := "bringForth", desc := "(I)I" } : Jvm.MethodName)) ∈ lw_all := lw_g (lw_at lw_m5 211 rfl) rfl
theorem q1294 : (Jvm.Cond.code ({ cls := "TrunkLitters$House", name := "bringForth", desc := "(I)I" } : Jvm.MethodName) prog_10_method_16_code (7 : Nat) (Option.some Jvm.ClassFile.FieldType.int)) ∈ lw_all := lw_g (lw_at lw_m5 212 rfl) rfl
theorem q2260 : (Jvm.Cond.castable "TrunkLitters$House" "java/lang/Object") ∈ lw_tbl := lw_at lw_m9 218 rfl
theorem in_X3 : ∀ w ∈ wsX30, w ∈ lw_all := lw_in wsX30 [298, 300, 302, 304, 306, 308, 310, 312, 314, 316, 318, 320, 322, 324] (by decide +kernel) (by decide +kernel)

/-! TrunkLitters$Reader -/
set_option maxRecDepth 100000
def RX5 : String := "TrunkLitters$Reader"
def TX5 : u_T := fun k => match k with
  | 0 => ("TrunkLitters$Reader", "at", "I", false)
  | 1 => ("TrunkLitters$Reader", "sort", "I", false)
  | 2 => ("TrunkLitters$Reader", "place", "I", false)
  | 3 => ("TrunkLitters$Reader", "number", "I", false)
  | 4 => ("TrunkLitters$Reader", "deep", "I", false)
  | 5 => ("TrunkLitters$Reader", "own", "I", false)
  | 6 => ("TrunkLitters$Reader", "hasPines", "Z", false)
  | 7 => ("TrunkLitters$Reader", "hasTales", "Z", false)
  | 8 => ("TrunkLitters$Reader", "hasDraw", "Z", false)
  | 9 => ("TrunkLitters$Reader", "word", "Ljava/lang/String;", false)
  | 10 => ("TrunkLitters$Reader", "made", "LTrunkLitters$Book;", true)
  | _ => ("TrunkLitters$Reader", "this$0", "LTrunkLitters;", true)
def tyX5 : Nat → FieldType := fun k => match k with
  | 0 => .int
  | 1 => .int
  | 2 => .int
  | 3 => .int
  | 4 => .int
  | 5 => .int
  | 6 => .boolean
  | 7 => .boolean
  | 8 => .boolean
  | 9 => .object "java/lang/String"
  | 10 => .object "TrunkLitters$Book"
  | _ => .object "TrunkLitters"
abbrev wsX50 : List Cond := u_ws RX5 TX5 12
theorem nmX5 : ∀ a, a < 12 → ∀ b, b < 12 → a ≠ b → (TX5 a).2.1 ≠ (TX5 b).2.1 := by decide +kernel
theorem tyX5_ok : ∀ k, k < 12 → parseFieldDescriptor (TX5 k).2.2.1 = some (tyX5 k) := by decide +kernel
abbrev cX5_init : ByteArray := prog_15_method_1_code
def yX5_init : MethodName := ⟨RX5, "<init>", "(LTrunkLitters;)V"⟩
def dkwX5_init_1 : List UInt8 := [181, 0, 24, 177]
abbrev dktX5_init_1 : List UInt8 := dkwX5_init_1 ++ []
def dkwX5_init_0 : List UInt8 := [42, 43, 181, 0, 3, 42, 183, 0, 9, 42, 18, 15, 181, 0, 17, 42, 187, 0, 21, 89, 183, 0, 23]
abbrev dktX5_init_0 : List UInt8 := dkwX5_init_0 ++ dktX5_init_1
theorem dksX5_init_0 : cX5_init.data.toList.drop 0 = dktX5_init_0 := by decide +kernel
theorem dksX5_init_1 : cX5_init.data.toList.drop 23 = dktX5_init_1 := dk_seg dksX5_init_0 23 rfl rfl
theorem dX5_init_0 : decode cX5_init 0 = .ok (.aload_n 0, 1) := dk_42 (dk_at dksX5_init_0 0 rfl rfl)
theorem dX5_init_1 : decode cX5_init 1 = .ok (.aload_n 1, 1) := dk_43 (dk_at dksX5_init_0 1 rfl rfl)
theorem dX5_init_2 : decode cX5_init 2 = .ok (.putfield 3, 3) := dk_181 0 3 (dk_at dksX5_init_0 2 rfl rfl)
theorem dX5_init_5 : decode cX5_init 5 = .ok (.aload_n 0, 1) := dk_42 (dk_at dksX5_init_0 5 rfl rfl)
theorem dX5_init_6 : decode cX5_init 6 = .ok (.invokespecial 9, 3) := dk_183 0 9 (dk_at dksX5_init_0 6 rfl rfl)
theorem dX5_init_9 : decode cX5_init 9 = .ok (.aload_n 0, 1) := dk_42 (dk_at dksX5_init_0 9 rfl rfl)
theorem dX5_init_10 : decode cX5_init 10 = .ok (.ldc 15, 2) := dk_18 15 (dk_at dksX5_init_0 10 rfl rfl)
theorem dX5_init_12 : decode cX5_init 12 = .ok (.putfield 17, 3) := dk_181 0 17 (dk_at dksX5_init_0 12 rfl rfl)
theorem dX5_init_15 : decode cX5_init 15 = .ok (.aload_n 0, 1) := dk_42 (dk_at dksX5_init_0 15 rfl rfl)
theorem dX5_init_16 : decode cX5_init 16 = .ok (.new 21, 3) := dk_187 0 21 (dk_at dksX5_init_0 16 rfl rfl)
theorem dX5_init_19 : decode cX5_init 19 = .ok (.dup, 1) := dk_89 (dk_at dksX5_init_0 19 rfl rfl)
theorem dX5_init_20 : decode cX5_init 20 = .ok (.invokespecial 23, 3) := dk_183 0 23 (dk_at dksX5_init_0 20 rfl rfl)
theorem dX5_init_23 : decode cX5_init 23 = .ok (.putfield 24, 3) := dk_181 0 24 (dk_at dksX5_init_1 0 rfl rfl)
theorem dX5_init_26 : decode cX5_init 26 = .ok (.return_, 1) := dk_177 (dk_at dksX5_init_1 3 rfl rfl)
abbrev cX5_text : ByteArray := prog_15_method_15_code
def yX5_text : MethodName := ⟨RX5, "text", "()LTrunkLitters$Book;"⟩
def dkwX5_text_1 : List UInt8 := [42, 182, 0, 96, 191, 42, 182, 0, 90, 167, 255, 227, 42, 180, 0, 24, 176]
abbrev dktX5_text_1 : List UInt8 := dkwX5_text_1 ++ []
def dkwX5_text_0 : List UInt8 := [42, 182, 0, 90, 42, 180, 0, 46, 153, 0, 28, 42, 182, 0, 154, 42, 180, 0, 46, 16, 59, 159, 0, 8]
abbrev dktX5_text_0 : List UInt8 := dkwX5_text_0 ++ dktX5_text_1
theorem dksX5_text_0 : cX5_text.data.toList.drop 0 = dktX5_text_0 := by decide +kernel
theorem dksX5_text_1 : cX5_text.data.toList.drop 24 = dktX5_text_1 := dk_seg dksX5_text_0 24 rfl rfl
theorem dX5_text_0 : decode cX5_text 0 = .ok (.aload_n 0, 1) := dk_42 (dk_at dksX5_text_0 0 rfl rfl)
theorem dX5_text_1 : decode cX5_text 1 = .ok (.invokevirtual 90, 3) := dk_182 0 90 (dk_at dksX5_text_0 1 rfl rfl)
theorem dX5_text_4 : decode cX5_text 4 = .ok (.aload_n 0, 1) := dk_42 (dk_at dksX5_text_0 4 rfl rfl)
theorem dX5_text_5 : decode cX5_text 5 = .ok (.getfield 46, 3) := dk_180 0 46 (dk_at dksX5_text_0 5 rfl rfl)
theorem dX5_text_8 : decode cX5_text 8 = .ok (.ifCond .eq 28, 3) := dk_153 0 28 (dk_at dksX5_text_0 8 rfl rfl)
theorem dX5_text_11 : decode cX5_text 11 = .ok (.aload_n 0, 1) := dk_42 (dk_at dksX5_text_0 11 rfl rfl)
theorem dX5_text_12 : decode cX5_text 12 = .ok (.invokevirtual 154, 3) := dk_182 0 154 (dk_at dksX5_text_0 12 rfl rfl)
theorem dX5_text_15 : decode cX5_text 15 = .ok (.aload_n 0, 1) := dk_42 (dk_at dksX5_text_0 15 rfl rfl)
theorem dX5_text_16 : decode cX5_text 16 = .ok (.getfield 46, 3) := dk_180 0 46 (dk_at dksX5_text_0 16 rfl rfl)
theorem dX5_text_19 : decode cX5_text 19 = .ok (.bipush 59, 2) := dk_16 59 (dk_at dksX5_text_0 19 rfl rfl)
theorem dX5_text_21 : decode cX5_text 21 = .ok (.if_icmp .eq 8, 3) := dk_159 0 8 (dk_at dksX5_text_0 21 rfl rfl)
theorem dX5_text_24 : decode cX5_text 24 = .ok (.aload_n 0, 1) := dk_42 (dk_at dksX5_text_1 0 rfl rfl)
theorem dX5_text_25 : decode cX5_text 25 = .ok (.invokevirtual 96, 3) := dk_182 0 96 (dk_at dksX5_text_1 1 rfl rfl)
theorem dX5_text_28 : decode cX5_text 28 = .ok (.athrow, 1) := dk_191 (dk_at dksX5_text_1 4 rfl rfl)
theorem dX5_text_29 : decode cX5_text 29 = .ok (.aload_n 0, 1) := dk_42 (dk_at dksX5_text_1 5 rfl rfl)
theorem dX5_text_30 : decode cX5_text 30 = .ok (.invokevirtual 90, 3) := dk_182 0 90 (dk_at dksX5_text_1 6 rfl rfl)
theorem dX5_text_33 : decode cX5_text 33 = .ok (.goto (-29), 3) := dk_167 255 227 (dk_at dksX5_text_1 9 rfl rfl)
theorem dX5_text_36 : decode cX5_text 36 = .ok (.aload_n 0, 1) := dk_42 (dk_at dksX5_text_1 12 rfl rfl)
theorem dX5_text_37 : decode cX5_text 37 = .ok (.getfield 24, 3) := dk_180 0 24 (dk_at dksX5_text_1 13 rfl rfl)
theorem dX5_text_40 : decode cX5_text 40 = .ok (.areturn, 1) := dk_176 (dk_at dksX5_text_1 16 rfl rfl)
abbrev cX5_go : ByteArray := prog_15_method_6_code
def yX5_go : MethodName := ⟨RX5, "go", "()V"⟩
def dkwX5_go_10 : List UInt8 := [181, 0, 28, 177]
abbrev dktX5_go_10 : List UInt8 := dkwX5_go_10 ++ []
def dkwX5_go_9 : List UInt8 := [167, 0, 17, 27, 184, 0, 72, 153, 0, 10, 42, 27, 181, 0, 46, 4, 61, 42, 89, 180, 0, 28, 28, 96]
abbrev dktX5_go_9 : List UInt8 := dkwX5_go_9 ++ dktX5_go_10
def dkwX5_go_8 : List UInt8 := [167, 255, 220, 28, 7, 163, 0, 11, 42, 28, 182, 0, 49, 153, 0, 4, 177, 42, 5, 181, 0, 46]
abbrev dktX5_go_8 : List UInt8 := dkwX5_go_8 ++ dktX5_go_9
def dkwX5_go_7 : List UInt8 := [42, 16, 10, 42, 180, 0, 69, 104, 42, 28, 182, 0, 39, 96, 16, 48, 100, 181, 0, 69, 132, 2, 1]
abbrev dktX5_go_7 : List UInt8 := dkwX5_go_7 ++ dktX5_go_8
def dkwX5_go_6 : List UInt8 := [182, 0, 66, 153, 0, 69, 42, 3, 181, 0, 69, 42, 28, 182, 0, 66, 153, 0, 34, 28, 7, 162, 0, 23]
abbrev dktX5_go_6 : List UInt8 := dkwX5_go_6 ++ dktX5_go_7
def dkwX5_go_5 : List UInt8 := [16, 8, 164, 0, 4, 177, 42, 45, 182, 0, 62, 181, 0, 17, 42, 4, 181, 0, 46, 167, 0, 91, 42, 3]
abbrev dktX5_go_5 : List UInt8 := dkwX5_go_5 ++ dktX5_go_6
def dkwX5_go_4 : List UInt8 := [28, 16, 8, 162, 0, 14, 45, 42, 28, 182, 0, 39, 146, 182, 0, 58, 87, 132, 2, 1, 167, 255, 228, 28]
abbrev dktX5_go_4 : List UInt8 := dkwX5_go_4 ++ dktX5_go_5
def dkwX5_go_3 : List UInt8 := [182, 0, 49, 153, 0, 67, 187, 0, 53, 89, 16, 8, 183, 0, 55, 78, 42, 28, 182, 0, 49, 153, 0, 26]
abbrev dktX5_go_3 : List UInt8 := dkwX5_go_3 ++ dktX5_go_4
def dkwX5_go_2 : List UInt8 := [60, 3, 61, 42, 6, 181, 0, 46, 27, 156, 0, 11, 42, 3, 181, 0, 46, 167, 0, 163, 42, 3]
abbrev dktX5_go_2 : List UInt8 := dkwX5_go_2 ++ dktX5_go_3
def dkwX5_go_1 : List UInt8 := [180, 0, 28, 4, 96, 181, 0, 28, 167, 255, 226, 42, 42, 180, 0, 28, 181, 0, 43, 42, 3, 182, 0, 39]
abbrev dktX5_go_1 : List UInt8 := dkwX5_go_1 ++ dktX5_go_2
def dkwX5_go_0 : List UInt8 := [42, 3, 182, 0, 39, 16, 32, 159, 0, 13, 42, 3, 182, 0, 39, 16, 10, 160, 0, 16, 42, 89]
abbrev dktX5_go_0 : List UInt8 := dkwX5_go_0 ++ dktX5_go_1
theorem dksX5_go_0 : cX5_go.data.toList.drop 0 = dktX5_go_0 := by decide +kernel
theorem dksX5_go_1 : cX5_go.data.toList.drop 22 = dktX5_go_1 := dk_seg dksX5_go_0 22 rfl rfl
theorem dksX5_go_2 : cX5_go.data.toList.drop 46 = dktX5_go_2 := dk_seg dksX5_go_1 24 rfl rfl
theorem dksX5_go_3 : cX5_go.data.toList.drop 68 = dktX5_go_3 := dk_seg dksX5_go_2 22 rfl rfl
theorem dksX5_go_4 : cX5_go.data.toList.drop 92 = dktX5_go_4 := dk_seg dksX5_go_3 24 rfl rfl
theorem dksX5_go_5 : cX5_go.data.toList.drop 116 = dktX5_go_5 := dk_seg dksX5_go_4 24 rfl rfl
theorem dksX5_go_6 : cX5_go.data.toList.drop 140 = dktX5_go_6 := dk_seg dksX5_go_5 24 rfl rfl
theorem dksX5_go_7 : cX5_go.data.toList.drop 164 = dktX5_go_7 := dk_seg dksX5_go_6 24 rfl rfl
theorem dksX5_go_8 : cX5_go.data.toList.drop 187 = dktX5_go_8 := dk_seg dksX5_go_7 23 rfl rfl
theorem dksX5_go_9 : cX5_go.data.toList.drop 209 = dktX5_go_9 := dk_seg dksX5_go_8 22 rfl rfl
theorem dksX5_go_10 : cX5_go.data.toList.drop 233 = dktX5_go_10 := dk_seg dksX5_go_9 24 rfl rfl
theorem dX5_go_0 : decode cX5_go 0 = .ok (.aload_n 0, 1) := dk_42 (dk_at dksX5_go_0 0 rfl rfl)
theorem dX5_go_1 : decode cX5_go 1 = .ok (.iconst 0, 1) := dk_3 (dk_at dksX5_go_0 1 rfl rfl)
theorem dX5_go_2 : decode cX5_go 2 = .ok (.invokevirtual 39, 3) := dk_182 0 39 (dk_at dksX5_go_0 2 rfl rfl)
theorem dX5_go_5 : decode cX5_go 5 = .ok (.bipush 32, 2) := dk_16 32 (dk_at dksX5_go_0 5 rfl rfl)
theorem dX5_go_7 : decode cX5_go 7 = .ok (.if_icmp .eq 13, 3) := dk_159 0 13 (dk_at dksX5_go_0 7 rfl rfl)
theorem dX5_go_10 : decode cX5_go 10 = .ok (.aload_n 0, 1) := dk_42 (dk_at dksX5_go_0 10 rfl rfl)
theorem dX5_go_11 : decode cX5_go 11 = .ok (.iconst 0, 1) := dk_3 (dk_at dksX5_go_0 11 rfl rfl)
theorem dX5_go_12 : decode cX5_go 12 = .ok (.invokevirtual 39, 3) := dk_182 0 39 (dk_at dksX5_go_0 12 rfl rfl)
theorem dX5_go_15 : decode cX5_go 15 = .ok (.bipush 10, 2) := dk_16 10 (dk_at dksX5_go_0 15 rfl rfl)
theorem dX5_go_17 : decode cX5_go 17 = .ok (.if_icmp .ne 16, 3) := dk_160 0 16 (dk_at dksX5_go_0 17 rfl rfl)
theorem dX5_go_20 : decode cX5_go 20 = .ok (.aload_n 0, 1) := dk_42 (dk_at dksX5_go_0 20 rfl rfl)
theorem dX5_go_21 : decode cX5_go 21 = .ok (.dup, 1) := dk_89 (dk_at dksX5_go_0 21 rfl rfl)
theorem dX5_go_22 : decode cX5_go 22 = .ok (.getfield 28, 3) := dk_180 0 28 (dk_at dksX5_go_1 0 rfl rfl)
theorem dX5_go_25 : decode cX5_go 25 = .ok (.iconst 1, 1) := dk_4 (dk_at dksX5_go_1 3 rfl rfl)
theorem dX5_go_26 : decode cX5_go 26 = .ok (.iadd, 1) := dk_96 (dk_at dksX5_go_1 4 rfl rfl)
theorem dX5_go_27 : decode cX5_go 27 = .ok (.putfield 28, 3) := dk_181 0 28 (dk_at dksX5_go_1 5 rfl rfl)
theorem dX5_go_30 : decode cX5_go 30 = .ok (.goto (-30), 3) := dk_167 255 226 (dk_at dksX5_go_1 8 rfl rfl)
theorem dX5_go_33 : decode cX5_go 33 = .ok (.aload_n 0, 1) := dk_42 (dk_at dksX5_go_1 11 rfl rfl)
theorem dX5_go_34 : decode cX5_go 34 = .ok (.aload_n 0, 1) := dk_42 (dk_at dksX5_go_1 12 rfl rfl)
theorem dX5_go_35 : decode cX5_go 35 = .ok (.getfield 28, 3) := dk_180 0 28 (dk_at dksX5_go_1 13 rfl rfl)
theorem dX5_go_38 : decode cX5_go 38 = .ok (.putfield 43, 3) := dk_181 0 43 (dk_at dksX5_go_1 16 rfl rfl)
theorem dX5_go_41 : decode cX5_go 41 = .ok (.aload_n 0, 1) := dk_42 (dk_at dksX5_go_1 19 rfl rfl)
theorem dX5_go_42 : decode cX5_go 42 = .ok (.iconst 0, 1) := dk_3 (dk_at dksX5_go_1 20 rfl rfl)
theorem dX5_go_43 : decode cX5_go 43 = .ok (.invokevirtual 39, 3) := dk_182 0 39 (dk_at dksX5_go_1 21 rfl rfl)
theorem dX5_go_46 : decode cX5_go 46 = .ok (.istore_n 1, 1) := dk_60 (dk_at dksX5_go_2 0 rfl rfl)
theorem dX5_go_47 : decode cX5_go 47 = .ok (.iconst 0, 1) := dk_3 (dk_at dksX5_go_2 1 rfl rfl)
theorem dX5_go_48 : decode cX5_go 48 = .ok (.istore_n 2, 1) := dk_61 (dk_at dksX5_go_2 2 rfl rfl)
theorem dX5_go_49 : decode cX5_go 49 = .ok (.aload_n 0, 1) := dk_42 (dk_at dksX5_go_2 3 rfl rfl)
theorem dX5_go_50 : decode cX5_go 50 = .ok (.iconst 3, 1) := dk_6 (dk_at dksX5_go_2 4 rfl rfl)
theorem dX5_go_51 : decode cX5_go 51 = .ok (.putfield 46, 3) := dk_181 0 46 (dk_at dksX5_go_2 5 rfl rfl)
theorem dX5_go_54 : decode cX5_go 54 = .ok (.iload_n 1, 1) := dk_27 (dk_at dksX5_go_2 8 rfl rfl)
theorem dX5_go_55 : decode cX5_go 55 = .ok (.ifCond .ge 11, 3) := dk_156 0 11 (dk_at dksX5_go_2 9 rfl rfl)
theorem dX5_go_58 : decode cX5_go 58 = .ok (.aload_n 0, 1) := dk_42 (dk_at dksX5_go_2 12 rfl rfl)
theorem dX5_go_59 : decode cX5_go 59 = .ok (.iconst 0, 1) := dk_3 (dk_at dksX5_go_2 13 rfl rfl)
theorem dX5_go_60 : decode cX5_go 60 = .ok (.putfield 46, 3) := dk_181 0 46 (dk_at dksX5_go_2 14 rfl rfl)
theorem dX5_go_63 : decode cX5_go 63 = .ok (.goto 163, 3) := dk_167 0 163 (dk_at dksX5_go_2 17 rfl rfl)
theorem dX5_go_66 : decode cX5_go 66 = .ok (.aload_n 0, 1) := dk_42 (dk_at dksX5_go_2 20 rfl rfl)
theorem dX5_go_67 : decode cX5_go 67 = .ok (.iconst 0, 1) := dk_3 (dk_at dksX5_go_2 21 rfl rfl)
theorem dX5_go_68 : decode cX5_go 68 = .ok (.invokevirtual 49, 3) := dk_182 0 49 (dk_at dksX5_go_3 0 rfl rfl)
theorem dX5_go_71 : decode cX5_go 71 = .ok (.ifCond .eq 67, 3) := dk_153 0 67 (dk_at dksX5_go_3 3 rfl rfl)
theorem dX5_go_74 : decode cX5_go 74 = .ok (.new 53, 3) := dk_187 0 53 (dk_at dksX5_go_3 6 rfl rfl)
theorem dX5_go_77 : decode cX5_go 77 = .ok (.dup, 1) := dk_89 (dk_at dksX5_go_3 9 rfl rfl)
theorem dX5_go_78 : decode cX5_go 78 = .ok (.bipush 8, 2) := dk_16 8 (dk_at dksX5_go_3 10 rfl rfl)
theorem dX5_go_80 : decode cX5_go 80 = .ok (.invokespecial 55, 3) := dk_183 0 55 (dk_at dksX5_go_3 12 rfl rfl)
theorem dX5_go_83 : decode cX5_go 83 = .ok (.astore_n 3, 1) := dk_78 (dk_at dksX5_go_3 15 rfl rfl)
theorem dX5_go_84 : decode cX5_go 84 = .ok (.aload_n 0, 1) := dk_42 (dk_at dksX5_go_3 16 rfl rfl)
theorem dX5_go_85 : decode cX5_go 85 = .ok (.iload_n 2, 1) := dk_28 (dk_at dksX5_go_3 17 rfl rfl)
theorem dX5_go_86 : decode cX5_go 86 = .ok (.invokevirtual 49, 3) := dk_182 0 49 (dk_at dksX5_go_3 18 rfl rfl)
theorem dX5_go_89 : decode cX5_go 89 = .ok (.ifCond .eq 26, 3) := dk_153 0 26 (dk_at dksX5_go_3 21 rfl rfl)
theorem dX5_go_92 : decode cX5_go 92 = .ok (.iload_n 2, 1) := dk_28 (dk_at dksX5_go_4 0 rfl rfl)
theorem dX5_go_93 : decode cX5_go 93 = .ok (.bipush 8, 2) := dk_16 8 (dk_at dksX5_go_4 1 rfl rfl)
theorem dX5_go_95 : decode cX5_go 95 = .ok (.if_icmp .ge 14, 3) := dk_162 0 14 (dk_at dksX5_go_4 3 rfl rfl)
theorem dX5_go_98 : decode cX5_go 98 = .ok (.aload_n 3, 1) := dk_45 (dk_at dksX5_go_4 6 rfl rfl)
theorem dX5_go_99 : decode cX5_go 99 = .ok (.aload_n 0, 1) := dk_42 (dk_at dksX5_go_4 7 rfl rfl)
theorem dX5_go_100 : decode cX5_go 100 = .ok (.iload_n 2, 1) := dk_28 (dk_at dksX5_go_4 8 rfl rfl)
theorem dX5_go_101 : decode cX5_go 101 = .ok (.invokevirtual 39, 3) := dk_182 0 39 (dk_at dksX5_go_4 9 rfl rfl)
theorem dX5_go_104 : decode cX5_go 104 = .ok (.i2c, 1) := dk_146 (dk_at dksX5_go_4 12 rfl rfl)
theorem dX5_go_105 : decode cX5_go 105 = .ok (.invokevirtual 58, 3) := dk_182 0 58 (dk_at dksX5_go_4 13 rfl rfl)
theorem dX5_go_108 : decode cX5_go 108 = .ok (.pop, 1) := dk_87 (dk_at dksX5_go_4 16 rfl rfl)
theorem dX5_go_109 : decode cX5_go 109 = .ok (.iinc 2 1, 3) := dk_132 2 1 (dk_at dksX5_go_4 17 rfl rfl)
theorem dX5_go_112 : decode cX5_go 112 = .ok (.goto (-28), 3) := dk_167 255 228 (dk_at dksX5_go_4 20 rfl rfl)
theorem dX5_go_115 : decode cX5_go 115 = .ok (.iload_n 2, 1) := dk_28 (dk_at dksX5_go_4 23 rfl rfl)
theorem dX5_go_116 : decode cX5_go 116 = .ok (.bipush 8, 2) := dk_16 8 (dk_at dksX5_go_5 0 rfl rfl)
theorem dX5_go_118 : decode cX5_go 118 = .ok (.if_icmp .le 4, 3) := dk_164 0 4 (dk_at dksX5_go_5 2 rfl rfl)
theorem dX5_go_121 : decode cX5_go 121 = .ok (.return_, 1) := dk_177 (dk_at dksX5_go_5 5 rfl rfl)
theorem dX5_go_122 : decode cX5_go 122 = .ok (.aload_n 0, 1) := dk_42 (dk_at dksX5_go_5 6 rfl rfl)
theorem dX5_go_123 : decode cX5_go 123 = .ok (.aload_n 3, 1) := dk_45 (dk_at dksX5_go_5 7 rfl rfl)
theorem dX5_go_124 : decode cX5_go 124 = .ok (.invokevirtual 62, 3) := dk_182 0 62 (dk_at dksX5_go_5 8 rfl rfl)
theorem dX5_go_127 : decode cX5_go 127 = .ok (.putfield 17, 3) := dk_181 0 17 (dk_at dksX5_go_5 11 rfl rfl)
theorem dX5_go_130 : decode cX5_go 130 = .ok (.aload_n 0, 1) := dk_42 (dk_at dksX5_go_5 14 rfl rfl)
theorem dX5_go_131 : decode cX5_go 131 = .ok (.iconst 1, 1) := dk_4 (dk_at dksX5_go_5 15 rfl rfl)
theorem dX5_go_132 : decode cX5_go 132 = .ok (.putfield 46, 3) := dk_181 0 46 (dk_at dksX5_go_5 16 rfl rfl)
theorem dX5_go_135 : decode cX5_go 135 = .ok (.goto 91, 3) := dk_167 0 91 (dk_at dksX5_go_5 19 rfl rfl)
theorem dX5_go_138 : decode cX5_go 138 = .ok (.aload_n 0, 1) := dk_42 (dk_at dksX5_go_5 22 rfl rfl)
theorem dX5_go_139 : decode cX5_go 139 = .ok (.iconst 0, 1) := dk_3 (dk_at dksX5_go_5 23 rfl rfl)
theorem dX5_go_140 : decode cX5_go 140 = .ok (.invokevirtual 66, 3) := dk_182 0 66 (dk_at dksX5_go_6 0 rfl rfl)
theorem dX5_go_143 : decode cX5_go 143 = .ok (.ifCond .eq 69, 3) := dk_153 0 69 (dk_at dksX5_go_6 3 rfl rfl)
theorem dX5_go_146 : decode cX5_go 146 = .ok (.aload_n 0, 1) := dk_42 (dk_at dksX5_go_6 6 rfl rfl)
theorem dX5_go_147 : decode cX5_go 147 = .ok (.iconst 0, 1) := dk_3 (dk_at dksX5_go_6 7 rfl rfl)
theorem dX5_go_148 : decode cX5_go 148 = .ok (.putfield 69, 3) := dk_181 0 69 (dk_at dksX5_go_6 8 rfl rfl)
theorem dX5_go_151 : decode cX5_go 151 = .ok (.aload_n 0, 1) := dk_42 (dk_at dksX5_go_6 11 rfl rfl)
theorem dX5_go_152 : decode cX5_go 152 = .ok (.iload_n 2, 1) := dk_28 (dk_at dksX5_go_6 12 rfl rfl)
theorem dX5_go_153 : decode cX5_go 153 = .ok (.invokevirtual 66, 3) := dk_182 0 66 (dk_at dksX5_go_6 13 rfl rfl)
theorem dX5_go_156 : decode cX5_go 156 = .ok (.ifCond .eq 34, 3) := dk_153 0 34 (dk_at dksX5_go_6 16 rfl rfl)
theorem dX5_go_159 : decode cX5_go 159 = .ok (.iload_n 2, 1) := dk_28 (dk_at dksX5_go_6 19 rfl rfl)
theorem dX5_go_160 : decode cX5_go 160 = .ok (.iconst 4, 1) := dk_7 (dk_at dksX5_go_6 20 rfl rfl)
theorem dX5_go_161 : decode cX5_go 161 = .ok (.if_icmp .ge 23, 3) := dk_162 0 23 (dk_at dksX5_go_6 21 rfl rfl)
theorem dX5_go_164 : decode cX5_go 164 = .ok (.aload_n 0, 1) := dk_42 (dk_at dksX5_go_7 0 rfl rfl)
theorem dX5_go_165 : decode cX5_go 165 = .ok (.bipush 10, 2) := dk_16 10 (dk_at dksX5_go_7 1 rfl rfl)
theorem dX5_go_167 : decode cX5_go 167 = .ok (.aload_n 0, 1) := dk_42 (dk_at dksX5_go_7 3 rfl rfl)
theorem dX5_go_168 : decode cX5_go 168 = .ok (.getfield 69, 3) := dk_180 0 69 (dk_at dksX5_go_7 4 rfl rfl)
theorem dX5_go_171 : decode cX5_go 171 = .ok (.imul, 1) := dk_104 (dk_at dksX5_go_7 7 rfl rfl)
theorem dX5_go_172 : decode cX5_go 172 = .ok (.aload_n 0, 1) := dk_42 (dk_at dksX5_go_7 8 rfl rfl)
theorem dX5_go_173 : decode cX5_go 173 = .ok (.iload_n 2, 1) := dk_28 (dk_at dksX5_go_7 9 rfl rfl)
theorem dX5_go_174 : decode cX5_go 174 = .ok (.invokevirtual 39, 3) := dk_182 0 39 (dk_at dksX5_go_7 10 rfl rfl)
theorem dX5_go_177 : decode cX5_go 177 = .ok (.iadd, 1) := dk_96 (dk_at dksX5_go_7 13 rfl rfl)
theorem dX5_go_178 : decode cX5_go 178 = .ok (.bipush 48, 2) := dk_16 48 (dk_at dksX5_go_7 14 rfl rfl)
theorem dX5_go_180 : decode cX5_go 180 = .ok (.isub, 1) := dk_100 (dk_at dksX5_go_7 16 rfl rfl)
theorem dX5_go_181 : decode cX5_go 181 = .ok (.putfield 69, 3) := dk_181 0 69 (dk_at dksX5_go_7 17 rfl rfl)
theorem dX5_go_184 : decode cX5_go 184 = .ok (.iinc 2 1, 3) := dk_132 2 1 (dk_at dksX5_go_7 20 rfl rfl)
theorem dX5_go_187 : decode cX5_go 187 = .ok (.goto (-36), 3) := dk_167 255 220 (dk_at dksX5_go_8 0 rfl rfl)
theorem dX5_go_190 : decode cX5_go 190 = .ok (.iload_n 2, 1) := dk_28 (dk_at dksX5_go_8 3 rfl rfl)
theorem dX5_go_191 : decode cX5_go 191 = .ok (.iconst 4, 1) := dk_7 (dk_at dksX5_go_8 4 rfl rfl)
theorem dX5_go_192 : decode cX5_go 192 = .ok (.if_icmp .gt 11, 3) := dk_163 0 11 (dk_at dksX5_go_8 5 rfl rfl)
theorem dX5_go_195 : decode cX5_go 195 = .ok (.aload_n 0, 1) := dk_42 (dk_at dksX5_go_8 8 rfl rfl)
theorem dX5_go_196 : decode cX5_go 196 = .ok (.iload_n 2, 1) := dk_28 (dk_at dksX5_go_8 9 rfl rfl)
theorem dX5_go_197 : decode cX5_go 197 = .ok (.invokevirtual 49, 3) := dk_182 0 49 (dk_at dksX5_go_8 10 rfl rfl)
theorem dX5_go_200 : decode cX5_go 200 = .ok (.ifCond .eq 4, 3) := dk_153 0 4 (dk_at dksX5_go_8 13 rfl rfl)
theorem dX5_go_203 : decode cX5_go 203 = .ok (.return_, 1) := dk_177 (dk_at dksX5_go_8 16 rfl rfl)
theorem dX5_go_204 : decode cX5_go 204 = .ok (.aload_n 0, 1) := dk_42 (dk_at dksX5_go_8 17 rfl rfl)
theorem dX5_go_205 : decode cX5_go 205 = .ok (.iconst 2, 1) := dk_5 (dk_at dksX5_go_8 18 rfl rfl)
theorem dX5_go_206 : decode cX5_go 206 = .ok (.putfield 46, 3) := dk_181 0 46 (dk_at dksX5_go_8 19 rfl rfl)
theorem dX5_go_209 : decode cX5_go 209 = .ok (.goto 17, 3) := dk_167 0 17 (dk_at dksX5_go_9 0 rfl rfl)
theorem dX5_go_212 : decode cX5_go 212 = .ok (.iload_n 1, 1) := dk_27 (dk_at dksX5_go_9 3 rfl rfl)
theorem dX5_go_213 : decode cX5_go 213 = .ok (.invokestatic 72, 3) := dk_184 0 72 (dk_at dksX5_go_9 4 rfl rfl)
theorem dX5_go_216 : decode cX5_go 216 = .ok (.ifCond .eq 10, 3) := dk_153 0 10 (dk_at dksX5_go_9 7 rfl rfl)
theorem dX5_go_219 : decode cX5_go 219 = .ok (.aload_n 0, 1) := dk_42 (dk_at dksX5_go_9 10 rfl rfl)
theorem dX5_go_220 : decode cX5_go 220 = .ok (.iload_n 1, 1) := dk_27 (dk_at dksX5_go_9 11 rfl rfl)
theorem dX5_go_221 : decode cX5_go 221 = .ok (.putfield 46, 3) := dk_181 0 46 (dk_at dksX5_go_9 12 rfl rfl)
theorem dX5_go_224 : decode cX5_go 224 = .ok (.iconst 1, 1) := dk_4 (dk_at dksX5_go_9 15 rfl rfl)
theorem dX5_go_225 : decode cX5_go 225 = .ok (.istore_n 2, 1) := dk_61 (dk_at dksX5_go_9 16 rfl rfl)
theorem dX5_go_226 : decode cX5_go 226 = .ok (.aload_n 0, 1) := dk_42 (dk_at dksX5_go_9 17 rfl rfl)
theorem dX5_go_227 : decode cX5_go 227 = .ok (.dup, 1) := dk_89 (dk_at dksX5_go_9 18 rfl rfl)
theorem dX5_go_228 : decode cX5_go 228 = .ok (.getfield 28, 3) := dk_180 0 28 (dk_at dksX5_go_9 19 rfl rfl)
theorem dX5_go_231 : decode cX5_go 231 = .ok (.iload_n 2, 1) := dk_28 (dk_at dksX5_go_9 22 rfl rfl)
theorem dX5_go_232 : decode cX5_go 232 = .ok (.iadd, 1) := dk_96 (dk_at dksX5_go_9 23 rfl rfl)
theorem dX5_go_233 : decode cX5_go 233 = .ok (.putfield 28, 3) := dk_181 0 28 (dk_at dksX5_go_10 0 rfl rfl)
theorem dX5_go_236 : decode cX5_go 236 = .ok (.return_, 1) := dk_177 (dk_at dksX5_go_10 3 rfl rfl)
abbrev cX5_here : ByteArray := prog_15_method_2_code
def yX5_here : MethodName := ⟨RX5, "here", "(I)I"⟩
def dkwX5_here_1 : List UInt8 := [180, 0, 28, 27, 96, 51, 17, 0, 255, 126, 167, 0, 4, 2, 172]
abbrev dktX5_here_1 : List UInt8 := dkwX5_here_1 ++ []
def dkwX5_here_0 : List UInt8 := [42, 180, 0, 28, 27, 96, 42, 180, 0, 3, 180, 0, 32, 162, 0, 24, 42, 180, 0, 3, 180, 0, 35, 42]
abbrev dktX5_here_0 : List UInt8 := dkwX5_here_0 ++ dktX5_here_1
theorem dksX5_here_0 : cX5_here.data.toList.drop 0 = dktX5_here_0 := by decide +kernel
theorem dksX5_here_1 : cX5_here.data.toList.drop 24 = dktX5_here_1 := dk_seg dksX5_here_0 24 rfl rfl
theorem dX5_here_0 : decode cX5_here 0 = .ok (.aload_n 0, 1) := dk_42 (dk_at dksX5_here_0 0 rfl rfl)
theorem dX5_here_1 : decode cX5_here 1 = .ok (.getfield 28, 3) := dk_180 0 28 (dk_at dksX5_here_0 1 rfl rfl)
theorem dX5_here_4 : decode cX5_here 4 = .ok (.iload_n 1, 1) := dk_27 (dk_at dksX5_here_0 4 rfl rfl)
theorem dX5_here_5 : decode cX5_here 5 = .ok (.iadd, 1) := dk_96 (dk_at dksX5_here_0 5 rfl rfl)
theorem dX5_here_6 : decode cX5_here 6 = .ok (.aload_n 0, 1) := dk_42 (dk_at dksX5_here_0 6 rfl rfl)
theorem dX5_here_7 : decode cX5_here 7 = .ok (.getfield 3, 3) := dk_180 0 3 (dk_at dksX5_here_0 7 rfl rfl)
theorem dX5_here_10 : decode cX5_here 10 = .ok (.getfield 32, 3) := dk_180 0 32 (dk_at dksX5_here_0 10 rfl rfl)
theorem dX5_here_13 : decode cX5_here 13 = .ok (.if_icmp .ge 24, 3) := dk_162 0 24 (dk_at dksX5_here_0 13 rfl rfl)
theorem dX5_here_16 : decode cX5_here 16 = .ok (.aload_n 0, 1) := dk_42 (dk_at dksX5_here_0 16 rfl rfl)
theorem dX5_here_17 : decode cX5_here 17 = .ok (.getfield 3, 3) := dk_180 0 3 (dk_at dksX5_here_0 17 rfl rfl)
theorem dX5_here_20 : decode cX5_here 20 = .ok (.getfield 35, 3) := dk_180 0 35 (dk_at dksX5_here_0 20 rfl rfl)
theorem dX5_here_23 : decode cX5_here 23 = .ok (.aload_n 0, 1) := dk_42 (dk_at dksX5_here_0 23 rfl rfl)
theorem dX5_here_24 : decode cX5_here 24 = .ok (.getfield 28, 3) := dk_180 0 28 (dk_at dksX5_here_1 0 rfl rfl)
theorem dX5_here_27 : decode cX5_here 27 = .ok (.iload_n 1, 1) := dk_27 (dk_at dksX5_here_1 3 rfl rfl)
theorem dX5_here_28 : decode cX5_here 28 = .ok (.iadd, 1) := dk_96 (dk_at dksX5_here_1 4 rfl rfl)
theorem dX5_here_29 : decode cX5_here 29 = .ok (.baload, 1) := dk_51 (dk_at dksX5_here_1 5 rfl rfl)
theorem dX5_here_30 : decode cX5_here 30 = .ok (.sipush 255, 3) := dk_17 0 255 (dk_at dksX5_here_1 6 rfl rfl)
theorem dX5_here_33 : decode cX5_here 33 = .ok (.iand, 1) := dk_126 (dk_at dksX5_here_1 9 rfl rfl)
theorem dX5_here_34 : decode cX5_here 34 = .ok (.goto 4, 3) := dk_167 0 4 (dk_at dksX5_here_1 10 rfl rfl)
theorem dX5_here_37 : decode cX5_here 37 = .ok (.iconst (-1), 1) := dk_2 (dk_at dksX5_here_1 13 rfl rfl)
theorem dX5_here_38 : decode cX5_here 38 = .ok (.ireturn, 1) := dk_172 (dk_at dksX5_here_1 14 rfl rfl)
abbrev cX5_isLetter : ByteArray := prog_15_method_3_code
def yX5_isLetter : MethodName := ⟨RX5, "isLetter", "(I)Z"⟩
def dkwX5_isLetter_1 : List UInt8 := [3, 172]
abbrev dktX5_isLetter_1 : List UInt8 := dkwX5_isLetter_1 ++ []
def dkwX5_isLetter_0 : List UInt8 := [42, 27, 182, 0, 39, 16, 97, 161, 0, 17, 42, 27, 182, 0, 39, 16, 122, 163, 0, 7, 4, 167, 0, 4]
abbrev dktX5_isLetter_0 : List UInt8 := dkwX5_isLetter_0 ++ dktX5_isLetter_1
theorem dksX5_isLetter_0 : cX5_isLetter.data.toList.drop 0 = dktX5_isLetter_0 := by decide +kernel
theorem dksX5_isLetter_1 : cX5_isLetter.data.toList.drop 24 = dktX5_isLetter_1 := dk_seg dksX5_isLetter_0 24 rfl rfl
theorem dX5_isLetter_0 : decode cX5_isLetter 0 = .ok (.aload_n 0, 1) := dk_42 (dk_at dksX5_isLetter_0 0 rfl rfl)
theorem dX5_isLetter_1 : decode cX5_isLetter 1 = .ok (.iload_n 1, 1) := dk_27 (dk_at dksX5_isLetter_0 1 rfl rfl)
theorem dX5_isLetter_2 : decode cX5_isLetter 2 = .ok (.invokevirtual 39, 3) := dk_182 0 39 (dk_at dksX5_isLetter_0 2 rfl rfl)
theorem dX5_isLetter_5 : decode cX5_isLetter 5 = .ok (.bipush 97, 2) := dk_16 97 (dk_at dksX5_isLetter_0 5 rfl rfl)
theorem dX5_isLetter_7 : decode cX5_isLetter 7 = .ok (.if_icmp .lt 17, 3) := dk_161 0 17 (dk_at dksX5_isLetter_0 7 rfl rfl)
theorem dX5_isLetter_10 : decode cX5_isLetter 10 = .ok (.aload_n 0, 1) := dk_42 (dk_at dksX5_isLetter_0 10 rfl rfl)
theorem dX5_isLetter_11 : decode cX5_isLetter 11 = .ok (.iload_n 1, 1) := dk_27 (dk_at dksX5_isLetter_0 11 rfl rfl)
theorem dX5_isLetter_12 : decode cX5_isLetter 12 = .ok (.invokevirtual 39, 3) := dk_182 0 39 (dk_at dksX5_isLetter_0 12 rfl rfl)
theorem dX5_isLetter_15 : decode cX5_isLetter 15 = .ok (.bipush 122, 2) := dk_16 122 (dk_at dksX5_isLetter_0 15 rfl rfl)
theorem dX5_isLetter_17 : decode cX5_isLetter 17 = .ok (.if_icmp .gt 7, 3) := dk_163 0 7 (dk_at dksX5_isLetter_0 17 rfl rfl)
theorem dX5_isLetter_20 : decode cX5_isLetter 20 = .ok (.iconst 1, 1) := dk_4 (dk_at dksX5_isLetter_0 20 rfl rfl)
theorem dX5_isLetter_21 : decode cX5_isLetter 21 = .ok (.goto 4, 3) := dk_167 0 4 (dk_at dksX5_isLetter_0 21 rfl rfl)
theorem dX5_isLetter_24 : decode cX5_isLetter 24 = .ok (.iconst 0, 1) := dk_3 (dk_at dksX5_isLetter_1 0 rfl rfl)
theorem dX5_isLetter_25 : decode cX5_isLetter 25 = .ok (.ireturn, 1) := dk_172 (dk_at dksX5_isLetter_1 1 rfl rfl)
abbrev cX5_isDigit : ByteArray := prog_15_method_4_code
def yX5_isDigit : MethodName := ⟨RX5, "isDigit", "(I)Z"⟩
def dkwX5_isDigit_1 : List UInt8 := [3, 172]
abbrev dktX5_isDigit_1 : List UInt8 := dkwX5_isDigit_1 ++ []
def dkwX5_isDigit_0 : List UInt8 := [42, 27, 182, 0, 39, 16, 48, 161, 0, 17, 42, 27, 182, 0, 39, 16, 57, 163, 0, 7, 4, 167, 0, 4]
abbrev dktX5_isDigit_0 : List UInt8 := dkwX5_isDigit_0 ++ dktX5_isDigit_1
theorem dksX5_isDigit_0 : cX5_isDigit.data.toList.drop 0 = dktX5_isDigit_0 := by decide +kernel
theorem dksX5_isDigit_1 : cX5_isDigit.data.toList.drop 24 = dktX5_isDigit_1 := dk_seg dksX5_isDigit_0 24 rfl rfl
theorem dX5_isDigit_0 : decode cX5_isDigit 0 = .ok (.aload_n 0, 1) := dk_42 (dk_at dksX5_isDigit_0 0 rfl rfl)
theorem dX5_isDigit_1 : decode cX5_isDigit 1 = .ok (.iload_n 1, 1) := dk_27 (dk_at dksX5_isDigit_0 1 rfl rfl)
theorem dX5_isDigit_2 : decode cX5_isDigit 2 = .ok (.invokevirtual 39, 3) := dk_182 0 39 (dk_at dksX5_isDigit_0 2 rfl rfl)
theorem dX5_isDigit_5 : decode cX5_isDigit 5 = .ok (.bipush 48, 2) := dk_16 48 (dk_at dksX5_isDigit_0 5 rfl rfl)
theorem dX5_isDigit_7 : decode cX5_isDigit 7 = .ok (.if_icmp .lt 17, 3) := dk_161 0 17 (dk_at dksX5_isDigit_0 7 rfl rfl)
theorem dX5_isDigit_10 : decode cX5_isDigit 10 = .ok (.aload_n 0, 1) := dk_42 (dk_at dksX5_isDigit_0 10 rfl rfl)
theorem dX5_isDigit_11 : decode cX5_isDigit 11 = .ok (.iload_n 1, 1) := dk_27 (dk_at dksX5_isDigit_0 11 rfl rfl)
theorem dX5_isDigit_12 : decode cX5_isDigit 12 = .ok (.invokevirtual 39, 3) := dk_182 0 39 (dk_at dksX5_isDigit_0 12 rfl rfl)
theorem dX5_isDigit_15 : decode cX5_isDigit 15 = .ok (.bipush 57, 2) := dk_16 57 (dk_at dksX5_isDigit_0 15 rfl rfl)
theorem dX5_isDigit_17 : decode cX5_isDigit 17 = .ok (.if_icmp .gt 7, 3) := dk_163 0 7 (dk_at dksX5_isDigit_0 17 rfl rfl)
theorem dX5_isDigit_20 : decode cX5_isDigit 20 = .ok (.iconst 1, 1) := dk_4 (dk_at dksX5_isDigit_0 20 rfl rfl)
theorem dX5_isDigit_21 : decode cX5_isDigit 21 = .ok (.goto 4, 3) := dk_167 0 4 (dk_at dksX5_isDigit_0 21 rfl rfl)
theorem dX5_isDigit_24 : decode cX5_isDigit 24 = .ok (.iconst 0, 1) := dk_3 (dk_at dksX5_isDigit_1 0 rfl rfl)
theorem dX5_isDigit_25 : decode cX5_isDigit 25 = .ok (.ireturn, 1) := dk_172 (dk_at dksX5_isDigit_1 1 rfl rfl)
abbrev cX5_isSign : ByteArray := prog_15_method_5_code
def yX5_isSign : MethodName := ⟨RX5, "isSign", "(I)Z"⟩
def dkwX5_isSign_2 : List UInt8 := [26, 16, 42, 159, 0, 15, 26, 16, 47, 159, 0, 9, 26, 16, 37, 160, 0, 7, 4, 167, 0, 4, 3, 172]
abbrev dktX5_isSign_2 : List UInt8 := dkwX5_isSign_2 ++ []
def dkwX5_isSign_1 : List UInt8 := [26, 16, 62, 159, 0, 39, 26, 16, 61, 159, 0, 33, 26, 16, 43, 159, 0, 27, 26, 16, 45, 159, 0, 21]
abbrev dktX5_isSign_1 : List UInt8 := dkwX5_isSign_1 ++ dktX5_isSign_2
def dkwX5_isSign_0 : List UInt8 := [26, 16, 59, 159, 0, 63, 26, 16, 40, 159, 0, 57, 26, 16, 41, 159, 0, 51, 26, 16, 60, 159, 0, 45]
abbrev dktX5_isSign_0 : List UInt8 := dkwX5_isSign_0 ++ dktX5_isSign_1
theorem dksX5_isSign_0 : cX5_isSign.data.toList.drop 0 = dktX5_isSign_0 := by decide +kernel
theorem dksX5_isSign_1 : cX5_isSign.data.toList.drop 24 = dktX5_isSign_1 := dk_seg dksX5_isSign_0 24 rfl rfl
theorem dksX5_isSign_2 : cX5_isSign.data.toList.drop 48 = dktX5_isSign_2 := dk_seg dksX5_isSign_1 24 rfl rfl
theorem dX5_isSign_0 : decode cX5_isSign 0 = .ok (.iload_n 0, 1) := dk_26 (dk_at dksX5_isSign_0 0 rfl rfl)
theorem dX5_isSign_1 : decode cX5_isSign 1 = .ok (.bipush 59, 2) := dk_16 59 (dk_at dksX5_isSign_0 1 rfl rfl)
theorem dX5_isSign_3 : decode cX5_isSign 3 = .ok (.if_icmp .eq 63, 3) := dk_159 0 63 (dk_at dksX5_isSign_0 3 rfl rfl)
theorem dX5_isSign_6 : decode cX5_isSign 6 = .ok (.iload_n 0, 1) := dk_26 (dk_at dksX5_isSign_0 6 rfl rfl)
theorem dX5_isSign_7 : decode cX5_isSign 7 = .ok (.bipush 40, 2) := dk_16 40 (dk_at dksX5_isSign_0 7 rfl rfl)
theorem dX5_isSign_9 : decode cX5_isSign 9 = .ok (.if_icmp .eq 57, 3) := dk_159 0 57 (dk_at dksX5_isSign_0 9 rfl rfl)
theorem dX5_isSign_12 : decode cX5_isSign 12 = .ok (.iload_n 0, 1) := dk_26 (dk_at dksX5_isSign_0 12 rfl rfl)
theorem dX5_isSign_13 : decode cX5_isSign 13 = .ok (.bipush 41, 2) := dk_16 41 (dk_at dksX5_isSign_0 13 rfl rfl)
theorem dX5_isSign_15 : decode cX5_isSign 15 = .ok (.if_icmp .eq 51, 3) := dk_159 0 51 (dk_at dksX5_isSign_0 15 rfl rfl)
theorem dX5_isSign_18 : decode cX5_isSign 18 = .ok (.iload_n 0, 1) := dk_26 (dk_at dksX5_isSign_0 18 rfl rfl)
theorem dX5_isSign_19 : decode cX5_isSign 19 = .ok (.bipush 60, 2) := dk_16 60 (dk_at dksX5_isSign_0 19 rfl rfl)
theorem dX5_isSign_21 : decode cX5_isSign 21 = .ok (.if_icmp .eq 45, 3) := dk_159 0 45 (dk_at dksX5_isSign_0 21 rfl rfl)
theorem dX5_isSign_24 : decode cX5_isSign 24 = .ok (.iload_n 0, 1) := dk_26 (dk_at dksX5_isSign_1 0 rfl rfl)
theorem dX5_isSign_25 : decode cX5_isSign 25 = .ok (.bipush 62, 2) := dk_16 62 (dk_at dksX5_isSign_1 1 rfl rfl)
theorem dX5_isSign_27 : decode cX5_isSign 27 = .ok (.if_icmp .eq 39, 3) := dk_159 0 39 (dk_at dksX5_isSign_1 3 rfl rfl)
theorem dX5_isSign_30 : decode cX5_isSign 30 = .ok (.iload_n 0, 1) := dk_26 (dk_at dksX5_isSign_1 6 rfl rfl)
theorem dX5_isSign_31 : decode cX5_isSign 31 = .ok (.bipush 61, 2) := dk_16 61 (dk_at dksX5_isSign_1 7 rfl rfl)
theorem dX5_isSign_33 : decode cX5_isSign 33 = .ok (.if_icmp .eq 33, 3) := dk_159 0 33 (dk_at dksX5_isSign_1 9 rfl rfl)
theorem dX5_isSign_36 : decode cX5_isSign 36 = .ok (.iload_n 0, 1) := dk_26 (dk_at dksX5_isSign_1 12 rfl rfl)
theorem dX5_isSign_37 : decode cX5_isSign 37 = .ok (.bipush 43, 2) := dk_16 43 (dk_at dksX5_isSign_1 13 rfl rfl)
theorem dX5_isSign_39 : decode cX5_isSign 39 = .ok (.if_icmp .eq 27, 3) := dk_159 0 27 (dk_at dksX5_isSign_1 15 rfl rfl)
theorem dX5_isSign_42 : decode cX5_isSign 42 = .ok (.iload_n 0, 1) := dk_26 (dk_at dksX5_isSign_1 18 rfl rfl)
theorem dX5_isSign_43 : decode cX5_isSign 43 = .ok (.bipush 45, 2) := dk_16 45 (dk_at dksX5_isSign_1 19 rfl rfl)
theorem dX5_isSign_45 : decode cX5_isSign 45 = .ok (.if_icmp .eq 21, 3) := dk_159 0 21 (dk_at dksX5_isSign_1 21 rfl rfl)
theorem dX5_isSign_48 : decode cX5_isSign 48 = .ok (.iload_n 0, 1) := dk_26 (dk_at dksX5_isSign_2 0 rfl rfl)
theorem dX5_isSign_49 : decode cX5_isSign 49 = .ok (.bipush 42, 2) := dk_16 42 (dk_at dksX5_isSign_2 1 rfl rfl)
theorem dX5_isSign_51 : decode cX5_isSign 51 = .ok (.if_icmp .eq 15, 3) := dk_159 0 15 (dk_at dksX5_isSign_2 3 rfl rfl)
theorem dX5_isSign_54 : decode cX5_isSign 54 = .ok (.iload_n 0, 1) := dk_26 (dk_at dksX5_isSign_2 6 rfl rfl)
theorem dX5_isSign_55 : decode cX5_isSign 55 = .ok (.bipush 47, 2) := dk_16 47 (dk_at dksX5_isSign_2 7 rfl rfl)
theorem dX5_isSign_57 : decode cX5_isSign 57 = .ok (.if_icmp .eq 9, 3) := dk_159 0 9 (dk_at dksX5_isSign_2 9 rfl rfl)
theorem dX5_isSign_60 : decode cX5_isSign 60 = .ok (.iload_n 0, 1) := dk_26 (dk_at dksX5_isSign_2 12 rfl rfl)
theorem dX5_isSign_61 : decode cX5_isSign 61 = .ok (.bipush 37, 2) := dk_16 37 (dk_at dksX5_isSign_2 13 rfl rfl)
theorem dX5_isSign_63 : decode cX5_isSign 63 = .ok (.if_icmp .ne 7, 3) := dk_160 0 7 (dk_at dksX5_isSign_2 15 rfl rfl)
theorem dX5_isSign_66 : decode cX5_isSign 66 = .ok (.iconst 1, 1) := dk_4 (dk_at dksX5_isSign_2 18 rfl rfl)
theorem dX5_isSign_67 : decode cX5_isSign 67 = .ok (.goto 4, 3) := dk_167 0 4 (dk_at dksX5_isSign_2 19 rfl rfl)
theorem dX5_isSign_70 : decode cX5_isSign 70 = .ok (.iconst 0, 1) := dk_3 (dk_at dksX5_isSign_2 22 rfl rfl)
theorem dX5_isSign_71 : decode cX5_isSign 71 = .ok (.ireturn, 1) := dk_172 (dk_at dksX5_isSign_2 23 rfl rfl)
abbrev cX5_readLine : ByteArray := prog_15_method_16_code
def yX5_readLine : MethodName := ⟨RX5, "readLine", "()V"⟩
def dkwX5_readLine_6 : List UInt8 := [153, 0, 17, 42, 180, 0, 194, 154, 0, 10, 42, 182, 0, 197, 167, 0, 8, 42, 182, 0, 96, 191, 177]
abbrev dktX5_readLine_6 : List UInt8 := dkwX5_readLine_6 ++ []
def dkwX5_readLine_5 : List UInt8 := [153, 0, 17, 42, 180, 0, 188, 154, 0, 10, 42, 182, 0, 191, 167, 0, 31, 42, 18, 130, 182, 0, 86]
abbrev dktX5_readLine_5 : List UInt8 := dkwX5_readLine_5 ++ dktX5_readLine_6
def dkwX5_readLine_4 : List UInt8 := [153, 0, 17, 42, 180, 0, 181, 154, 0, 10, 42, 182, 0, 185, 167, 0, 54, 42, 18, 128, 182, 0, 86]
abbrev dktX5_readLine_4 : List UInt8 := dkwX5_readLine_4 ++ dktX5_readLine_5
def dkwX5_readLine_3 : List UInt8 := [42, 180, 0, 24, 180, 0, 175, 199, 0, 10, 42, 182, 0, 178, 167, 0, 77, 42, 18, 126, 182, 0, 86]
abbrev dktX5_readLine_3 : List UInt8 := dkwX5_readLine_3 ++ dktX5_readLine_4
def dkwX5_readLine_2 : List UInt8 := [182, 0, 161, 16, 6, 162, 0, 10, 42, 182, 0, 172, 167, 0, 103, 42, 18, 124, 182, 0, 86, 153, 0, 20]
abbrev dktX5_readLine_2 : List UInt8 := dkwX5_readLine_2 ++ dktX5_readLine_3
def dkwX5_readLine_1 : List UInt8 := [182, 0, 166, 167, 0, 134, 42, 18, 115, 182, 0, 86, 153, 0, 25, 42, 180, 0, 24, 180, 0, 169]
abbrev dktX5_readLine_1 : List UInt8 := dkwX5_readLine_1 ++ dktX5_readLine_2
def dkwX5_readLine_0 : List UInt8 := [42, 18, 111, 182, 0, 86, 153, 0, 24, 42, 180, 0, 24, 180, 0, 157, 182, 0, 161, 7, 162, 0, 10, 42]
abbrev dktX5_readLine_0 : List UInt8 := dkwX5_readLine_0 ++ dktX5_readLine_1
theorem dksX5_readLine_0 : cX5_readLine.data.toList.drop 0 = dktX5_readLine_0 := by decide +kernel
theorem dksX5_readLine_1 : cX5_readLine.data.toList.drop 24 = dktX5_readLine_1 := dk_seg dksX5_readLine_0 24 rfl rfl
theorem dksX5_readLine_2 : cX5_readLine.data.toList.drop 46 = dktX5_readLine_2 := dk_seg dksX5_readLine_1 22 rfl rfl
theorem dksX5_readLine_3 : cX5_readLine.data.toList.drop 70 = dktX5_readLine_3 := dk_seg dksX5_readLine_2 24 rfl rfl
theorem dksX5_readLine_4 : cX5_readLine.data.toList.drop 93 = dktX5_readLine_4 := dk_seg dksX5_readLine_3 23 rfl rfl
theorem dksX5_readLine_5 : cX5_readLine.data.toList.drop 116 = dktX5_readLine_5 := dk_seg dksX5_readLine_4 23 rfl rfl
theorem dksX5_readLine_6 : cX5_readLine.data.toList.drop 139 = dktX5_readLine_6 := dk_seg dksX5_readLine_5 23 rfl rfl
theorem dX5_readLine_0 : decode cX5_readLine 0 = .ok (.aload_n 0, 1) := dk_42 (dk_at dksX5_readLine_0 0 rfl rfl)
theorem dX5_readLine_1 : decode cX5_readLine 1 = .ok (.ldc 111, 2) := dk_18 111 (dk_at dksX5_readLine_0 1 rfl rfl)
theorem dX5_readLine_3 : decode cX5_readLine 3 = .ok (.invokevirtual 86, 3) := dk_182 0 86 (dk_at dksX5_readLine_0 3 rfl rfl)
theorem dX5_readLine_6 : decode cX5_readLine 6 = .ok (.ifCond .eq 24, 3) := dk_153 0 24 (dk_at dksX5_readLine_0 6 rfl rfl)
theorem dX5_readLine_9 : decode cX5_readLine 9 = .ok (.aload_n 0, 1) := dk_42 (dk_at dksX5_readLine_0 9 rfl rfl)
theorem dX5_readLine_10 : decode cX5_readLine 10 = .ok (.getfield 24, 3) := dk_180 0 24 (dk_at dksX5_readLine_0 10 rfl rfl)
theorem dX5_readLine_13 : decode cX5_readLine 13 = .ok (.getfield 157, 3) := dk_180 0 157 (dk_at dksX5_readLine_0 13 rfl rfl)
theorem dX5_readLine_16 : decode cX5_readLine 16 = .ok (.invokevirtual 161, 3) := dk_182 0 161 (dk_at dksX5_readLine_0 16 rfl rfl)
theorem dX5_readLine_19 : decode cX5_readLine 19 = .ok (.iconst 4, 1) := dk_7 (dk_at dksX5_readLine_0 19 rfl rfl)
theorem dX5_readLine_20 : decode cX5_readLine 20 = .ok (.if_icmp .ge 10, 3) := dk_162 0 10 (dk_at dksX5_readLine_0 20 rfl rfl)
theorem dX5_readLine_23 : decode cX5_readLine 23 = .ok (.aload_n 0, 1) := dk_42 (dk_at dksX5_readLine_0 23 rfl rfl)
theorem dX5_readLine_24 : decode cX5_readLine 24 = .ok (.invokevirtual 166, 3) := dk_182 0 166 (dk_at dksX5_readLine_1 0 rfl rfl)
theorem dX5_readLine_27 : decode cX5_readLine 27 = .ok (.goto 134, 3) := dk_167 0 134 (dk_at dksX5_readLine_1 3 rfl rfl)
theorem dX5_readLine_30 : decode cX5_readLine 30 = .ok (.aload_n 0, 1) := dk_42 (dk_at dksX5_readLine_1 6 rfl rfl)
theorem dX5_readLine_31 : decode cX5_readLine 31 = .ok (.ldc 115, 2) := dk_18 115 (dk_at dksX5_readLine_1 7 rfl rfl)
theorem dX5_readLine_33 : decode cX5_readLine 33 = .ok (.invokevirtual 86, 3) := dk_182 0 86 (dk_at dksX5_readLine_1 9 rfl rfl)
theorem dX5_readLine_36 : decode cX5_readLine 36 = .ok (.ifCond .eq 25, 3) := dk_153 0 25 (dk_at dksX5_readLine_1 12 rfl rfl)
theorem dX5_readLine_39 : decode cX5_readLine 39 = .ok (.aload_n 0, 1) := dk_42 (dk_at dksX5_readLine_1 15 rfl rfl)
theorem dX5_readLine_40 : decode cX5_readLine 40 = .ok (.getfield 24, 3) := dk_180 0 24 (dk_at dksX5_readLine_1 16 rfl rfl)
theorem dX5_readLine_43 : decode cX5_readLine 43 = .ok (.getfield 169, 3) := dk_180 0 169 (dk_at dksX5_readLine_1 19 rfl rfl)
theorem dX5_readLine_46 : decode cX5_readLine 46 = .ok (.invokevirtual 161, 3) := dk_182 0 161 (dk_at dksX5_readLine_2 0 rfl rfl)
theorem dX5_readLine_49 : decode cX5_readLine 49 = .ok (.bipush 6, 2) := dk_16 6 (dk_at dksX5_readLine_2 3 rfl rfl)
theorem dX5_readLine_51 : decode cX5_readLine 51 = .ok (.if_icmp .ge 10, 3) := dk_162 0 10 (dk_at dksX5_readLine_2 5 rfl rfl)
theorem dX5_readLine_54 : decode cX5_readLine 54 = .ok (.aload_n 0, 1) := dk_42 (dk_at dksX5_readLine_2 8 rfl rfl)
theorem dX5_readLine_55 : decode cX5_readLine 55 = .ok (.invokevirtual 172, 3) := dk_182 0 172 (dk_at dksX5_readLine_2 9 rfl rfl)
theorem dX5_readLine_58 : decode cX5_readLine 58 = .ok (.goto 103, 3) := dk_167 0 103 (dk_at dksX5_readLine_2 12 rfl rfl)
theorem dX5_readLine_61 : decode cX5_readLine 61 = .ok (.aload_n 0, 1) := dk_42 (dk_at dksX5_readLine_2 15 rfl rfl)
theorem dX5_readLine_62 : decode cX5_readLine 62 = .ok (.ldc 124, 2) := dk_18 124 (dk_at dksX5_readLine_2 16 rfl rfl)
theorem dX5_readLine_64 : decode cX5_readLine 64 = .ok (.invokevirtual 86, 3) := dk_182 0 86 (dk_at dksX5_readLine_2 18 rfl rfl)
theorem dX5_readLine_67 : decode cX5_readLine 67 = .ok (.ifCond .eq 20, 3) := dk_153 0 20 (dk_at dksX5_readLine_2 21 rfl rfl)
theorem dX5_readLine_70 : decode cX5_readLine 70 = .ok (.aload_n 0, 1) := dk_42 (dk_at dksX5_readLine_3 0 rfl rfl)
theorem dX5_readLine_71 : decode cX5_readLine 71 = .ok (.getfield 24, 3) := dk_180 0 24 (dk_at dksX5_readLine_3 1 rfl rfl)
theorem dX5_readLine_74 : decode cX5_readLine 74 = .ok (.getfield 175, 3) := dk_180 0 175 (dk_at dksX5_readLine_3 4 rfl rfl)
theorem dX5_readLine_77 : decode cX5_readLine 77 = .ok (.ifnonnull 10, 3) := dk_199 0 10 (dk_at dksX5_readLine_3 7 rfl rfl)
theorem dX5_readLine_80 : decode cX5_readLine 80 = .ok (.aload_n 0, 1) := dk_42 (dk_at dksX5_readLine_3 10 rfl rfl)
theorem dX5_readLine_81 : decode cX5_readLine 81 = .ok (.invokevirtual 178, 3) := dk_182 0 178 (dk_at dksX5_readLine_3 11 rfl rfl)
theorem dX5_readLine_84 : decode cX5_readLine 84 = .ok (.goto 77, 3) := dk_167 0 77 (dk_at dksX5_readLine_3 14 rfl rfl)
theorem dX5_readLine_87 : decode cX5_readLine 87 = .ok (.aload_n 0, 1) := dk_42 (dk_at dksX5_readLine_3 17 rfl rfl)
theorem dX5_readLine_88 : decode cX5_readLine 88 = .ok (.ldc 126, 2) := dk_18 126 (dk_at dksX5_readLine_3 18 rfl rfl)
theorem dX5_readLine_90 : decode cX5_readLine 90 = .ok (.invokevirtual 86, 3) := dk_182 0 86 (dk_at dksX5_readLine_3 20 rfl rfl)
theorem dX5_readLine_93 : decode cX5_readLine 93 = .ok (.ifCond .eq 17, 3) := dk_153 0 17 (dk_at dksX5_readLine_4 0 rfl rfl)
theorem dX5_readLine_96 : decode cX5_readLine 96 = .ok (.aload_n 0, 1) := dk_42 (dk_at dksX5_readLine_4 3 rfl rfl)
theorem dX5_readLine_97 : decode cX5_readLine 97 = .ok (.getfield 181, 3) := dk_180 0 181 (dk_at dksX5_readLine_4 4 rfl rfl)
theorem dX5_readLine_100 : decode cX5_readLine 100 = .ok (.ifCond .ne 10, 3) := dk_154 0 10 (dk_at dksX5_readLine_4 7 rfl rfl)
theorem dX5_readLine_103 : decode cX5_readLine 103 = .ok (.aload_n 0, 1) := dk_42 (dk_at dksX5_readLine_4 10 rfl rfl)
theorem dX5_readLine_104 : decode cX5_readLine 104 = .ok (.invokevirtual 185, 3) := dk_182 0 185 (dk_at dksX5_readLine_4 11 rfl rfl)
theorem dX5_readLine_107 : decode cX5_readLine 107 = .ok (.goto 54, 3) := dk_167 0 54 (dk_at dksX5_readLine_4 14 rfl rfl)
theorem dX5_readLine_110 : decode cX5_readLine 110 = .ok (.aload_n 0, 1) := dk_42 (dk_at dksX5_readLine_4 17 rfl rfl)
theorem dX5_readLine_111 : decode cX5_readLine 111 = .ok (.ldc 128, 2) := dk_18 128 (dk_at dksX5_readLine_4 18 rfl rfl)
theorem dX5_readLine_113 : decode cX5_readLine 113 = .ok (.invokevirtual 86, 3) := dk_182 0 86 (dk_at dksX5_readLine_4 20 rfl rfl)
theorem dX5_readLine_116 : decode cX5_readLine 116 = .ok (.ifCond .eq 17, 3) := dk_153 0 17 (dk_at dksX5_readLine_5 0 rfl rfl)
theorem dX5_readLine_119 : decode cX5_readLine 119 = .ok (.aload_n 0, 1) := dk_42 (dk_at dksX5_readLine_5 3 rfl rfl)
theorem dX5_readLine_120 : decode cX5_readLine 120 = .ok (.getfield 188, 3) := dk_180 0 188 (dk_at dksX5_readLine_5 4 rfl rfl)
theorem dX5_readLine_123 : decode cX5_readLine 123 = .ok (.ifCond .ne 10, 3) := dk_154 0 10 (dk_at dksX5_readLine_5 7 rfl rfl)
theorem dX5_readLine_126 : decode cX5_readLine 126 = .ok (.aload_n 0, 1) := dk_42 (dk_at dksX5_readLine_5 10 rfl rfl)
theorem dX5_readLine_127 : decode cX5_readLine 127 = .ok (.invokevirtual 191, 3) := dk_182 0 191 (dk_at dksX5_readLine_5 11 rfl rfl)
theorem dX5_readLine_130 : decode cX5_readLine 130 = .ok (.goto 31, 3) := dk_167 0 31 (dk_at dksX5_readLine_5 14 rfl rfl)
theorem dX5_readLine_133 : decode cX5_readLine 133 = .ok (.aload_n 0, 1) := dk_42 (dk_at dksX5_readLine_5 17 rfl rfl)
theorem dX5_readLine_134 : decode cX5_readLine 134 = .ok (.ldc 130, 2) := dk_18 130 (dk_at dksX5_readLine_5 18 rfl rfl)
theorem dX5_readLine_136 : decode cX5_readLine 136 = .ok (.invokevirtual 86, 3) := dk_182 0 86 (dk_at dksX5_readLine_5 20 rfl rfl)
theorem dX5_readLine_139 : decode cX5_readLine 139 = .ok (.ifCond .eq 17, 3) := dk_153 0 17 (dk_at dksX5_readLine_6 0 rfl rfl)
theorem dX5_readLine_142 : decode cX5_readLine 142 = .ok (.aload_n 0, 1) := dk_42 (dk_at dksX5_readLine_6 3 rfl rfl)
theorem dX5_readLine_143 : decode cX5_readLine 143 = .ok (.getfield 194, 3) := dk_180 0 194 (dk_at dksX5_readLine_6 4 rfl rfl)
theorem dX5_readLine_146 : decode cX5_readLine 146 = .ok (.ifCond .ne 10, 3) := dk_154 0 10 (dk_at dksX5_readLine_6 7 rfl rfl)
theorem dX5_readLine_149 : decode cX5_readLine 149 = .ok (.aload_n 0, 1) := dk_42 (dk_at dksX5_readLine_6 10 rfl rfl)
theorem dX5_readLine_150 : decode cX5_readLine 150 = .ok (.invokevirtual 197, 3) := dk_182 0 197 (dk_at dksX5_readLine_6 11 rfl rfl)
theorem dX5_readLine_153 : decode cX5_readLine 153 = .ok (.goto 8, 3) := dk_167 0 8 (dk_at dksX5_readLine_6 14 rfl rfl)
theorem dX5_readLine_156 : decode cX5_readLine 156 = .ok (.aload_n 0, 1) := dk_42 (dk_at dksX5_readLine_6 17 rfl rfl)
theorem dX5_readLine_157 : decode cX5_readLine 157 = .ok (.invokevirtual 96, 3) := dk_182 0 96 (dk_at dksX5_readLine_6 18 rfl rfl)
theorem dX5_readLine_160 : decode cX5_readLine 160 = .ok (.athrow, 1) := dk_191 (dk_at dksX5_readLine_6 21 rfl rfl)
theorem dX5_readLine_161 : decode cX5_readLine 161 = .ok (.return_, 1) := dk_177 (dk_at dksX5_readLine_6 22 rfl rfl)
abbrev cX5_is : ByteArray := prog_15_method_8_code
def yX5_is : MethodName := ⟨RX5, "is", "(Ljava/lang/String;)Z"⟩
def dkwX5_is_1 : List UInt8 := [172]
abbrev dktX5_is_1 : List UInt8 := dkwX5_is_1 ++ []
def dkwX5_is_0 : List UInt8 := [42, 180, 0, 46, 4, 160, 0, 18, 42, 180, 0, 17, 43, 182, 0, 80, 153, 0, 7, 4, 167, 0, 4, 3]
abbrev dktX5_is_0 : List UInt8 := dkwX5_is_0 ++ dktX5_is_1
theorem dksX5_is_0 : cX5_is.data.toList.drop 0 = dktX5_is_0 := by decide +kernel
theorem dksX5_is_1 : cX5_is.data.toList.drop 24 = dktX5_is_1 := dk_seg dksX5_is_0 24 rfl rfl
theorem dX5_is_0 : decode cX5_is 0 = .ok (.aload_n 0, 1) := dk_42 (dk_at dksX5_is_0 0 rfl rfl)
theorem dX5_is_1 : decode cX5_is 1 = .ok (.getfield 46, 3) := dk_180 0 46 (dk_at dksX5_is_0 1 rfl rfl)
theorem dX5_is_4 : decode cX5_is 4 = .ok (.iconst 1, 1) := dk_4 (dk_at dksX5_is_0 4 rfl rfl)
theorem dX5_is_5 : decode cX5_is 5 = .ok (.if_icmp .ne 18, 3) := dk_160 0 18 (dk_at dksX5_is_0 5 rfl rfl)
theorem dX5_is_8 : decode cX5_is 8 = .ok (.aload_n 0, 1) := dk_42 (dk_at dksX5_is_0 8 rfl rfl)
theorem dX5_is_9 : decode cX5_is 9 = .ok (.getfield 17, 3) := dk_180 0 17 (dk_at dksX5_is_0 9 rfl rfl)
theorem dX5_is_12 : decode cX5_is 12 = .ok (.aload_n 1, 1) := dk_43 (dk_at dksX5_is_0 12 rfl rfl)
theorem dX5_is_13 : decode cX5_is 13 = .ok (.invokevirtual 80, 3) := dk_182 0 80 (dk_at dksX5_is_0 13 rfl rfl)
theorem dX5_is_16 : decode cX5_is 16 = .ok (.ifCond .eq 7, 3) := dk_153 0 7 (dk_at dksX5_is_0 16 rfl rfl)
theorem dX5_is_19 : decode cX5_is 19 = .ok (.iconst 1, 1) := dk_4 (dk_at dksX5_is_0 19 rfl rfl)
theorem dX5_is_20 : decode cX5_is 20 = .ok (.goto 4, 3) := dk_167 0 4 (dk_at dksX5_is_0 20 rfl rfl)
theorem dX5_is_23 : decode cX5_is 23 = .ok (.iconst 0, 1) := dk_3 (dk_at dksX5_is_0 23 rfl rfl)
theorem dX5_is_24 : decode cX5_is 24 = .ok (.ireturn, 1) := dk_172 (dk_at dksX5_is_1 0 rfl rfl)
abbrev cX5_readRoom : ByteArray := prog_15_method_17_code
def yX5_readRoom : MethodName := ⟨RX5, "readRoom", "()V"⟩
def dkwX5_readRoom_1 : List UInt8 := [16, 99, 182, 0, 208, 181, 0, 212, 42, 180, 0, 24, 180, 0, 157, 43, 182, 0, 214, 87, 177]
abbrev dktX5_readRoom_1 : List UInt8 := dkwX5_readRoom_1 ++ []
def dkwX5_readRoom_0 : List UInt8 := [187, 0, 200, 89, 42, 42, 180, 0, 24, 180, 0, 157, 182, 0, 202, 183, 0, 206, 76, 43, 42, 18, 113, 3]
abbrev dktX5_readRoom_0 : List UInt8 := dkwX5_readRoom_0 ++ dktX5_readRoom_1
theorem dksX5_readRoom_0 : cX5_readRoom.data.toList.drop 0 = dktX5_readRoom_0 := by decide +kernel
theorem dksX5_readRoom_1 : cX5_readRoom.data.toList.drop 24 = dktX5_readRoom_1 := dk_seg dksX5_readRoom_0 24 rfl rfl
theorem dX5_readRoom_0 : decode cX5_readRoom 0 = .ok (.new 200, 3) := dk_187 0 200 (dk_at dksX5_readRoom_0 0 rfl rfl)
theorem dX5_readRoom_3 : decode cX5_readRoom 3 = .ok (.dup, 1) := dk_89 (dk_at dksX5_readRoom_0 3 rfl rfl)
theorem dX5_readRoom_4 : decode cX5_readRoom 4 = .ok (.aload_n 0, 1) := dk_42 (dk_at dksX5_readRoom_0 4 rfl rfl)
theorem dX5_readRoom_5 : decode cX5_readRoom 5 = .ok (.aload_n 0, 1) := dk_42 (dk_at dksX5_readRoom_0 5 rfl rfl)
theorem dX5_readRoom_6 : decode cX5_readRoom 6 = .ok (.getfield 24, 3) := dk_180 0 24 (dk_at dksX5_readRoom_0 6 rfl rfl)
theorem dX5_readRoom_9 : decode cX5_readRoom 9 = .ok (.getfield 157, 3) := dk_180 0 157 (dk_at dksX5_readRoom_0 9 rfl rfl)
theorem dX5_readRoom_12 : decode cX5_readRoom 12 = .ok (.invokevirtual 202, 3) := dk_182 0 202 (dk_at dksX5_readRoom_0 12 rfl rfl)
theorem dX5_readRoom_15 : decode cX5_readRoom 15 = .ok (.invokespecial 206, 3) := dk_183 0 206 (dk_at dksX5_readRoom_0 15 rfl rfl)
theorem dX5_readRoom_18 : decode cX5_readRoom 18 = .ok (.astore_n 1, 1) := dk_76 (dk_at dksX5_readRoom_0 18 rfl rfl)
theorem dX5_readRoom_19 : decode cX5_readRoom 19 = .ok (.aload_n 1, 1) := dk_43 (dk_at dksX5_readRoom_0 19 rfl rfl)
theorem dX5_readRoom_20 : decode cX5_readRoom 20 = .ok (.aload_n 0, 1) := dk_42 (dk_at dksX5_readRoom_0 20 rfl rfl)
theorem dX5_readRoom_21 : decode cX5_readRoom 21 = .ok (.ldc 113, 2) := dk_18 113 (dk_at dksX5_readRoom_0 21 rfl rfl)
theorem dX5_readRoom_23 : decode cX5_readRoom 23 = .ok (.iconst 0, 1) := dk_3 (dk_at dksX5_readRoom_0 23 rfl rfl)
theorem dX5_readRoom_24 : decode cX5_readRoom 24 = .ok (.bipush 99, 2) := dk_16 99 (dk_at dksX5_readRoom_1 0 rfl rfl)
theorem dX5_readRoom_26 : decode cX5_readRoom 26 = .ok (.invokevirtual 208, 3) := dk_182 0 208 (dk_at dksX5_readRoom_1 2 rfl rfl)
theorem dX5_readRoom_29 : decode cX5_readRoom 29 = .ok (.putfield 212, 3) := dk_181 0 212 (dk_at dksX5_readRoom_1 5 rfl rfl)
theorem dX5_readRoom_32 : decode cX5_readRoom 32 = .ok (.aload_n 0, 1) := dk_42 (dk_at dksX5_readRoom_1 8 rfl rfl)
theorem dX5_readRoom_33 : decode cX5_readRoom 33 = .ok (.getfield 24, 3) := dk_180 0 24 (dk_at dksX5_readRoom_1 9 rfl rfl)
theorem dX5_readRoom_36 : decode cX5_readRoom 36 = .ok (.getfield 157, 3) := dk_180 0 157 (dk_at dksX5_readRoom_1 12 rfl rfl)
theorem dX5_readRoom_39 : decode cX5_readRoom 39 = .ok (.aload_n 1, 1) := dk_43 (dk_at dksX5_readRoom_1 15 rfl rfl)
theorem dX5_readRoom_40 : decode cX5_readRoom 40 = .ok (.invokevirtual 214, 3) := dk_182 0 214 (dk_at dksX5_readRoom_1 16 rfl rfl)
theorem dX5_readRoom_43 : decode cX5_readRoom 43 = .ok (.pop, 1) := dk_87 (dk_at dksX5_readRoom_1 19 rfl rfl)
theorem dX5_readRoom_44 : decode cX5_readRoom 44 = .ok (.return_, 1) := dk_177 (dk_at dksX5_readRoom_1 20 rfl rfl)
abbrev cX5_newName : ByteArray := prog_15_method_14_code
def yX5_newName : MethodName := ⟨RX5, "newName", "(Ljava/util/ArrayList;)Ljava/lang/String;"⟩
def dkwX5_newName_2 : List UInt8 := [182, 0, 90, 44, 176]
abbrev dktX5_newName_2 : List UInt8 := dkwX5_newName_2 ++ []
def dkwX5_newName_1 : List UInt8 := [155, 0, 16, 187, 0, 75, 89, 6, 42, 180, 0, 43, 183, 0, 77, 191, 42, 180, 0, 17, 77, 42]
abbrev dktX5_newName_1 : List UInt8 := dkwX5_newName_1 ++ dktX5_newName_2
def dkwX5_newName_0 : List UInt8 := [42, 182, 0, 90, 42, 182, 0, 146, 154, 0, 8, 42, 182, 0, 96, 191, 43, 42, 180, 0, 17, 184, 0, 150]
abbrev dktX5_newName_0 : List UInt8 := dkwX5_newName_0 ++ dktX5_newName_1
theorem dksX5_newName_0 : cX5_newName.data.toList.drop 0 = dktX5_newName_0 := by decide +kernel
theorem dksX5_newName_1 : cX5_newName.data.toList.drop 24 = dktX5_newName_1 := dk_seg dksX5_newName_0 24 rfl rfl
theorem dksX5_newName_2 : cX5_newName.data.toList.drop 46 = dktX5_newName_2 := dk_seg dksX5_newName_1 22 rfl rfl
theorem dX5_newName_0 : decode cX5_newName 0 = .ok (.aload_n 0, 1) := dk_42 (dk_at dksX5_newName_0 0 rfl rfl)
theorem dX5_newName_1 : decode cX5_newName 1 = .ok (.invokevirtual 90, 3) := dk_182 0 90 (dk_at dksX5_newName_0 1 rfl rfl)
theorem dX5_newName_4 : decode cX5_newName 4 = .ok (.aload_n 0, 1) := dk_42 (dk_at dksX5_newName_0 4 rfl rfl)
theorem dX5_newName_5 : decode cX5_newName 5 = .ok (.invokevirtual 146, 3) := dk_182 0 146 (dk_at dksX5_newName_0 5 rfl rfl)
theorem dX5_newName_8 : decode cX5_newName 8 = .ok (.ifCond .ne 8, 3) := dk_154 0 8 (dk_at dksX5_newName_0 8 rfl rfl)
theorem dX5_newName_11 : decode cX5_newName 11 = .ok (.aload_n 0, 1) := dk_42 (dk_at dksX5_newName_0 11 rfl rfl)
theorem dX5_newName_12 : decode cX5_newName 12 = .ok (.invokevirtual 96, 3) := dk_182 0 96 (dk_at dksX5_newName_0 12 rfl rfl)
theorem dX5_newName_15 : decode cX5_newName 15 = .ok (.athrow, 1) := dk_191 (dk_at dksX5_newName_0 15 rfl rfl)
theorem dX5_newName_16 : decode cX5_newName 16 = .ok (.aload_n 1, 1) := dk_43 (dk_at dksX5_newName_0 16 rfl rfl)
theorem dX5_newName_17 : decode cX5_newName 17 = .ok (.aload_n 0, 1) := dk_42 (dk_at dksX5_newName_0 17 rfl rfl)
theorem dX5_newName_18 : decode cX5_newName 18 = .ok (.getfield 17, 3) := dk_180 0 17 (dk_at dksX5_newName_0 18 rfl rfl)
theorem dX5_newName_21 : decode cX5_newName 21 = .ok (.invokestatic 150, 3) := dk_184 0 150 (dk_at dksX5_newName_0 21 rfl rfl)
theorem dX5_newName_24 : decode cX5_newName 24 = .ok (.ifCond .lt 16, 3) := dk_155 0 16 (dk_at dksX5_newName_1 0 rfl rfl)
theorem dX5_newName_27 : decode cX5_newName 27 = .ok (.new 75, 3) := dk_187 0 75 (dk_at dksX5_newName_1 3 rfl rfl)
theorem dX5_newName_30 : decode cX5_newName 30 = .ok (.dup, 1) := dk_89 (dk_at dksX5_newName_1 6 rfl rfl)
theorem dX5_newName_31 : decode cX5_newName 31 = .ok (.iconst 3, 1) := dk_6 (dk_at dksX5_newName_1 7 rfl rfl)
theorem dX5_newName_32 : decode cX5_newName 32 = .ok (.aload_n 0, 1) := dk_42 (dk_at dksX5_newName_1 8 rfl rfl)
theorem dX5_newName_33 : decode cX5_newName 33 = .ok (.getfield 43, 3) := dk_180 0 43 (dk_at dksX5_newName_1 9 rfl rfl)
theorem dX5_newName_36 : decode cX5_newName 36 = .ok (.invokespecial 77, 3) := dk_183 0 77 (dk_at dksX5_newName_1 12 rfl rfl)
theorem dX5_newName_39 : decode cX5_newName 39 = .ok (.athrow, 1) := dk_191 (dk_at dksX5_newName_1 15 rfl rfl)
theorem dX5_newName_40 : decode cX5_newName 40 = .ok (.aload_n 0, 1) := dk_42 (dk_at dksX5_newName_1 16 rfl rfl)
theorem dX5_newName_41 : decode cX5_newName 41 = .ok (.getfield 17, 3) := dk_180 0 17 (dk_at dksX5_newName_1 17 rfl rfl)
theorem dX5_newName_44 : decode cX5_newName 44 = .ok (.astore_n 2, 1) := dk_77 (dk_at dksX5_newName_1 20 rfl rfl)
theorem dX5_newName_45 : decode cX5_newName 45 = .ok (.aload_n 0, 1) := dk_42 (dk_at dksX5_newName_1 21 rfl rfl)
theorem dX5_newName_46 : decode cX5_newName 46 = .ok (.invokevirtual 90, 3) := dk_182 0 90 (dk_at dksX5_newName_2 0 rfl rfl)
theorem dX5_newName_49 : decode cX5_newName 49 = .ok (.aload_n 2, 1) := dk_44 (dk_at dksX5_newName_2 3 rfl rfl)
theorem dX5_newName_50 : decode cX5_newName 50 = .ok (.areturn, 1) := dk_176 (dk_at dksX5_newName_2 4 rfl rfl)
abbrev cX5_isName : ByteArray := prog_15_method_13_code
def yX5_isName : MethodName := ⟨RX5, "isName", "()Z"⟩
def dkwX5_isName_15 : List UInt8 := [3, 172, 4, 172]
abbrev dktX5_isName_15 : List UInt8 := dkwX5_isName_15 ++ []
def dkwX5_isName_14 : List UInt8 := [170, 0, 0, 0, 0, 88, 0, 0, 0, 0, 0, 0, 0, 17, 0, 0, 0, 86, 0, 0, 0, 86, 0, 0, 0, 86, 0, 0, 0, 86, 0, 0, 0, 86, 0, 0, 0, 86, 0, 0, 0, 86, 0, 0, 0, 86, 0, 0, 0, 86, 0, 0, 0, 86, 0, 0, 0, 86, 0, 0, 0, 86, 0, 0, 0, 86, 0, 0, 0, 86, 0, 0, 0, 86, 0, 0, 0, 86, 0, 0, 0, 86, 0, 0, 0, 86]
abbrev dktX5_isName_14 : List UInt8 := dkwX5_isName_14 ++ dktX5_isName_15
def dkwX5_isName_13 : List UInt8 := [28]
abbrev dktX5_isName_13 : List UInt8 := dkwX5_isName_13 ++ dktX5_isName_14
def dkwX5_isName_12 : List UInt8 := [182, 0, 80, 153, 0, 21, 16, 16, 61, 167, 0, 15, 43, 18, 144, 182, 0, 80, 153, 0, 6, 16, 17, 61]
abbrev dktX5_isName_12 : List UInt8 := dkwX5_isName_12 ++ dktX5_isName_13
def dkwX5_isName_11 : List UInt8 := [16, 14, 61, 167, 0, 45, 43, 18, 140, 182, 0, 80, 153, 0, 36, 16, 15, 61, 167, 0, 30, 43, 18, 142]
abbrev dktX5_isName_11 : List UInt8 := dkwX5_isName_11 ++ dktX5_isName_12
def dkwX5_isName_10 : List UInt8 := [43, 18, 136, 182, 0, 80, 153, 0, 66, 16, 13, 61, 167, 0, 60, 43, 18, 138, 182, 0, 80, 153, 0, 51]
abbrev dktX5_isName_10 : List UInt8 := dkwX5_isName_10 ++ dktX5_isName_11
def dkwX5_isName_9 : List UInt8 := [153, 0, 96, 16, 11, 61, 167, 0, 90, 43, 18, 134, 182, 0, 80, 153, 0, 81, 16, 12, 61, 167, 0, 75]
abbrev dktX5_isName_9 : List UInt8 := dkwX5_isName_9 ++ dktX5_isName_10
def dkwX5_isName_8 : List UInt8 := [167, 0, 120, 43, 18, 130, 182, 0, 80, 153, 0, 111, 16, 10, 61, 167, 0, 105, 43, 18, 132, 182, 0, 80]
abbrev dktX5_isName_8 : List UInt8 := dkwX5_isName_8 ++ dktX5_isName_9
def dkwX5_isName_7 : List UInt8 := [182, 0, 80, 153, 0, 141, 16, 8, 61, 167, 0, 135, 43, 18, 128, 182, 0, 80, 153, 0, 126, 16, 9, 61]
abbrev dktX5_isName_7 : List UInt8 := dkwX5_isName_7 ++ dktX5_isName_8
def dkwX5_isName_6 : List UInt8 := [61, 167, 0, 165, 43, 18, 124, 182, 0, 80, 153, 0, 156, 16, 7, 61, 167, 0, 150, 43, 18, 126]
abbrev dktX5_isName_6 : List UInt8 := dkwX5_isName_6 ++ dktX5_isName_7
def dkwX5_isName_5 : List UInt8 := [18, 120, 182, 0, 80, 153, 0, 185, 8, 61, 167, 0, 180, 43, 18, 122, 182, 0, 80, 153, 0, 171, 16, 6]
abbrev dktX5_isName_5 : List UInt8 := dkwX5_isName_5 ++ dktX5_isName_6
def dkwX5_isName_4 : List UInt8 := [153, 0, 213, 6, 61, 167, 0, 208, 43, 18, 119, 182, 0, 80, 153, 0, 199, 7, 61, 167, 0, 194, 43]
abbrev dktX5_isName_4 : List UInt8 := dkwX5_isName_4 ++ dktX5_isName_5
def dkwX5_isName_3 : List UInt8 := [61, 167, 0, 236, 43, 18, 115, 182, 0, 80, 153, 0, 227, 5, 61, 167, 0, 222, 43, 18, 117, 182, 0, 80]
abbrev dktX5_isName_3 : List UInt8 := dkwX5_isName_3 ++ dktX5_isName_4
def dkwX5_isName_2 : List UInt8 := [43, 18, 111, 182, 0, 80, 153, 0, 255, 3, 61, 167, 0, 250, 43, 18, 113, 182, 0, 80, 153, 0, 241, 4]
abbrev dktX5_isName_2 : List UInt8 := dkwX5_isName_2 ++ dktX5_isName_3
def dkwX5_isName_1 : List UInt8 := [171, 0, 0, 0, 0, 1, 160, 0, 0, 0, 18, 0, 0, 12, 51, 0, 0, 0, 211, 0, 0, 13, 227, 0, 0, 1, 133, 0, 1, 121, 215, 0, 0, 1, 118, 0, 1, 170, 211, 0, 0, 1, 148, 0, 46, 81, 18, 0, 0, 0, 197, 0, 47, 45, 68, 0, 0, 1, 43, 0, 50, 160, 7, 0, 0, 1, 73, 0, 51, 6, 95, 0, 0, 1, 88, 0, 53, 128, 219, 0, 0, 0, 155, 0, 54, 105, 51, 0, 0, 0, 239, 0, 56, 136, 61, 0, 0, 1, 103, 5, 137, 151, 120, 0, 0, 1, 58, 5, 154, 128, 52, 0, 0, 0, 254, 5, 237, 163, 148, 0, 0, 0, 169, 6, 45, 211, 70, 0, 0, 0, 225, 6, 91, 173, 3, 0, 0, 1, 13, 6, 144, 96, 141, 0, 0, 1, 28, 6, 152, 61, 180, 0, 0, 0, 183]
abbrev dktX5_isName_1 : List UInt8 := dkwX5_isName_1 ++ dktX5_isName_2
def dkwX5_isName_0 : List UInt8 := [42, 180, 0, 46, 4, 159, 0, 5, 3, 172, 42, 180, 0, 17, 76, 2, 61, 43, 182, 0, 107]
abbrev dktX5_isName_0 : List UInt8 := dkwX5_isName_0 ++ dktX5_isName_1
theorem dksX5_isName_0 : cX5_isName.data.toList.drop 0 = dktX5_isName_0 := by decide +kernel
theorem dksX5_isName_1 : cX5_isName.data.toList.drop 21 = dktX5_isName_1 := dk_seg dksX5_isName_0 21 rfl rfl
theorem dksX5_isName_2 : cX5_isName.data.toList.drop 176 = dktX5_isName_2 := dk_seg dksX5_isName_1 155 rfl rfl
theorem dksX5_isName_3 : cX5_isName.data.toList.drop 200 = dktX5_isName_3 := dk_seg dksX5_isName_2 24 rfl rfl
theorem dksX5_isName_4 : cX5_isName.data.toList.drop 224 = dktX5_isName_4 := dk_seg dksX5_isName_3 24 rfl rfl
theorem dksX5_isName_5 : cX5_isName.data.toList.drop 247 = dktX5_isName_5 := dk_seg dksX5_isName_4 23 rfl rfl
theorem dksX5_isName_6 : cX5_isName.data.toList.drop 271 = dktX5_isName_6 := dk_seg dksX5_isName_5 24 rfl rfl
theorem dksX5_isName_7 : cX5_isName.data.toList.drop 293 = dktX5_isName_7 := dk_seg dksX5_isName_6 22 rfl rfl
theorem dksX5_isName_8 : cX5_isName.data.toList.drop 317 = dktX5_isName_8 := dk_seg dksX5_isName_7 24 rfl rfl
theorem dksX5_isName_9 : cX5_isName.data.toList.drop 341 = dktX5_isName_9 := dk_seg dksX5_isName_8 24 rfl rfl
theorem dksX5_isName_10 : cX5_isName.data.toList.drop 365 = dktX5_isName_10 := dk_seg dksX5_isName_9 24 rfl rfl
theorem dksX5_isName_11 : cX5_isName.data.toList.drop 389 = dktX5_isName_11 := dk_seg dksX5_isName_10 24 rfl rfl
theorem dksX5_isName_12 : cX5_isName.data.toList.drop 413 = dktX5_isName_12 := dk_seg dksX5_isName_11 24 rfl rfl
theorem dksX5_isName_13 : cX5_isName.data.toList.drop 437 = dktX5_isName_13 := dk_seg dksX5_isName_12 24 rfl rfl
theorem dksX5_isName_14 : cX5_isName.data.toList.drop 438 = dktX5_isName_14 := dk_seg dksX5_isName_13 1 rfl rfl
theorem dksX5_isName_15 : cX5_isName.data.toList.drop 524 = dktX5_isName_15 := dk_seg dksX5_isName_14 86 rfl rfl
theorem dX5_isName_0 : decode cX5_isName 0 = .ok (.aload_n 0, 1) := dk_42 (dk_at dksX5_isName_0 0 rfl rfl)
theorem dX5_isName_1 : decode cX5_isName 1 = .ok (.getfield 46, 3) := dk_180 0 46 (dk_at dksX5_isName_0 1 rfl rfl)
theorem dX5_isName_4 : decode cX5_isName 4 = .ok (.iconst 1, 1) := dk_4 (dk_at dksX5_isName_0 4 rfl rfl)
theorem dX5_isName_5 : decode cX5_isName 5 = .ok (.if_icmp .eq 5, 3) := dk_159 0 5 (dk_at dksX5_isName_0 5 rfl rfl)
theorem dX5_isName_8 : decode cX5_isName 8 = .ok (.iconst 0, 1) := dk_3 (dk_at dksX5_isName_0 8 rfl rfl)
theorem dX5_isName_9 : decode cX5_isName 9 = .ok (.ireturn, 1) := dk_172 (dk_at dksX5_isName_0 9 rfl rfl)
theorem dX5_isName_10 : decode cX5_isName 10 = .ok (.aload_n 0, 1) := dk_42 (dk_at dksX5_isName_0 10 rfl rfl)
theorem dX5_isName_11 : decode cX5_isName 11 = .ok (.getfield 17, 3) := dk_180 0 17 (dk_at dksX5_isName_0 11 rfl rfl)
theorem dX5_isName_14 : decode cX5_isName 14 = .ok (.astore_n 1, 1) := dk_76 (dk_at dksX5_isName_0 14 rfl rfl)
theorem dX5_isName_15 : decode cX5_isName 15 = .ok (.iconst (-1), 1) := dk_2 (dk_at dksX5_isName_0 15 rfl rfl)
theorem dX5_isName_16 : decode cX5_isName 16 = .ok (.istore_n 2, 1) := dk_61 (dk_at dksX5_isName_0 16 rfl rfl)
theorem dX5_isName_17 : decode cX5_isName 17 = .ok (.aload_n 1, 1) := dk_43 (dk_at dksX5_isName_0 17 rfl rfl)
theorem dX5_isName_18 : decode cX5_isName 18 = .ok (.invokevirtual 107, 3) := dk_182 0 107 (dk_at dksX5_isName_0 18 rfl rfl)
theorem dX5_isName_21 : decode cX5_isName 21 = .ok (.lookupswitch 416 #[(3123, 211), (3555, 389), (96727, 374), (109267, 404), (3035410, 197), (3091780, 299), (3317767, 329), (3343967, 344), (3506395, 155), (3565875, 239), (3704893, 359), (92903288, 314), (94011444, 254), (99459988, 169), (103666502, 225), (106671363, 269), (110125197, 284), (110640564, 183)], 155) := by decide +kernel
theorem dX5_isName_176 : decode cX5_isName 176 = .ok (.aload_n 1, 1) := dk_43 (dk_at dksX5_isName_2 0 rfl rfl)
theorem dX5_isName_177 : decode cX5_isName 177 = .ok (.ldc 111, 2) := dk_18 111 (dk_at dksX5_isName_2 1 rfl rfl)
theorem dX5_isName_179 : decode cX5_isName 179 = .ok (.invokevirtual 80, 3) := dk_182 0 80 (dk_at dksX5_isName_2 3 rfl rfl)
theorem dX5_isName_182 : decode cX5_isName 182 = .ok (.ifCond .eq 255, 3) := dk_153 0 255 (dk_at dksX5_isName_2 6 rfl rfl)
theorem dX5_isName_185 : decode cX5_isName 185 = .ok (.iconst 0, 1) := dk_3 (dk_at dksX5_isName_2 9 rfl rfl)
theorem dX5_isName_186 : decode cX5_isName 186 = .ok (.istore_n 2, 1) := dk_61 (dk_at dksX5_isName_2 10 rfl rfl)
theorem dX5_isName_187 : decode cX5_isName 187 = .ok (.goto 250, 3) := dk_167 0 250 (dk_at dksX5_isName_2 11 rfl rfl)
theorem dX5_isName_190 : decode cX5_isName 190 = .ok (.aload_n 1, 1) := dk_43 (dk_at dksX5_isName_2 14 rfl rfl)
theorem dX5_isName_191 : decode cX5_isName 191 = .ok (.ldc 113, 2) := dk_18 113 (dk_at dksX5_isName_2 15 rfl rfl)
theorem dX5_isName_193 : decode cX5_isName 193 = .ok (.invokevirtual 80, 3) := dk_182 0 80 (dk_at dksX5_isName_2 17 rfl rfl)
theorem dX5_isName_196 : decode cX5_isName 196 = .ok (.ifCond .eq 241, 3) := dk_153 0 241 (dk_at dksX5_isName_2 20 rfl rfl)
theorem dX5_isName_199 : decode cX5_isName 199 = .ok (.iconst 1, 1) := dk_4 (dk_at dksX5_isName_2 23 rfl rfl)
theorem dX5_isName_200 : decode cX5_isName 200 = .ok (.istore_n 2, 1) := dk_61 (dk_at dksX5_isName_3 0 rfl rfl)
theorem dX5_isName_201 : decode cX5_isName 201 = .ok (.goto 236, 3) := dk_167 0 236 (dk_at dksX5_isName_3 1 rfl rfl)
theorem dX5_isName_204 : decode cX5_isName 204 = .ok (.aload_n 1, 1) := dk_43 (dk_at dksX5_isName_3 4 rfl rfl)
theorem dX5_isName_205 : decode cX5_isName 205 = .ok (.ldc 115, 2) := dk_18 115 (dk_at dksX5_isName_3 5 rfl rfl)
theorem dX5_isName_207 : decode cX5_isName 207 = .ok (.invokevirtual 80, 3) := dk_182 0 80 (dk_at dksX5_isName_3 7 rfl rfl)
theorem dX5_isName_210 : decode cX5_isName 210 = .ok (.ifCond .eq 227, 3) := dk_153 0 227 (dk_at dksX5_isName_3 10 rfl rfl)
theorem dX5_isName_213 : decode cX5_isName 213 = .ok (.iconst 2, 1) := dk_5 (dk_at dksX5_isName_3 13 rfl rfl)
theorem dX5_isName_214 : decode cX5_isName 214 = .ok (.istore_n 2, 1) := dk_61 (dk_at dksX5_isName_3 14 rfl rfl)
theorem dX5_isName_215 : decode cX5_isName 215 = .ok (.goto 222, 3) := dk_167 0 222 (dk_at dksX5_isName_3 15 rfl rfl)
theorem dX5_isName_218 : decode cX5_isName 218 = .ok (.aload_n 1, 1) := dk_43 (dk_at dksX5_isName_3 18 rfl rfl)
theorem dX5_isName_219 : decode cX5_isName 219 = .ok (.ldc 117, 2) := dk_18 117 (dk_at dksX5_isName_3 19 rfl rfl)
theorem dX5_isName_221 : decode cX5_isName 221 = .ok (.invokevirtual 80, 3) := dk_182 0 80 (dk_at dksX5_isName_3 21 rfl rfl)
theorem dX5_isName_224 : decode cX5_isName 224 = .ok (.ifCond .eq 213, 3) := dk_153 0 213 (dk_at dksX5_isName_4 0 rfl rfl)
theorem dX5_isName_227 : decode cX5_isName 227 = .ok (.iconst 3, 1) := dk_6 (dk_at dksX5_isName_4 3 rfl rfl)
theorem dX5_isName_228 : decode cX5_isName 228 = .ok (.istore_n 2, 1) := dk_61 (dk_at dksX5_isName_4 4 rfl rfl)
theorem dX5_isName_229 : decode cX5_isName 229 = .ok (.goto 208, 3) := dk_167 0 208 (dk_at dksX5_isName_4 5 rfl rfl)
theorem dX5_isName_232 : decode cX5_isName 232 = .ok (.aload_n 1, 1) := dk_43 (dk_at dksX5_isName_4 8 rfl rfl)
theorem dX5_isName_233 : decode cX5_isName 233 = .ok (.ldc 119, 2) := dk_18 119 (dk_at dksX5_isName_4 9 rfl rfl)
theorem dX5_isName_235 : decode cX5_isName 235 = .ok (.invokevirtual 80, 3) := dk_182 0 80 (dk_at dksX5_isName_4 11 rfl rfl)
theorem dX5_isName_238 : decode cX5_isName 238 = .ok (.ifCond .eq 199, 3) := dk_153 0 199 (dk_at dksX5_isName_4 14 rfl rfl)
theorem dX5_isName_241 : decode cX5_isName 241 = .ok (.iconst 4, 1) := dk_7 (dk_at dksX5_isName_4 17 rfl rfl)
theorem dX5_isName_242 : decode cX5_isName 242 = .ok (.istore_n 2, 1) := dk_61 (dk_at dksX5_isName_4 18 rfl rfl)
theorem dX5_isName_243 : decode cX5_isName 243 = .ok (.goto 194, 3) := dk_167 0 194 (dk_at dksX5_isName_4 19 rfl rfl)
theorem dX5_isName_246 : decode cX5_isName 246 = .ok (.aload_n 1, 1) := dk_43 (dk_at dksX5_isName_4 22 rfl rfl)
theorem dX5_isName_247 : decode cX5_isName 247 = .ok (.ldc 120, 2) := dk_18 120 (dk_at dksX5_isName_5 0 rfl rfl)
theorem dX5_isName_249 : decode cX5_isName 249 = .ok (.invokevirtual 80, 3) := dk_182 0 80 (dk_at dksX5_isName_5 2 rfl rfl)
theorem dX5_isName_252 : decode cX5_isName 252 = .ok (.ifCond .eq 185, 3) := dk_153 0 185 (dk_at dksX5_isName_5 5 rfl rfl)
theorem dX5_isName_255 : decode cX5_isName 255 = .ok (.iconst 5, 1) := dk_8 (dk_at dksX5_isName_5 8 rfl rfl)
theorem dX5_isName_256 : decode cX5_isName 256 = .ok (.istore_n 2, 1) := dk_61 (dk_at dksX5_isName_5 9 rfl rfl)
theorem dX5_isName_257 : decode cX5_isName 257 = .ok (.goto 180, 3) := dk_167 0 180 (dk_at dksX5_isName_5 10 rfl rfl)
theorem dX5_isName_260 : decode cX5_isName 260 = .ok (.aload_n 1, 1) := dk_43 (dk_at dksX5_isName_5 13 rfl rfl)
theorem dX5_isName_261 : decode cX5_isName 261 = .ok (.ldc 122, 2) := dk_18 122 (dk_at dksX5_isName_5 14 rfl rfl)
theorem dX5_isName_263 : decode cX5_isName 263 = .ok (.invokevirtual 80, 3) := dk_182 0 80 (dk_at dksX5_isName_5 16 rfl rfl)
theorem dX5_isName_266 : decode cX5_isName 266 = .ok (.ifCond .eq 171, 3) := dk_153 0 171 (dk_at dksX5_isName_5 19 rfl rfl)
theorem dX5_isName_269 : decode cX5_isName 269 = .ok (.bipush 6, 2) := dk_16 6 (dk_at dksX5_isName_5 22 rfl rfl)
theorem dX5_isName_271 : decode cX5_isName 271 = .ok (.istore_n 2, 1) := dk_61 (dk_at dksX5_isName_6 0 rfl rfl)
theorem dX5_isName_272 : decode cX5_isName 272 = .ok (.goto 165, 3) := dk_167 0 165 (dk_at dksX5_isName_6 1 rfl rfl)
theorem dX5_isName_275 : decode cX5_isName 275 = .ok (.aload_n 1, 1) := dk_43 (dk_at dksX5_isName_6 4 rfl rfl)
theorem dX5_isName_276 : decode cX5_isName 276 = .ok (.ldc 124, 2) := dk_18 124 (dk_at dksX5_isName_6 5 rfl rfl)
theorem dX5_isName_278 : decode cX5_isName 278 = .ok (.invokevirtual 80, 3) := dk_182 0 80 (dk_at dksX5_isName_6 7 rfl rfl)
theorem dX5_isName_281 : decode cX5_isName 281 = .ok (.ifCond .eq 156, 3) := dk_153 0 156 (dk_at dksX5_isName_6 10 rfl rfl)
theorem dX5_isName_284 : decode cX5_isName 284 = .ok (.bipush 7, 2) := dk_16 7 (dk_at dksX5_isName_6 13 rfl rfl)
theorem dX5_isName_286 : decode cX5_isName 286 = .ok (.istore_n 2, 1) := dk_61 (dk_at dksX5_isName_6 15 rfl rfl)
theorem dX5_isName_287 : decode cX5_isName 287 = .ok (.goto 150, 3) := dk_167 0 150 (dk_at dksX5_isName_6 16 rfl rfl)
theorem dX5_isName_290 : decode cX5_isName 290 = .ok (.aload_n 1, 1) := dk_43 (dk_at dksX5_isName_6 19 rfl rfl)
theorem dX5_isName_291 : decode cX5_isName 291 = .ok (.ldc 126, 2) := dk_18 126 (dk_at dksX5_isName_6 20 rfl rfl)
theorem dX5_isName_293 : decode cX5_isName 293 = .ok (.invokevirtual 80, 3) := dk_182 0 80 (dk_at dksX5_isName_7 0 rfl rfl)
theorem dX5_isName_296 : decode cX5_isName 296 = .ok (.ifCond .eq 141, 3) := dk_153 0 141 (dk_at dksX5_isName_7 3 rfl rfl)
theorem dX5_isName_299 : decode cX5_isName 299 = .ok (.bipush 8, 2) := dk_16 8 (dk_at dksX5_isName_7 6 rfl rfl)
theorem dX5_isName_301 : decode cX5_isName 301 = .ok (.istore_n 2, 1) := dk_61 (dk_at dksX5_isName_7 8 rfl rfl)
theorem dX5_isName_302 : decode cX5_isName 302 = .ok (.goto 135, 3) := dk_167 0 135 (dk_at dksX5_isName_7 9 rfl rfl)
theorem dX5_isName_305 : decode cX5_isName 305 = .ok (.aload_n 1, 1) := dk_43 (dk_at dksX5_isName_7 12 rfl rfl)
theorem dX5_isName_306 : decode cX5_isName 306 = .ok (.ldc 128, 2) := dk_18 128 (dk_at dksX5_isName_7 13 rfl rfl)
theorem dX5_isName_308 : decode cX5_isName 308 = .ok (.invokevirtual 80, 3) := dk_182 0 80 (dk_at dksX5_isName_7 15 rfl rfl)
theorem dX5_isName_311 : decode cX5_isName 311 = .ok (.ifCond .eq 126, 3) := dk_153 0 126 (dk_at dksX5_isName_7 18 rfl rfl)
theorem dX5_isName_314 : decode cX5_isName 314 = .ok (.bipush 9, 2) := dk_16 9 (dk_at dksX5_isName_7 21 rfl rfl)
theorem dX5_isName_316 : decode cX5_isName 316 = .ok (.istore_n 2, 1) := dk_61 (dk_at dksX5_isName_7 23 rfl rfl)
theorem dX5_isName_317 : decode cX5_isName 317 = .ok (.goto 120, 3) := dk_167 0 120 (dk_at dksX5_isName_8 0 rfl rfl)
theorem dX5_isName_320 : decode cX5_isName 320 = .ok (.aload_n 1, 1) := dk_43 (dk_at dksX5_isName_8 3 rfl rfl)
theorem dX5_isName_321 : decode cX5_isName 321 = .ok (.ldc 130, 2) := dk_18 130 (dk_at dksX5_isName_8 4 rfl rfl)
theorem dX5_isName_323 : decode cX5_isName 323 = .ok (.invokevirtual 80, 3) := dk_182 0 80 (dk_at dksX5_isName_8 6 rfl rfl)
theorem dX5_isName_326 : decode cX5_isName 326 = .ok (.ifCond .eq 111, 3) := dk_153 0 111 (dk_at dksX5_isName_8 9 rfl rfl)
theorem dX5_isName_329 : decode cX5_isName 329 = .ok (.bipush 10, 2) := dk_16 10 (dk_at dksX5_isName_8 12 rfl rfl)
theorem dX5_isName_331 : decode cX5_isName 331 = .ok (.istore_n 2, 1) := dk_61 (dk_at dksX5_isName_8 14 rfl rfl)
theorem dX5_isName_332 : decode cX5_isName 332 = .ok (.goto 105, 3) := dk_167 0 105 (dk_at dksX5_isName_8 15 rfl rfl)
theorem dX5_isName_335 : decode cX5_isName 335 = .ok (.aload_n 1, 1) := dk_43 (dk_at dksX5_isName_8 18 rfl rfl)
theorem dX5_isName_336 : decode cX5_isName 336 = .ok (.ldc 132, 2) := dk_18 132 (dk_at dksX5_isName_8 19 rfl rfl)
theorem dX5_isName_338 : decode cX5_isName 338 = .ok (.invokevirtual 80, 3) := dk_182 0 80 (dk_at dksX5_isName_8 21 rfl rfl)
theorem dX5_isName_341 : decode cX5_isName 341 = .ok (.ifCond .eq 96, 3) := dk_153 0 96 (dk_at dksX5_isName_9 0 rfl rfl)
theorem dX5_isName_344 : decode cX5_isName 344 = .ok (.bipush 11, 2) := dk_16 11 (dk_at dksX5_isName_9 3 rfl rfl)
theorem dX5_isName_346 : decode cX5_isName 346 = .ok (.istore_n 2, 1) := dk_61 (dk_at dksX5_isName_9 5 rfl rfl)
theorem dX5_isName_347 : decode cX5_isName 347 = .ok (.goto 90, 3) := dk_167 0 90 (dk_at dksX5_isName_9 6 rfl rfl)
theorem dX5_isName_350 : decode cX5_isName 350 = .ok (.aload_n 1, 1) := dk_43 (dk_at dksX5_isName_9 9 rfl rfl)
theorem dX5_isName_351 : decode cX5_isName 351 = .ok (.ldc 134, 2) := dk_18 134 (dk_at dksX5_isName_9 10 rfl rfl)
theorem dX5_isName_353 : decode cX5_isName 353 = .ok (.invokevirtual 80, 3) := dk_182 0 80 (dk_at dksX5_isName_9 12 rfl rfl)
theorem dX5_isName_356 : decode cX5_isName 356 = .ok (.ifCond .eq 81, 3) := dk_153 0 81 (dk_at dksX5_isName_9 15 rfl rfl)
theorem dX5_isName_359 : decode cX5_isName 359 = .ok (.bipush 12, 2) := dk_16 12 (dk_at dksX5_isName_9 18 rfl rfl)
theorem dX5_isName_361 : decode cX5_isName 361 = .ok (.istore_n 2, 1) := dk_61 (dk_at dksX5_isName_9 20 rfl rfl)
theorem dX5_isName_362 : decode cX5_isName 362 = .ok (.goto 75, 3) := dk_167 0 75 (dk_at dksX5_isName_9 21 rfl rfl)
theorem dX5_isName_365 : decode cX5_isName 365 = .ok (.aload_n 1, 1) := dk_43 (dk_at dksX5_isName_10 0 rfl rfl)
theorem dX5_isName_366 : decode cX5_isName 366 = .ok (.ldc 136, 2) := dk_18 136 (dk_at dksX5_isName_10 1 rfl rfl)
theorem dX5_isName_368 : decode cX5_isName 368 = .ok (.invokevirtual 80, 3) := dk_182 0 80 (dk_at dksX5_isName_10 3 rfl rfl)
theorem dX5_isName_371 : decode cX5_isName 371 = .ok (.ifCond .eq 66, 3) := dk_153 0 66 (dk_at dksX5_isName_10 6 rfl rfl)
theorem dX5_isName_374 : decode cX5_isName 374 = .ok (.bipush 13, 2) := dk_16 13 (dk_at dksX5_isName_10 9 rfl rfl)
theorem dX5_isName_376 : decode cX5_isName 376 = .ok (.istore_n 2, 1) := dk_61 (dk_at dksX5_isName_10 11 rfl rfl)
theorem dX5_isName_377 : decode cX5_isName 377 = .ok (.goto 60, 3) := dk_167 0 60 (dk_at dksX5_isName_10 12 rfl rfl)
theorem dX5_isName_380 : decode cX5_isName 380 = .ok (.aload_n 1, 1) := dk_43 (dk_at dksX5_isName_10 15 rfl rfl)
theorem dX5_isName_381 : decode cX5_isName 381 = .ok (.ldc 138, 2) := dk_18 138 (dk_at dksX5_isName_10 16 rfl rfl)
theorem dX5_isName_383 : decode cX5_isName 383 = .ok (.invokevirtual 80, 3) := dk_182 0 80 (dk_at dksX5_isName_10 18 rfl rfl)
theorem dX5_isName_386 : decode cX5_isName 386 = .ok (.ifCond .eq 51, 3) := dk_153 0 51 (dk_at dksX5_isName_10 21 rfl rfl)
theorem dX5_isName_389 : decode cX5_isName 389 = .ok (.bipush 14, 2) := dk_16 14 (dk_at dksX5_isName_11 0 rfl rfl)
theorem dX5_isName_391 : decode cX5_isName 391 = .ok (.istore_n 2, 1) := dk_61 (dk_at dksX5_isName_11 2 rfl rfl)
theorem dX5_isName_392 : decode cX5_isName 392 = .ok (.goto 45, 3) := dk_167 0 45 (dk_at dksX5_isName_11 3 rfl rfl)
theorem dX5_isName_395 : decode cX5_isName 395 = .ok (.aload_n 1, 1) := dk_43 (dk_at dksX5_isName_11 6 rfl rfl)
theorem dX5_isName_396 : decode cX5_isName 396 = .ok (.ldc 140, 2) := dk_18 140 (dk_at dksX5_isName_11 7 rfl rfl)
theorem dX5_isName_398 : decode cX5_isName 398 = .ok (.invokevirtual 80, 3) := dk_182 0 80 (dk_at dksX5_isName_11 9 rfl rfl)
theorem dX5_isName_401 : decode cX5_isName 401 = .ok (.ifCond .eq 36, 3) := dk_153 0 36 (dk_at dksX5_isName_11 12 rfl rfl)
theorem dX5_isName_404 : decode cX5_isName 404 = .ok (.bipush 15, 2) := dk_16 15 (dk_at dksX5_isName_11 15 rfl rfl)
theorem dX5_isName_406 : decode cX5_isName 406 = .ok (.istore_n 2, 1) := dk_61 (dk_at dksX5_isName_11 17 rfl rfl)
theorem dX5_isName_407 : decode cX5_isName 407 = .ok (.goto 30, 3) := dk_167 0 30 (dk_at dksX5_isName_11 18 rfl rfl)
theorem dX5_isName_410 : decode cX5_isName 410 = .ok (.aload_n 1, 1) := dk_43 (dk_at dksX5_isName_11 21 rfl rfl)
theorem dX5_isName_411 : decode cX5_isName 411 = .ok (.ldc 142, 2) := dk_18 142 (dk_at dksX5_isName_11 22 rfl rfl)
theorem dX5_isName_413 : decode cX5_isName 413 = .ok (.invokevirtual 80, 3) := dk_182 0 80 (dk_at dksX5_isName_12 0 rfl rfl)
theorem dX5_isName_416 : decode cX5_isName 416 = .ok (.ifCond .eq 21, 3) := dk_153 0 21 (dk_at dksX5_isName_12 3 rfl rfl)
theorem dX5_isName_419 : decode cX5_isName 419 = .ok (.bipush 16, 2) := dk_16 16 (dk_at dksX5_isName_12 6 rfl rfl)
theorem dX5_isName_421 : decode cX5_isName 421 = .ok (.istore_n 2, 1) := dk_61 (dk_at dksX5_isName_12 8 rfl rfl)
theorem dX5_isName_422 : decode cX5_isName 422 = .ok (.goto 15, 3) := dk_167 0 15 (dk_at dksX5_isName_12 9 rfl rfl)
theorem dX5_isName_425 : decode cX5_isName 425 = .ok (.aload_n 1, 1) := dk_43 (dk_at dksX5_isName_12 12 rfl rfl)
theorem dX5_isName_426 : decode cX5_isName 426 = .ok (.ldc 144, 2) := dk_18 144 (dk_at dksX5_isName_12 13 rfl rfl)
theorem dX5_isName_428 : decode cX5_isName 428 = .ok (.invokevirtual 80, 3) := dk_182 0 80 (dk_at dksX5_isName_12 15 rfl rfl)
theorem dX5_isName_431 : decode cX5_isName 431 = .ok (.ifCond .eq 6, 3) := dk_153 0 6 (dk_at dksX5_isName_12 18 rfl rfl)
theorem dX5_isName_434 : decode cX5_isName 434 = .ok (.bipush 17, 2) := dk_16 17 (dk_at dksX5_isName_12 21 rfl rfl)
theorem dX5_isName_436 : decode cX5_isName 436 = .ok (.istore_n 2, 1) := dk_61 (dk_at dksX5_isName_12 23 rfl rfl)
theorem dX5_isName_437 : decode cX5_isName 437 = .ok (.iload_n 2, 1) := dk_28 (dk_at dksX5_isName_13 0 rfl rfl)
theorem dX5_isName_438 : decode cX5_isName 438 = .ok (.tableswitch 88 0 17 #[86, 86, 86, 86, 86, 86, 86, 86, 86, 86, 86, 86, 86, 86, 86, 86, 86, 86], 86) := by decide +kernel
theorem dX5_isName_524 : decode cX5_isName 524 = .ok (.iconst 0, 1) := dk_3 (dk_at dksX5_isName_15 0 rfl rfl)
theorem dX5_isName_525 : decode cX5_isName 525 = .ok (.ireturn, 1) := dk_172 (dk_at dksX5_isName_15 1 rfl rfl)
theorem dX5_isName_526 : decode cX5_isName 526 = .ok (.iconst 1, 1) := dk_4 (dk_at dksX5_isName_15 2 rfl rfl)
theorem dX5_isName_527 : decode cX5_isName 527 = .ok (.ireturn, 1) := dk_172 (dk_at dksX5_isName_15 3 rfl rfl)
abbrev cX5_wrong : ByteArray := prog_15_method_7_code
def yX5_wrong : MethodName := ⟨RX5, "wrong", "()LTrunkLitters$Wrong;"⟩
def dkwX5_wrong_1 : List UInt8 := [176]
abbrev dktX5_wrong_1 : List UInt8 := dkwX5_wrong_1 ++ []
def dkwX5_wrong_0 : List UInt8 := [187, 0, 75, 89, 42, 180, 0, 46, 6, 160, 0, 7, 4, 167, 0, 4, 5, 42, 180, 0, 43, 183, 0, 77]
abbrev dktX5_wrong_0 : List UInt8 := dkwX5_wrong_0 ++ dktX5_wrong_1
theorem dksX5_wrong_0 : cX5_wrong.data.toList.drop 0 = dktX5_wrong_0 := by decide +kernel
theorem dksX5_wrong_1 : cX5_wrong.data.toList.drop 24 = dktX5_wrong_1 := dk_seg dksX5_wrong_0 24 rfl rfl
theorem dX5_wrong_0 : decode cX5_wrong 0 = .ok (.new 75, 3) := dk_187 0 75 (dk_at dksX5_wrong_0 0 rfl rfl)
theorem dX5_wrong_3 : decode cX5_wrong 3 = .ok (.dup, 1) := dk_89 (dk_at dksX5_wrong_0 3 rfl rfl)
theorem dX5_wrong_4 : decode cX5_wrong 4 = .ok (.aload_n 0, 1) := dk_42 (dk_at dksX5_wrong_0 4 rfl rfl)
theorem dX5_wrong_5 : decode cX5_wrong 5 = .ok (.getfield 46, 3) := dk_180 0 46 (dk_at dksX5_wrong_0 5 rfl rfl)
theorem dX5_wrong_8 : decode cX5_wrong 8 = .ok (.iconst 3, 1) := dk_6 (dk_at dksX5_wrong_0 8 rfl rfl)
theorem dX5_wrong_9 : decode cX5_wrong 9 = .ok (.if_icmp .ne 7, 3) := dk_160 0 7 (dk_at dksX5_wrong_0 9 rfl rfl)
theorem dX5_wrong_12 : decode cX5_wrong 12 = .ok (.iconst 1, 1) := dk_4 (dk_at dksX5_wrong_0 12 rfl rfl)
theorem dX5_wrong_13 : decode cX5_wrong 13 = .ok (.goto 4, 3) := dk_167 0 4 (dk_at dksX5_wrong_0 13 rfl rfl)
theorem dX5_wrong_16 : decode cX5_wrong 16 = .ok (.iconst 2, 1) := dk_5 (dk_at dksX5_wrong_0 16 rfl rfl)
theorem dX5_wrong_17 : decode cX5_wrong 17 = .ok (.aload_n 0, 1) := dk_42 (dk_at dksX5_wrong_0 17 rfl rfl)
theorem dX5_wrong_18 : decode cX5_wrong 18 = .ok (.getfield 43, 3) := dk_180 0 43 (dk_at dksX5_wrong_0 18 rfl rfl)
theorem dX5_wrong_21 : decode cX5_wrong 21 = .ok (.invokespecial 77, 3) := dk_183 0 77 (dk_at dksX5_wrong_0 21 rfl rfl)
theorem dX5_wrong_24 : decode cX5_wrong 24 = .ok (.areturn, 1) := dk_176 (dk_at dksX5_wrong_1 0 rfl rfl)
abbrev cX5_numberBy : ByteArray := prog_15_method_12_code
def yX5_numberBy : MethodName := ⟨RX5, "numberBy", "(Ljava/lang/String;II)I"⟩
def dkwX5_numberBy_0 : List UInt8 := [42, 43, 182, 0, 100, 42, 28, 29, 182, 0, 104, 172]
abbrev dktX5_numberBy_0 : List UInt8 := dkwX5_numberBy_0 ++ []
theorem dksX5_numberBy_0 : cX5_numberBy.data.toList.drop 0 = dktX5_numberBy_0 := by decide +kernel
theorem dX5_numberBy_0 : decode cX5_numberBy 0 = .ok (.aload_n 0, 1) := dk_42 (dk_at dksX5_numberBy_0 0 rfl rfl)
theorem dX5_numberBy_1 : decode cX5_numberBy 1 = .ok (.aload_n 1, 1) := dk_43 (dk_at dksX5_numberBy_0 1 rfl rfl)
theorem dX5_numberBy_2 : decode cX5_numberBy 2 = .ok (.invokevirtual 100, 3) := dk_182 0 100 (dk_at dksX5_numberBy_0 2 rfl rfl)
theorem dX5_numberBy_5 : decode cX5_numberBy 5 = .ok (.aload_n 0, 1) := dk_42 (dk_at dksX5_numberBy_0 5 rfl rfl)
theorem dX5_numberBy_6 : decode cX5_numberBy 6 = .ok (.iload_n 2, 1) := dk_28 (dk_at dksX5_numberBy_0 6 rfl rfl)
theorem dX5_numberBy_7 : decode cX5_numberBy 7 = .ok (.iload_n 3, 1) := dk_29 (dk_at dksX5_numberBy_0 7 rfl rfl)
theorem dX5_numberBy_8 : decode cX5_numberBy 8 = .ok (.invokevirtual 104, 3) := dk_182 0 104 (dk_at dksX5_numberBy_0 8 rfl rfl)
theorem dX5_numberBy_11 : decode cX5_numberBy 11 = .ok (.ireturn, 1) := dk_172 (dk_at dksX5_numberBy_0 11 rfl rfl)
abbrev cX5_key : ByteArray := prog_15_method_10_code
def yX5_key : MethodName := ⟨RX5, "key", "(Ljava/lang/String;)V"⟩
def dkwX5_key_0 : List UInt8 := [42, 43, 182, 0, 93, 154, 0, 8, 42, 182, 0, 96, 191, 177]
abbrev dktX5_key_0 : List UInt8 := dkwX5_key_0 ++ []
theorem dksX5_key_0 : cX5_key.data.toList.drop 0 = dktX5_key_0 := by decide +kernel
theorem dX5_key_0 : decode cX5_key 0 = .ok (.aload_n 0, 1) := dk_42 (dk_at dksX5_key_0 0 rfl rfl)
theorem dX5_key_1 : decode cX5_key 1 = .ok (.aload_n 1, 1) := dk_43 (dk_at dksX5_key_0 1 rfl rfl)
theorem dX5_key_2 : decode cX5_key 2 = .ok (.invokevirtual 93, 3) := dk_182 0 93 (dk_at dksX5_key_0 2 rfl rfl)
theorem dX5_key_5 : decode cX5_key 5 = .ok (.ifCond .ne 8, 3) := dk_154 0 8 (dk_at dksX5_key_0 5 rfl rfl)
theorem dX5_key_8 : decode cX5_key 8 = .ok (.aload_n 0, 1) := dk_42 (dk_at dksX5_key_0 8 rfl rfl)
theorem dX5_key_9 : decode cX5_key 9 = .ok (.invokevirtual 96, 3) := dk_182 0 96 (dk_at dksX5_key_0 9 rfl rfl)
theorem dX5_key_12 : decode cX5_key 12 = .ok (.athrow, 1) := dk_191 (dk_at dksX5_key_0 12 rfl rfl)
theorem dX5_key_13 : decode cX5_key 13 = .ok (.return_, 1) := dk_177 (dk_at dksX5_key_0 13 rfl rfl)
abbrev cX5_takes : ByteArray := prog_15_method_9_code
def yX5_takes : MethodName := ⟨RX5, "takes", "(Ljava/lang/String;)Z"⟩
def dkwX5_takes_0 : List UInt8 := [42, 43, 182, 0, 86, 61, 28, 153, 0, 7, 42, 182, 0, 90, 28, 172]
abbrev dktX5_takes_0 : List UInt8 := dkwX5_takes_0 ++ []
theorem dksX5_takes_0 : cX5_takes.data.toList.drop 0 = dktX5_takes_0 := by decide +kernel
theorem dX5_takes_0 : decode cX5_takes 0 = .ok (.aload_n 0, 1) := dk_42 (dk_at dksX5_takes_0 0 rfl rfl)
theorem dX5_takes_1 : decode cX5_takes 1 = .ok (.aload_n 1, 1) := dk_43 (dk_at dksX5_takes_0 1 rfl rfl)
theorem dX5_takes_2 : decode cX5_takes 2 = .ok (.invokevirtual 86, 3) := dk_182 0 86 (dk_at dksX5_takes_0 2 rfl rfl)
theorem dX5_takes_5 : decode cX5_takes 5 = .ok (.istore_n 2, 1) := dk_61 (dk_at dksX5_takes_0 5 rfl rfl)
theorem dX5_takes_6 : decode cX5_takes 6 = .ok (.iload_n 2, 1) := dk_28 (dk_at dksX5_takes_0 6 rfl rfl)
theorem dX5_takes_7 : decode cX5_takes 7 = .ok (.ifCond .eq 7, 3) := dk_153 0 7 (dk_at dksX5_takes_0 7 rfl rfl)
theorem dX5_takes_10 : decode cX5_takes 10 = .ok (.aload_n 0, 1) := dk_42 (dk_at dksX5_takes_0 10 rfl rfl)
theorem dX5_takes_11 : decode cX5_takes 11 = .ok (.invokevirtual 90, 3) := dk_182 0 90 (dk_at dksX5_takes_0 11 rfl rfl)
theorem dX5_takes_14 : decode cX5_takes 14 = .ok (.iload_n 2, 1) := dk_28 (dk_at dksX5_takes_0 14 rfl rfl)
theorem dX5_takes_15 : decode cX5_takes 15 = .ok (.ireturn, 1) := dk_172 (dk_at dksX5_takes_0 15 rfl rfl)
abbrev cX5_number : ByteArray := prog_15_method_11_code
def yX5_number : MethodName := ⟨RX5, "number", "(II)I"⟩
def dkwX5_number_2 : List UInt8 := [62, 42, 182, 0, 90, 29, 172]
abbrev dktX5_number_2 : List UInt8 := dkwX5_number_2 ++ []
def dkwX5_number_1 : List UInt8 := [180, 0, 69, 28, 164, 0, 16, 187, 0, 75, 89, 7, 42, 180, 0, 43, 183, 0, 77, 191, 42, 180, 0, 69]
abbrev dktX5_number_1 : List UInt8 := dkwX5_number_1 ++ dktX5_number_2
def dkwX5_number_0 : List UInt8 := [42, 180, 0, 46, 5, 159, 0, 8, 42, 182, 0, 96, 191, 42, 180, 0, 69, 27, 161, 0, 11, 42]
abbrev dktX5_number_0 : List UInt8 := dkwX5_number_0 ++ dktX5_number_1
theorem dksX5_number_0 : cX5_number.data.toList.drop 0 = dktX5_number_0 := by decide +kernel
theorem dksX5_number_1 : cX5_number.data.toList.drop 22 = dktX5_number_1 := dk_seg dksX5_number_0 22 rfl rfl
theorem dksX5_number_2 : cX5_number.data.toList.drop 46 = dktX5_number_2 := dk_seg dksX5_number_1 24 rfl rfl
theorem dX5_number_0 : decode cX5_number 0 = .ok (.aload_n 0, 1) := dk_42 (dk_at dksX5_number_0 0 rfl rfl)
theorem dX5_number_1 : decode cX5_number 1 = .ok (.getfield 46, 3) := dk_180 0 46 (dk_at dksX5_number_0 1 rfl rfl)
theorem dX5_number_4 : decode cX5_number 4 = .ok (.iconst 2, 1) := dk_5 (dk_at dksX5_number_0 4 rfl rfl)
theorem dX5_number_5 : decode cX5_number 5 = .ok (.if_icmp .eq 8, 3) := dk_159 0 8 (dk_at dksX5_number_0 5 rfl rfl)
theorem dX5_number_8 : decode cX5_number 8 = .ok (.aload_n 0, 1) := dk_42 (dk_at dksX5_number_0 8 rfl rfl)
theorem dX5_number_9 : decode cX5_number 9 = .ok (.invokevirtual 96, 3) := dk_182 0 96 (dk_at dksX5_number_0 9 rfl rfl)
theorem dX5_number_12 : decode cX5_number 12 = .ok (.athrow, 1) := dk_191 (dk_at dksX5_number_0 12 rfl rfl)
theorem dX5_number_13 : decode cX5_number 13 = .ok (.aload_n 0, 1) := dk_42 (dk_at dksX5_number_0 13 rfl rfl)
theorem dX5_number_14 : decode cX5_number 14 = .ok (.getfield 69, 3) := dk_180 0 69 (dk_at dksX5_number_0 14 rfl rfl)
theorem dX5_number_17 : decode cX5_number 17 = .ok (.iload_n 1, 1) := dk_27 (dk_at dksX5_number_0 17 rfl rfl)
theorem dX5_number_18 : decode cX5_number 18 = .ok (.if_icmp .lt 11, 3) := dk_161 0 11 (dk_at dksX5_number_0 18 rfl rfl)
theorem dX5_number_21 : decode cX5_number 21 = .ok (.aload_n 0, 1) := dk_42 (dk_at dksX5_number_0 21 rfl rfl)
theorem dX5_number_22 : decode cX5_number 22 = .ok (.getfield 69, 3) := dk_180 0 69 (dk_at dksX5_number_1 0 rfl rfl)
theorem dX5_number_25 : decode cX5_number 25 = .ok (.iload_n 2, 1) := dk_28 (dk_at dksX5_number_1 3 rfl rfl)
theorem dX5_number_26 : decode cX5_number 26 = .ok (.if_icmp .le 16, 3) := dk_164 0 16 (dk_at dksX5_number_1 4 rfl rfl)
theorem dX5_number_29 : decode cX5_number 29 = .ok (.new 75, 3) := dk_187 0 75 (dk_at dksX5_number_1 7 rfl rfl)
theorem dX5_number_32 : decode cX5_number 32 = .ok (.dup, 1) := dk_89 (dk_at dksX5_number_1 10 rfl rfl)
theorem dX5_number_33 : decode cX5_number 33 = .ok (.iconst 4, 1) := dk_7 (dk_at dksX5_number_1 11 rfl rfl)
theorem dX5_number_34 : decode cX5_number 34 = .ok (.aload_n 0, 1) := dk_42 (dk_at dksX5_number_1 12 rfl rfl)
theorem dX5_number_35 : decode cX5_number 35 = .ok (.getfield 43, 3) := dk_180 0 43 (dk_at dksX5_number_1 13 rfl rfl)
theorem dX5_number_38 : decode cX5_number 38 = .ok (.invokespecial 77, 3) := dk_183 0 77 (dk_at dksX5_number_1 16 rfl rfl)
theorem dX5_number_41 : decode cX5_number 41 = .ok (.athrow, 1) := dk_191 (dk_at dksX5_number_1 19 rfl rfl)
theorem dX5_number_42 : decode cX5_number 42 = .ok (.aload_n 0, 1) := dk_42 (dk_at dksX5_number_1 20 rfl rfl)
theorem dX5_number_43 : decode cX5_number 43 = .ok (.getfield 69, 3) := dk_180 0 69 (dk_at dksX5_number_1 21 rfl rfl)
theorem dX5_number_46 : decode cX5_number 46 = .ok (.istore_n 3, 1) := dk_62 (dk_at dksX5_number_2 0 rfl rfl)
theorem dX5_number_47 : decode cX5_number 47 = .ok (.aload_n 0, 1) := dk_42 (dk_at dksX5_number_2 1 rfl rfl)
theorem dX5_number_48 : decode cX5_number 48 = .ok (.invokevirtual 90, 3) := dk_182 0 90 (dk_at dksX5_number_2 2 rfl rfl)
theorem dX5_number_51 : decode cX5_number 51 = .ok (.iload_n 3, 1) := dk_29 (dk_at dksX5_number_2 5 rfl rfl)
theorem dX5_number_52 : decode cX5_number 52 = .ok (.ireturn, 1) := dk_172 (dk_at dksX5_number_2 6 rfl rfl)
abbrev cX5_readTrunk : ByteArray := prog_15_method_18_code
def yX5_readTrunk : MethodName := ⟨RX5, "readTrunk", "()V"⟩
def dkwX5_readTrunk_8 : List UInt8 := [180, 0, 24, 180, 0, 169, 43, 182, 0, 214, 87, 177]
abbrev dktX5_readTrunk_8 : List UInt8 := dkwX5_readTrunk_8 ++ []
def dkwX5_readTrunk_7 : List UInt8 := [181, 0, 230, 42, 18, 122, 182, 0, 93, 153, 0, 14, 43, 42, 3, 16, 9, 182, 0, 104, 181, 0, 232, 42]
abbrev dktX5_readTrunk_7 : List UInt8 := dkwX5_readTrunk_7 ++ dktX5_readTrunk_8
def dkwX5_readTrunk_6 : List UInt8 := [43, 180, 0, 220, 96, 181, 0, 227, 42, 182, 0, 90, 43, 42, 18, 120, 3, 16, 63, 182, 0, 208]
abbrev dktX5_readTrunk_6 : List UInt8 := dkwX5_readTrunk_6 ++ dktX5_readTrunk_7
def dkwX5_readTrunk_5 : List UInt8 := [180, 0, 212, 164, 0, 16, 187, 0, 75, 89, 6, 42, 180, 0, 43, 183, 0, 77, 191, 44, 89, 180, 0, 227]
abbrev dktX5_readTrunk_5 : List UInt8 := dkwX5_readTrunk_5 ++ dktX5_readTrunk_6
def dkwX5_readTrunk_4 : List UInt8 := [180, 0, 157, 43, 180, 0, 222, 182, 0, 223, 192, 0, 200, 77, 44, 180, 0, 227, 43, 180, 0, 220, 96, 44]
abbrev dktX5_readTrunk_4 : List UInt8 := dkwX5_readTrunk_4 ++ dktX5_readTrunk_5
def dkwX5_readTrunk_3 : List UInt8 := [180, 0, 222, 156, 0, 16, 187, 0, 75, 89, 8, 42, 180, 0, 43, 183, 0, 77, 191, 42, 180, 0, 24]
abbrev dktX5_readTrunk_3 : List UInt8 := dkwX5_readTrunk_3 ++ dktX5_readTrunk_4
def dkwX5_readTrunk_2 : List UInt8 := [182, 0, 96, 191, 43, 42, 180, 0, 24, 180, 0, 157, 42, 180, 0, 17, 184, 0, 150, 181, 0, 222, 43]
abbrev dktX5_readTrunk_2 : List UInt8 := dkwX5_readTrunk_2 ++ dktX5_readTrunk_3
def dkwX5_readTrunk_1 : List UInt8 := [16, 20, 182, 0, 208, 181, 0, 220, 42, 18, 119, 182, 0, 100, 42, 182, 0, 146, 154, 0, 8, 42]
abbrev dktX5_readTrunk_1 : List UInt8 := dkwX5_readTrunk_1 ++ dktX5_readTrunk_2
def dkwX5_readTrunk_0 : List UInt8 := [187, 0, 217, 89, 42, 42, 180, 0, 24, 180, 0, 169, 182, 0, 202, 183, 0, 219, 76, 43, 42, 18, 117, 4]
abbrev dktX5_readTrunk_0 : List UInt8 := dkwX5_readTrunk_0 ++ dktX5_readTrunk_1
theorem dksX5_readTrunk_0 : cX5_readTrunk.data.toList.drop 0 = dktX5_readTrunk_0 := by decide +kernel
theorem dksX5_readTrunk_1 : cX5_readTrunk.data.toList.drop 24 = dktX5_readTrunk_1 := dk_seg dksX5_readTrunk_0 24 rfl rfl
theorem dksX5_readTrunk_2 : cX5_readTrunk.data.toList.drop 46 = dktX5_readTrunk_2 := dk_seg dksX5_readTrunk_1 22 rfl rfl
theorem dksX5_readTrunk_3 : cX5_readTrunk.data.toList.drop 69 = dktX5_readTrunk_3 := dk_seg dksX5_readTrunk_2 23 rfl rfl
theorem dksX5_readTrunk_4 : cX5_readTrunk.data.toList.drop 92 = dktX5_readTrunk_4 := dk_seg dksX5_readTrunk_3 23 rfl rfl
theorem dksX5_readTrunk_5 : cX5_readTrunk.data.toList.drop 116 = dktX5_readTrunk_5 := dk_seg dksX5_readTrunk_4 24 rfl rfl
theorem dksX5_readTrunk_6 : cX5_readTrunk.data.toList.drop 140 = dktX5_readTrunk_6 := dk_seg dksX5_readTrunk_5 24 rfl rfl
theorem dksX5_readTrunk_7 : cX5_readTrunk.data.toList.drop 162 = dktX5_readTrunk_7 := dk_seg dksX5_readTrunk_6 22 rfl rfl
theorem dksX5_readTrunk_8 : cX5_readTrunk.data.toList.drop 186 = dktX5_readTrunk_8 := dk_seg dksX5_readTrunk_7 24 rfl rfl
theorem dX5_readTrunk_0 : decode cX5_readTrunk 0 = .ok (.new 217, 3) := dk_187 0 217 (dk_at dksX5_readTrunk_0 0 rfl rfl)
theorem dX5_readTrunk_3 : decode cX5_readTrunk 3 = .ok (.dup, 1) := dk_89 (dk_at dksX5_readTrunk_0 3 rfl rfl)
theorem dX5_readTrunk_4 : decode cX5_readTrunk 4 = .ok (.aload_n 0, 1) := dk_42 (dk_at dksX5_readTrunk_0 4 rfl rfl)
theorem dX5_readTrunk_5 : decode cX5_readTrunk 5 = .ok (.aload_n 0, 1) := dk_42 (dk_at dksX5_readTrunk_0 5 rfl rfl)
theorem dX5_readTrunk_6 : decode cX5_readTrunk 6 = .ok (.getfield 24, 3) := dk_180 0 24 (dk_at dksX5_readTrunk_0 6 rfl rfl)
theorem dX5_readTrunk_9 : decode cX5_readTrunk 9 = .ok (.getfield 169, 3) := dk_180 0 169 (dk_at dksX5_readTrunk_0 9 rfl rfl)
theorem dX5_readTrunk_12 : decode cX5_readTrunk 12 = .ok (.invokevirtual 202, 3) := dk_182 0 202 (dk_at dksX5_readTrunk_0 12 rfl rfl)
theorem dX5_readTrunk_15 : decode cX5_readTrunk 15 = .ok (.invokespecial 219, 3) := dk_183 0 219 (dk_at dksX5_readTrunk_0 15 rfl rfl)
theorem dX5_readTrunk_18 : decode cX5_readTrunk 18 = .ok (.astore_n 1, 1) := dk_76 (dk_at dksX5_readTrunk_0 18 rfl rfl)
theorem dX5_readTrunk_19 : decode cX5_readTrunk 19 = .ok (.aload_n 1, 1) := dk_43 (dk_at dksX5_readTrunk_0 19 rfl rfl)
theorem dX5_readTrunk_20 : decode cX5_readTrunk 20 = .ok (.aload_n 0, 1) := dk_42 (dk_at dksX5_readTrunk_0 20 rfl rfl)
theorem dX5_readTrunk_21 : decode cX5_readTrunk 21 = .ok (.ldc 117, 2) := dk_18 117 (dk_at dksX5_readTrunk_0 21 rfl rfl)
theorem dX5_readTrunk_23 : decode cX5_readTrunk 23 = .ok (.iconst 1, 1) := dk_4 (dk_at dksX5_readTrunk_0 23 rfl rfl)
theorem dX5_readTrunk_24 : decode cX5_readTrunk 24 = .ok (.bipush 20, 2) := dk_16 20 (dk_at dksX5_readTrunk_1 0 rfl rfl)
theorem dX5_readTrunk_26 : decode cX5_readTrunk 26 = .ok (.invokevirtual 208, 3) := dk_182 0 208 (dk_at dksX5_readTrunk_1 2 rfl rfl)
theorem dX5_readTrunk_29 : decode cX5_readTrunk 29 = .ok (.putfield 220, 3) := dk_181 0 220 (dk_at dksX5_readTrunk_1 5 rfl rfl)
theorem dX5_readTrunk_32 : decode cX5_readTrunk 32 = .ok (.aload_n 0, 1) := dk_42 (dk_at dksX5_readTrunk_1 8 rfl rfl)
theorem dX5_readTrunk_33 : decode cX5_readTrunk 33 = .ok (.ldc 119, 2) := dk_18 119 (dk_at dksX5_readTrunk_1 9 rfl rfl)
theorem dX5_readTrunk_35 : decode cX5_readTrunk 35 = .ok (.invokevirtual 100, 3) := dk_182 0 100 (dk_at dksX5_readTrunk_1 11 rfl rfl)
theorem dX5_readTrunk_38 : decode cX5_readTrunk 38 = .ok (.aload_n 0, 1) := dk_42 (dk_at dksX5_readTrunk_1 14 rfl rfl)
theorem dX5_readTrunk_39 : decode cX5_readTrunk 39 = .ok (.invokevirtual 146, 3) := dk_182 0 146 (dk_at dksX5_readTrunk_1 15 rfl rfl)
theorem dX5_readTrunk_42 : decode cX5_readTrunk 42 = .ok (.ifCond .ne 8, 3) := dk_154 0 8 (dk_at dksX5_readTrunk_1 18 rfl rfl)
theorem dX5_readTrunk_45 : decode cX5_readTrunk 45 = .ok (.aload_n 0, 1) := dk_42 (dk_at dksX5_readTrunk_1 21 rfl rfl)
theorem dX5_readTrunk_46 : decode cX5_readTrunk 46 = .ok (.invokevirtual 96, 3) := dk_182 0 96 (dk_at dksX5_readTrunk_2 0 rfl rfl)
theorem dX5_readTrunk_49 : decode cX5_readTrunk 49 = .ok (.athrow, 1) := dk_191 (dk_at dksX5_readTrunk_2 3 rfl rfl)
theorem dX5_readTrunk_50 : decode cX5_readTrunk 50 = .ok (.aload_n 1, 1) := dk_43 (dk_at dksX5_readTrunk_2 4 rfl rfl)
theorem dX5_readTrunk_51 : decode cX5_readTrunk 51 = .ok (.aload_n 0, 1) := dk_42 (dk_at dksX5_readTrunk_2 5 rfl rfl)
theorem dX5_readTrunk_52 : decode cX5_readTrunk 52 = .ok (.getfield 24, 3) := dk_180 0 24 (dk_at dksX5_readTrunk_2 6 rfl rfl)
theorem dX5_readTrunk_55 : decode cX5_readTrunk 55 = .ok (.getfield 157, 3) := dk_180 0 157 (dk_at dksX5_readTrunk_2 9 rfl rfl)
theorem dX5_readTrunk_58 : decode cX5_readTrunk 58 = .ok (.aload_n 0, 1) := dk_42 (dk_at dksX5_readTrunk_2 12 rfl rfl)
theorem dX5_readTrunk_59 : decode cX5_readTrunk 59 = .ok (.getfield 17, 3) := dk_180 0 17 (dk_at dksX5_readTrunk_2 13 rfl rfl)
theorem dX5_readTrunk_62 : decode cX5_readTrunk 62 = .ok (.invokestatic 150, 3) := dk_184 0 150 (dk_at dksX5_readTrunk_2 16 rfl rfl)
theorem dX5_readTrunk_65 : decode cX5_readTrunk 65 = .ok (.putfield 222, 3) := dk_181 0 222 (dk_at dksX5_readTrunk_2 19 rfl rfl)
theorem dX5_readTrunk_68 : decode cX5_readTrunk 68 = .ok (.aload_n 1, 1) := dk_43 (dk_at dksX5_readTrunk_2 22 rfl rfl)
theorem dX5_readTrunk_69 : decode cX5_readTrunk 69 = .ok (.getfield 222, 3) := dk_180 0 222 (dk_at dksX5_readTrunk_3 0 rfl rfl)
theorem dX5_readTrunk_72 : decode cX5_readTrunk 72 = .ok (.ifCond .ge 16, 3) := dk_156 0 16 (dk_at dksX5_readTrunk_3 3 rfl rfl)
theorem dX5_readTrunk_75 : decode cX5_readTrunk 75 = .ok (.new 75, 3) := dk_187 0 75 (dk_at dksX5_readTrunk_3 6 rfl rfl)
theorem dX5_readTrunk_78 : decode cX5_readTrunk 78 = .ok (.dup, 1) := dk_89 (dk_at dksX5_readTrunk_3 9 rfl rfl)
theorem dX5_readTrunk_79 : decode cX5_readTrunk 79 = .ok (.iconst 5, 1) := dk_8 (dk_at dksX5_readTrunk_3 10 rfl rfl)
theorem dX5_readTrunk_80 : decode cX5_readTrunk 80 = .ok (.aload_n 0, 1) := dk_42 (dk_at dksX5_readTrunk_3 11 rfl rfl)
theorem dX5_readTrunk_81 : decode cX5_readTrunk 81 = .ok (.getfield 43, 3) := dk_180 0 43 (dk_at dksX5_readTrunk_3 12 rfl rfl)
theorem dX5_readTrunk_84 : decode cX5_readTrunk 84 = .ok (.invokespecial 77, 3) := dk_183 0 77 (dk_at dksX5_readTrunk_3 15 rfl rfl)
theorem dX5_readTrunk_87 : decode cX5_readTrunk 87 = .ok (.athrow, 1) := dk_191 (dk_at dksX5_readTrunk_3 18 rfl rfl)
theorem dX5_readTrunk_88 : decode cX5_readTrunk 88 = .ok (.aload_n 0, 1) := dk_42 (dk_at dksX5_readTrunk_3 19 rfl rfl)
theorem dX5_readTrunk_89 : decode cX5_readTrunk 89 = .ok (.getfield 24, 3) := dk_180 0 24 (dk_at dksX5_readTrunk_3 20 rfl rfl)
theorem dX5_readTrunk_92 : decode cX5_readTrunk 92 = .ok (.getfield 157, 3) := dk_180 0 157 (dk_at dksX5_readTrunk_4 0 rfl rfl)
theorem dX5_readTrunk_95 : decode cX5_readTrunk 95 = .ok (.aload_n 1, 1) := dk_43 (dk_at dksX5_readTrunk_4 3 rfl rfl)
theorem dX5_readTrunk_96 : decode cX5_readTrunk 96 = .ok (.getfield 222, 3) := dk_180 0 222 (dk_at dksX5_readTrunk_4 4 rfl rfl)
theorem dX5_readTrunk_99 : decode cX5_readTrunk 99 = .ok (.invokevirtual 223, 3) := dk_182 0 223 (dk_at dksX5_readTrunk_4 7 rfl rfl)
theorem dX5_readTrunk_102 : decode cX5_readTrunk 102 = .ok (.checkcast 200, 3) := dk_192 0 200 (dk_at dksX5_readTrunk_4 10 rfl rfl)
theorem dX5_readTrunk_105 : decode cX5_readTrunk 105 = .ok (.astore_n 2, 1) := dk_77 (dk_at dksX5_readTrunk_4 13 rfl rfl)
theorem dX5_readTrunk_106 : decode cX5_readTrunk 106 = .ok (.aload_n 2, 1) := dk_44 (dk_at dksX5_readTrunk_4 14 rfl rfl)
theorem dX5_readTrunk_107 : decode cX5_readTrunk 107 = .ok (.getfield 227, 3) := dk_180 0 227 (dk_at dksX5_readTrunk_4 15 rfl rfl)
theorem dX5_readTrunk_110 : decode cX5_readTrunk 110 = .ok (.aload_n 1, 1) := dk_43 (dk_at dksX5_readTrunk_4 18 rfl rfl)
theorem dX5_readTrunk_111 : decode cX5_readTrunk 111 = .ok (.getfield 220, 3) := dk_180 0 220 (dk_at dksX5_readTrunk_4 19 rfl rfl)
theorem dX5_readTrunk_114 : decode cX5_readTrunk 114 = .ok (.iadd, 1) := dk_96 (dk_at dksX5_readTrunk_4 22 rfl rfl)
theorem dX5_readTrunk_115 : decode cX5_readTrunk 115 = .ok (.aload_n 2, 1) := dk_44 (dk_at dksX5_readTrunk_4 23 rfl rfl)
theorem dX5_readTrunk_116 : decode cX5_readTrunk 116 = .ok (.getfield 212, 3) := dk_180 0 212 (dk_at dksX5_readTrunk_5 0 rfl rfl)
theorem dX5_readTrunk_119 : decode cX5_readTrunk 119 = .ok (.if_icmp .le 16, 3) := dk_164 0 16 (dk_at dksX5_readTrunk_5 3 rfl rfl)
theorem dX5_readTrunk_122 : decode cX5_readTrunk 122 = .ok (.new 75, 3) := dk_187 0 75 (dk_at dksX5_readTrunk_5 6 rfl rfl)
theorem dX5_readTrunk_125 : decode cX5_readTrunk 125 = .ok (.dup, 1) := dk_89 (dk_at dksX5_readTrunk_5 9 rfl rfl)
theorem dX5_readTrunk_126 : decode cX5_readTrunk 126 = .ok (.iconst 3, 1) := dk_6 (dk_at dksX5_readTrunk_5 10 rfl rfl)
theorem dX5_readTrunk_127 : decode cX5_readTrunk 127 = .ok (.aload_n 0, 1) := dk_42 (dk_at dksX5_readTrunk_5 11 rfl rfl)
theorem dX5_readTrunk_128 : decode cX5_readTrunk 128 = .ok (.getfield 43, 3) := dk_180 0 43 (dk_at dksX5_readTrunk_5 12 rfl rfl)
theorem dX5_readTrunk_131 : decode cX5_readTrunk 131 = .ok (.invokespecial 77, 3) := dk_183 0 77 (dk_at dksX5_readTrunk_5 15 rfl rfl)
theorem dX5_readTrunk_134 : decode cX5_readTrunk 134 = .ok (.athrow, 1) := dk_191 (dk_at dksX5_readTrunk_5 18 rfl rfl)
theorem dX5_readTrunk_135 : decode cX5_readTrunk 135 = .ok (.aload_n 2, 1) := dk_44 (dk_at dksX5_readTrunk_5 19 rfl rfl)
theorem dX5_readTrunk_136 : decode cX5_readTrunk 136 = .ok (.dup, 1) := dk_89 (dk_at dksX5_readTrunk_5 20 rfl rfl)
theorem dX5_readTrunk_137 : decode cX5_readTrunk 137 = .ok (.getfield 227, 3) := dk_180 0 227 (dk_at dksX5_readTrunk_5 21 rfl rfl)
theorem dX5_readTrunk_140 : decode cX5_readTrunk 140 = .ok (.aload_n 1, 1) := dk_43 (dk_at dksX5_readTrunk_6 0 rfl rfl)
theorem dX5_readTrunk_141 : decode cX5_readTrunk 141 = .ok (.getfield 220, 3) := dk_180 0 220 (dk_at dksX5_readTrunk_6 1 rfl rfl)
theorem dX5_readTrunk_144 : decode cX5_readTrunk 144 = .ok (.iadd, 1) := dk_96 (dk_at dksX5_readTrunk_6 4 rfl rfl)
theorem dX5_readTrunk_145 : decode cX5_readTrunk 145 = .ok (.putfield 227, 3) := dk_181 0 227 (dk_at dksX5_readTrunk_6 5 rfl rfl)
theorem dX5_readTrunk_148 : decode cX5_readTrunk 148 = .ok (.aload_n 0, 1) := dk_42 (dk_at dksX5_readTrunk_6 8 rfl rfl)
theorem dX5_readTrunk_149 : decode cX5_readTrunk 149 = .ok (.invokevirtual 90, 3) := dk_182 0 90 (dk_at dksX5_readTrunk_6 9 rfl rfl)
theorem dX5_readTrunk_152 : decode cX5_readTrunk 152 = .ok (.aload_n 1, 1) := dk_43 (dk_at dksX5_readTrunk_6 12 rfl rfl)
theorem dX5_readTrunk_153 : decode cX5_readTrunk 153 = .ok (.aload_n 0, 1) := dk_42 (dk_at dksX5_readTrunk_6 13 rfl rfl)
theorem dX5_readTrunk_154 : decode cX5_readTrunk 154 = .ok (.ldc 120, 2) := dk_18 120 (dk_at dksX5_readTrunk_6 14 rfl rfl)
theorem dX5_readTrunk_156 : decode cX5_readTrunk 156 = .ok (.iconst 0, 1) := dk_3 (dk_at dksX5_readTrunk_6 16 rfl rfl)
theorem dX5_readTrunk_157 : decode cX5_readTrunk 157 = .ok (.bipush 63, 2) := dk_16 63 (dk_at dksX5_readTrunk_6 17 rfl rfl)
theorem dX5_readTrunk_159 : decode cX5_readTrunk 159 = .ok (.invokevirtual 208, 3) := dk_182 0 208 (dk_at dksX5_readTrunk_6 19 rfl rfl)
theorem dX5_readTrunk_162 : decode cX5_readTrunk 162 = .ok (.putfield 230, 3) := dk_181 0 230 (dk_at dksX5_readTrunk_7 0 rfl rfl)
theorem dX5_readTrunk_165 : decode cX5_readTrunk 165 = .ok (.aload_n 0, 1) := dk_42 (dk_at dksX5_readTrunk_7 3 rfl rfl)
theorem dX5_readTrunk_166 : decode cX5_readTrunk 166 = .ok (.ldc 122, 2) := dk_18 122 (dk_at dksX5_readTrunk_7 4 rfl rfl)
theorem dX5_readTrunk_168 : decode cX5_readTrunk 168 = .ok (.invokevirtual 93, 3) := dk_182 0 93 (dk_at dksX5_readTrunk_7 6 rfl rfl)
theorem dX5_readTrunk_171 : decode cX5_readTrunk 171 = .ok (.ifCond .eq 14, 3) := dk_153 0 14 (dk_at dksX5_readTrunk_7 9 rfl rfl)
theorem dX5_readTrunk_174 : decode cX5_readTrunk 174 = .ok (.aload_n 1, 1) := dk_43 (dk_at dksX5_readTrunk_7 12 rfl rfl)
theorem dX5_readTrunk_175 : decode cX5_readTrunk 175 = .ok (.aload_n 0, 1) := dk_42 (dk_at dksX5_readTrunk_7 13 rfl rfl)
theorem dX5_readTrunk_176 : decode cX5_readTrunk 176 = .ok (.iconst 0, 1) := dk_3 (dk_at dksX5_readTrunk_7 14 rfl rfl)
theorem dX5_readTrunk_177 : decode cX5_readTrunk 177 = .ok (.bipush 9, 2) := dk_16 9 (dk_at dksX5_readTrunk_7 15 rfl rfl)
theorem dX5_readTrunk_179 : decode cX5_readTrunk 179 = .ok (.invokevirtual 104, 3) := dk_182 0 104 (dk_at dksX5_readTrunk_7 17 rfl rfl)
theorem dX5_readTrunk_182 : decode cX5_readTrunk 182 = .ok (.putfield 232, 3) := dk_181 0 232 (dk_at dksX5_readTrunk_7 20 rfl rfl)
theorem dX5_readTrunk_185 : decode cX5_readTrunk 185 = .ok (.aload_n 0, 1) := dk_42 (dk_at dksX5_readTrunk_7 23 rfl rfl)
theorem dX5_readTrunk_186 : decode cX5_readTrunk 186 = .ok (.getfield 24, 3) := dk_180 0 24 (dk_at dksX5_readTrunk_8 0 rfl rfl)
theorem dX5_readTrunk_189 : decode cX5_readTrunk 189 = .ok (.getfield 169, 3) := dk_180 0 169 (dk_at dksX5_readTrunk_8 3 rfl rfl)
theorem dX5_readTrunk_192 : decode cX5_readTrunk 192 = .ok (.aload_n 1, 1) := dk_43 (dk_at dksX5_readTrunk_8 6 rfl rfl)
theorem dX5_readTrunk_193 : decode cX5_readTrunk 193 = .ok (.invokevirtual 214, 3) := dk_182 0 214 (dk_at dksX5_readTrunk_8 7 rfl rfl)
theorem dX5_readTrunk_196 : decode cX5_readTrunk 196 = .ok (.pop, 1) := dk_87 (dk_at dksX5_readTrunk_8 10 rfl rfl)
theorem dX5_readTrunk_197 : decode cX5_readTrunk 197 = .ok (.return_, 1) := dk_177 (dk_at dksX5_readTrunk_8 11 rfl rfl)
abbrev cX5_readBrood : ByteArray := prog_15_method_19_code
def yX5_readBrood : MethodName := ⟨RX5, "readBrood", "()V"⟩
def dkwX5_readBrood_0 : List UInt8 := [42, 182, 0, 90, 42, 180, 0, 24, 42, 182, 0, 234, 181, 0, 175, 177]
abbrev dktX5_readBrood_0 : List UInt8 := dkwX5_readBrood_0 ++ []
theorem dksX5_readBrood_0 : cX5_readBrood.data.toList.drop 0 = dktX5_readBrood_0 := by decide +kernel
theorem dX5_readBrood_0 : decode cX5_readBrood 0 = .ok (.aload_n 0, 1) := dk_42 (dk_at dksX5_readBrood_0 0 rfl rfl)
theorem dX5_readBrood_1 : decode cX5_readBrood 1 = .ok (.invokevirtual 90, 3) := dk_182 0 90 (dk_at dksX5_readBrood_0 1 rfl rfl)
theorem dX5_readBrood_4 : decode cX5_readBrood 4 = .ok (.aload_n 0, 1) := dk_42 (dk_at dksX5_readBrood_0 4 rfl rfl)
theorem dX5_readBrood_5 : decode cX5_readBrood 5 = .ok (.getfield 24, 3) := dk_180 0 24 (dk_at dksX5_readBrood_0 5 rfl rfl)
theorem dX5_readBrood_8 : decode cX5_readBrood 8 = .ok (.aload_n 0, 1) := dk_42 (dk_at dksX5_readBrood_0 8 rfl rfl)
theorem dX5_readBrood_9 : decode cX5_readBrood 9 = .ok (.invokevirtual 234, 3) := dk_182 0 234 (dk_at dksX5_readBrood_0 9 rfl rfl)
theorem dX5_readBrood_12 : decode cX5_readBrood 12 = .ok (.putfield 175, 3) := dk_181 0 175 (dk_at dksX5_readBrood_0 12 rfl rfl)
theorem dX5_readBrood_15 : decode cX5_readBrood 15 = .ok (.return_, 1) := dk_177 (dk_at dksX5_readBrood_0 15 rfl rfl)
abbrev cX5_e : ByteArray := prog_15_method_23_code
def yX5_e : MethodName := ⟨RX5, "e", "()LTrunkLitters$Node;"⟩
def dkwX5_e_0 : List UInt8 := [42, 3, 181, 0, 245, 42, 3, 181, 0, 248, 42, 182, 0, 251, 176]
abbrev dktX5_e_0 : List UInt8 := dkwX5_e_0 ++ []
theorem dksX5_e_0 : cX5_e.data.toList.drop 0 = dktX5_e_0 := by decide +kernel
theorem dX5_e_0 : decode cX5_e 0 = .ok (.aload_n 0, 1) := dk_42 (dk_at dksX5_e_0 0 rfl rfl)
theorem dX5_e_1 : decode cX5_e 1 = .ok (.iconst 0, 1) := dk_3 (dk_at dksX5_e_0 1 rfl rfl)
theorem dX5_e_2 : decode cX5_e 2 = .ok (.putfield 245, 3) := dk_181 0 245 (dk_at dksX5_e_0 2 rfl rfl)
theorem dX5_e_5 : decode cX5_e 5 = .ok (.aload_n 0, 1) := dk_42 (dk_at dksX5_e_0 5 rfl rfl)
theorem dX5_e_6 : decode cX5_e 6 = .ok (.iconst 0, 1) := dk_3 (dk_at dksX5_e_0 6 rfl rfl)
theorem dX5_e_7 : decode cX5_e 7 = .ok (.putfield 248, 3) := dk_181 0 248 (dk_at dksX5_e_0 7 rfl rfl)
theorem dX5_e_10 : decode cX5_e 10 = .ok (.aload_n 0, 1) := dk_42 (dk_at dksX5_e_0 10 rfl rfl)
theorem dX5_e_11 : decode cX5_e 11 = .ok (.invokevirtual 251, 3) := dk_182 0 251 (dk_at dksX5_e_0 11 rfl rfl)
theorem dX5_e_14 : decode cX5_e 14 = .ok (.areturn, 1) := dk_176 (dk_at dksX5_e_0 14 rfl rfl)
abbrev cX5_both : ByteArray := prog_15_method_24_code
def yX5_both : MethodName := ⟨RX5, "both", "()LTrunkLitters$Node;"⟩
def dkwX5_both_1 : List UInt8 := [16, 124, 183, 1, 3, 76, 167, 255, 232, 43, 176]
abbrev dktX5_both_1 : List UInt8 := dkwX5_both_1 ++ []
def dkwX5_both_0 : List UInt8 := [42, 182, 0, 254, 76, 42, 18, 142, 182, 0, 93, 153, 0, 21, 187, 1, 1, 89, 43, 42, 182, 0, 254]
abbrev dktX5_both_0 : List UInt8 := dkwX5_both_0 ++ dktX5_both_1
theorem dksX5_both_0 : cX5_both.data.toList.drop 0 = dktX5_both_0 := by decide +kernel
theorem dksX5_both_1 : cX5_both.data.toList.drop 23 = dktX5_both_1 := dk_seg dksX5_both_0 23 rfl rfl
theorem dX5_both_0 : decode cX5_both 0 = .ok (.aload_n 0, 1) := dk_42 (dk_at dksX5_both_0 0 rfl rfl)
theorem dX5_both_1 : decode cX5_both 1 = .ok (.invokevirtual 254, 3) := dk_182 0 254 (dk_at dksX5_both_0 1 rfl rfl)
theorem dX5_both_4 : decode cX5_both 4 = .ok (.astore_n 1, 1) := dk_76 (dk_at dksX5_both_0 4 rfl rfl)
theorem dX5_both_5 : decode cX5_both 5 = .ok (.aload_n 0, 1) := dk_42 (dk_at dksX5_both_0 5 rfl rfl)
theorem dX5_both_6 : decode cX5_both 6 = .ok (.ldc 142, 2) := dk_18 142 (dk_at dksX5_both_0 6 rfl rfl)
theorem dX5_both_8 : decode cX5_both 8 = .ok (.invokevirtual 93, 3) := dk_182 0 93 (dk_at dksX5_both_0 8 rfl rfl)
theorem dX5_both_11 : decode cX5_both 11 = .ok (.ifCond .eq 21, 3) := dk_153 0 21 (dk_at dksX5_both_0 11 rfl rfl)
theorem dX5_both_14 : decode cX5_both 14 = .ok (.new 257, 3) := dk_187 1 1 (dk_at dksX5_both_0 14 rfl rfl)
theorem dX5_both_17 : decode cX5_both 17 = .ok (.dup, 1) := dk_89 (dk_at dksX5_both_0 17 rfl rfl)
theorem dX5_both_18 : decode cX5_both 18 = .ok (.aload_n 1, 1) := dk_43 (dk_at dksX5_both_0 18 rfl rfl)
theorem dX5_both_19 : decode cX5_both 19 = .ok (.aload_n 0, 1) := dk_42 (dk_at dksX5_both_0 19 rfl rfl)
theorem dX5_both_20 : decode cX5_both 20 = .ok (.invokevirtual 254, 3) := dk_182 0 254 (dk_at dksX5_both_0 20 rfl rfl)
theorem dX5_both_23 : decode cX5_both 23 = .ok (.bipush 124, 2) := dk_16 124 (dk_at dksX5_both_1 0 rfl rfl)
theorem dX5_both_25 : decode cX5_both 25 = .ok (.invokespecial 259, 3) := dk_183 1 3 (dk_at dksX5_both_1 2 rfl rfl)
theorem dX5_both_28 : decode cX5_both 28 = .ok (.astore_n 1, 1) := dk_76 (dk_at dksX5_both_1 5 rfl rfl)
theorem dX5_both_29 : decode cX5_both 29 = .ok (.goto (-24), 3) := dk_167 255 232 (dk_at dksX5_both_1 6 rfl rfl)
theorem dX5_both_32 : decode cX5_both 32 = .ok (.aload_n 1, 1) := dk_43 (dk_at dksX5_both_1 9 rfl rfl)
theorem dX5_both_33 : decode cX5_both 33 = .ok (.areturn, 1) := dk_176 (dk_at dksX5_both_1 10 rfl rfl)
abbrev cX5_all : ByteArray := prog_15_method_25_code
def yX5_all : MethodName := ⟨RX5, "all", "()LTrunkLitters$Node;"⟩
def dkwX5_all_1 : List UInt8 := [16, 38, 183, 1, 3, 76, 167, 255, 232, 43, 176]
abbrev dktX5_all_1 : List UInt8 := dkwX5_all_1 ++ []
def dkwX5_all_0 : List UInt8 := [42, 182, 1, 6, 76, 42, 18, 140, 182, 0, 93, 153, 0, 21, 187, 1, 1, 89, 43, 42, 182, 1, 6]
abbrev dktX5_all_0 : List UInt8 := dkwX5_all_0 ++ dktX5_all_1
theorem dksX5_all_0 : cX5_all.data.toList.drop 0 = dktX5_all_0 := by decide +kernel
theorem dksX5_all_1 : cX5_all.data.toList.drop 23 = dktX5_all_1 := dk_seg dksX5_all_0 23 rfl rfl
theorem dX5_all_0 : decode cX5_all 0 = .ok (.aload_n 0, 1) := dk_42 (dk_at dksX5_all_0 0 rfl rfl)
theorem dX5_all_1 : decode cX5_all 1 = .ok (.invokevirtual 262, 3) := dk_182 1 6 (dk_at dksX5_all_0 1 rfl rfl)
theorem dX5_all_4 : decode cX5_all 4 = .ok (.astore_n 1, 1) := dk_76 (dk_at dksX5_all_0 4 rfl rfl)
theorem dX5_all_5 : decode cX5_all 5 = .ok (.aload_n 0, 1) := dk_42 (dk_at dksX5_all_0 5 rfl rfl)
theorem dX5_all_6 : decode cX5_all 6 = .ok (.ldc 140, 2) := dk_18 140 (dk_at dksX5_all_0 6 rfl rfl)
theorem dX5_all_8 : decode cX5_all 8 = .ok (.invokevirtual 93, 3) := dk_182 0 93 (dk_at dksX5_all_0 8 rfl rfl)
theorem dX5_all_11 : decode cX5_all 11 = .ok (.ifCond .eq 21, 3) := dk_153 0 21 (dk_at dksX5_all_0 11 rfl rfl)
theorem dX5_all_14 : decode cX5_all 14 = .ok (.new 257, 3) := dk_187 1 1 (dk_at dksX5_all_0 14 rfl rfl)
theorem dX5_all_17 : decode cX5_all 17 = .ok (.dup, 1) := dk_89 (dk_at dksX5_all_0 17 rfl rfl)
theorem dX5_all_18 : decode cX5_all 18 = .ok (.aload_n 1, 1) := dk_43 (dk_at dksX5_all_0 18 rfl rfl)
theorem dX5_all_19 : decode cX5_all 19 = .ok (.aload_n 0, 1) := dk_42 (dk_at dksX5_all_0 19 rfl rfl)
theorem dX5_all_20 : decode cX5_all 20 = .ok (.invokevirtual 262, 3) := dk_182 1 6 (dk_at dksX5_all_0 20 rfl rfl)
theorem dX5_all_23 : decode cX5_all 23 = .ok (.bipush 38, 2) := dk_16 38 (dk_at dksX5_all_1 0 rfl rfl)
theorem dX5_all_25 : decode cX5_all 25 = .ok (.invokespecial 259, 3) := dk_183 1 3 (dk_at dksX5_all_1 2 rfl rfl)
theorem dX5_all_28 : decode cX5_all 28 = .ok (.astore_n 1, 1) := dk_76 (dk_at dksX5_all_1 5 rfl rfl)
theorem dX5_all_29 : decode cX5_all 29 = .ok (.goto (-24), 3) := dk_167 255 232 (dk_at dksX5_all_1 6 rfl rfl)
theorem dX5_all_32 : decode cX5_all 32 = .ok (.aload_n 1, 1) := dk_43 (dk_at dksX5_all_1 9 rfl rfl)
theorem dX5_all_33 : decode cX5_all 33 = .ok (.areturn, 1) := dk_176 (dk_at dksX5_all_1 10 rfl rfl)
abbrev cX5_one : ByteArray := prog_15_method_26_code
def yX5_one : MethodName := ⟨RX5, "one", "()LTrunkLitters$Node;"⟩
def dkwX5_one_4 : List UInt8 := [180, 0, 46, 146, 61, 42, 182, 0, 90, 187, 1, 1, 89, 43, 42, 182, 1, 14, 28, 183, 1, 3, 176]
abbrev dktX5_one_4 : List UInt8 := dkwX5_one_4 ++ []
def dkwX5_one_3 : List UInt8 := [159, 0, 23, 42, 180, 0, 46, 16, 62, 159, 0, 14, 42, 180, 0, 46, 16, 61, 159, 0, 5, 43, 176, 42]
abbrev dktX5_one_3 : List UInt8 := dkwX5_one_3 ++ dktX5_one_4
def dkwX5_one_2 : List UInt8 := [76, 42, 89, 180, 0, 245, 4, 100, 181, 0, 245, 43, 176, 42, 182, 1, 14, 76, 42, 180, 0, 46, 16, 60]
abbrev dktX5_one_2 : List UInt8 := dkwX5_one_2 ++ dktX5_one_3
def dkwX5_one_1 : List UInt8 := [89, 180, 0, 245, 4, 96, 181, 0, 245, 42, 182, 0, 90, 187, 1, 9, 89, 42, 182, 1, 6, 183, 1, 11]
abbrev dktX5_one_1 : List UInt8 := dkwX5_one_1 ++ dktX5_one_2
def dkwX5_one_0 : List UInt8 := [42, 18, 144, 182, 0, 86, 153, 0, 55, 42, 180, 0, 245, 16, 6, 164, 0, 8, 42, 182, 0, 96, 191, 42]
abbrev dktX5_one_0 : List UInt8 := dkwX5_one_0 ++ dktX5_one_1
theorem dksX5_one_0 : cX5_one.data.toList.drop 0 = dktX5_one_0 := by decide +kernel
theorem dksX5_one_1 : cX5_one.data.toList.drop 24 = dktX5_one_1 := dk_seg dksX5_one_0 24 rfl rfl
theorem dksX5_one_2 : cX5_one.data.toList.drop 48 = dktX5_one_2 := dk_seg dksX5_one_1 24 rfl rfl
theorem dksX5_one_3 : cX5_one.data.toList.drop 72 = dktX5_one_3 := dk_seg dksX5_one_2 24 rfl rfl
theorem dksX5_one_4 : cX5_one.data.toList.drop 96 = dktX5_one_4 := dk_seg dksX5_one_3 24 rfl rfl
theorem dX5_one_0 : decode cX5_one 0 = .ok (.aload_n 0, 1) := dk_42 (dk_at dksX5_one_0 0 rfl rfl)
theorem dX5_one_1 : decode cX5_one 1 = .ok (.ldc 144, 2) := dk_18 144 (dk_at dksX5_one_0 1 rfl rfl)
theorem dX5_one_3 : decode cX5_one 3 = .ok (.invokevirtual 86, 3) := dk_182 0 86 (dk_at dksX5_one_0 3 rfl rfl)
theorem dX5_one_6 : decode cX5_one 6 = .ok (.ifCond .eq 55, 3) := dk_153 0 55 (dk_at dksX5_one_0 6 rfl rfl)
theorem dX5_one_9 : decode cX5_one 9 = .ok (.aload_n 0, 1) := dk_42 (dk_at dksX5_one_0 9 rfl rfl)
theorem dX5_one_10 : decode cX5_one 10 = .ok (.getfield 245, 3) := dk_180 0 245 (dk_at dksX5_one_0 10 rfl rfl)
theorem dX5_one_13 : decode cX5_one 13 = .ok (.bipush 6, 2) := dk_16 6 (dk_at dksX5_one_0 13 rfl rfl)
theorem dX5_one_15 : decode cX5_one 15 = .ok (.if_icmp .le 8, 3) := dk_164 0 8 (dk_at dksX5_one_0 15 rfl rfl)
theorem dX5_one_18 : decode cX5_one 18 = .ok (.aload_n 0, 1) := dk_42 (dk_at dksX5_one_0 18 rfl rfl)
theorem dX5_one_19 : decode cX5_one 19 = .ok (.invokevirtual 96, 3) := dk_182 0 96 (dk_at dksX5_one_0 19 rfl rfl)
theorem dX5_one_22 : decode cX5_one 22 = .ok (.athrow, 1) := dk_191 (dk_at dksX5_one_0 22 rfl rfl)
theorem dX5_one_23 : decode cX5_one 23 = .ok (.aload_n 0, 1) := dk_42 (dk_at dksX5_one_0 23 rfl rfl)
theorem dX5_one_24 : decode cX5_one 24 = .ok (.dup, 1) := dk_89 (dk_at dksX5_one_1 0 rfl rfl)
theorem dX5_one_25 : decode cX5_one 25 = .ok (.getfield 245, 3) := dk_180 0 245 (dk_at dksX5_one_1 1 rfl rfl)
theorem dX5_one_28 : decode cX5_one 28 = .ok (.iconst 1, 1) := dk_4 (dk_at dksX5_one_1 4 rfl rfl)
theorem dX5_one_29 : decode cX5_one 29 = .ok (.iadd, 1) := dk_96 (dk_at dksX5_one_1 5 rfl rfl)
theorem dX5_one_30 : decode cX5_one 30 = .ok (.putfield 245, 3) := dk_181 0 245 (dk_at dksX5_one_1 6 rfl rfl)
theorem dX5_one_33 : decode cX5_one 33 = .ok (.aload_n 0, 1) := dk_42 (dk_at dksX5_one_1 9 rfl rfl)
theorem dX5_one_34 : decode cX5_one 34 = .ok (.invokevirtual 90, 3) := dk_182 0 90 (dk_at dksX5_one_1 10 rfl rfl)
theorem dX5_one_37 : decode cX5_one 37 = .ok (.new 265, 3) := dk_187 1 9 (dk_at dksX5_one_1 13 rfl rfl)
theorem dX5_one_40 : decode cX5_one 40 = .ok (.dup, 1) := dk_89 (dk_at dksX5_one_1 16 rfl rfl)
theorem dX5_one_41 : decode cX5_one 41 = .ok (.aload_n 0, 1) := dk_42 (dk_at dksX5_one_1 17 rfl rfl)
theorem dX5_one_42 : decode cX5_one 42 = .ok (.invokevirtual 262, 3) := dk_182 1 6 (dk_at dksX5_one_1 18 rfl rfl)
theorem dX5_one_45 : decode cX5_one 45 = .ok (.invokespecial 267, 3) := dk_183 1 11 (dk_at dksX5_one_1 21 rfl rfl)
theorem dX5_one_48 : decode cX5_one 48 = .ok (.astore_n 1, 1) := dk_76 (dk_at dksX5_one_2 0 rfl rfl)
theorem dX5_one_49 : decode cX5_one 49 = .ok (.aload_n 0, 1) := dk_42 (dk_at dksX5_one_2 1 rfl rfl)
theorem dX5_one_50 : decode cX5_one 50 = .ok (.dup, 1) := dk_89 (dk_at dksX5_one_2 2 rfl rfl)
theorem dX5_one_51 : decode cX5_one 51 = .ok (.getfield 245, 3) := dk_180 0 245 (dk_at dksX5_one_2 3 rfl rfl)
theorem dX5_one_54 : decode cX5_one 54 = .ok (.iconst 1, 1) := dk_4 (dk_at dksX5_one_2 6 rfl rfl)
theorem dX5_one_55 : decode cX5_one 55 = .ok (.isub, 1) := dk_100 (dk_at dksX5_one_2 7 rfl rfl)
theorem dX5_one_56 : decode cX5_one 56 = .ok (.putfield 245, 3) := dk_181 0 245 (dk_at dksX5_one_2 8 rfl rfl)
theorem dX5_one_59 : decode cX5_one 59 = .ok (.aload_n 1, 1) := dk_43 (dk_at dksX5_one_2 11 rfl rfl)
theorem dX5_one_60 : decode cX5_one 60 = .ok (.areturn, 1) := dk_176 (dk_at dksX5_one_2 12 rfl rfl)
theorem dX5_one_61 : decode cX5_one 61 = .ok (.aload_n 0, 1) := dk_42 (dk_at dksX5_one_2 13 rfl rfl)
theorem dX5_one_62 : decode cX5_one 62 = .ok (.invokevirtual 270, 3) := dk_182 1 14 (dk_at dksX5_one_2 14 rfl rfl)
theorem dX5_one_65 : decode cX5_one 65 = .ok (.astore_n 1, 1) := dk_76 (dk_at dksX5_one_2 17 rfl rfl)
theorem dX5_one_66 : decode cX5_one 66 = .ok (.aload_n 0, 1) := dk_42 (dk_at dksX5_one_2 18 rfl rfl)
theorem dX5_one_67 : decode cX5_one 67 = .ok (.getfield 46, 3) := dk_180 0 46 (dk_at dksX5_one_2 19 rfl rfl)
theorem dX5_one_70 : decode cX5_one 70 = .ok (.bipush 60, 2) := dk_16 60 (dk_at dksX5_one_2 22 rfl rfl)
theorem dX5_one_72 : decode cX5_one 72 = .ok (.if_icmp .eq 23, 3) := dk_159 0 23 (dk_at dksX5_one_3 0 rfl rfl)
theorem dX5_one_75 : decode cX5_one 75 = .ok (.aload_n 0, 1) := dk_42 (dk_at dksX5_one_3 3 rfl rfl)
theorem dX5_one_76 : decode cX5_one 76 = .ok (.getfield 46, 3) := dk_180 0 46 (dk_at dksX5_one_3 4 rfl rfl)
theorem dX5_one_79 : decode cX5_one 79 = .ok (.bipush 62, 2) := dk_16 62 (dk_at dksX5_one_3 7 rfl rfl)
theorem dX5_one_81 : decode cX5_one 81 = .ok (.if_icmp .eq 14, 3) := dk_159 0 14 (dk_at dksX5_one_3 9 rfl rfl)
theorem dX5_one_84 : decode cX5_one 84 = .ok (.aload_n 0, 1) := dk_42 (dk_at dksX5_one_3 12 rfl rfl)
theorem dX5_one_85 : decode cX5_one 85 = .ok (.getfield 46, 3) := dk_180 0 46 (dk_at dksX5_one_3 13 rfl rfl)
theorem dX5_one_88 : decode cX5_one 88 = .ok (.bipush 61, 2) := dk_16 61 (dk_at dksX5_one_3 16 rfl rfl)
theorem dX5_one_90 : decode cX5_one 90 = .ok (.if_icmp .eq 5, 3) := dk_159 0 5 (dk_at dksX5_one_3 18 rfl rfl)
theorem dX5_one_93 : decode cX5_one 93 = .ok (.aload_n 1, 1) := dk_43 (dk_at dksX5_one_3 21 rfl rfl)
theorem dX5_one_94 : decode cX5_one 94 = .ok (.areturn, 1) := dk_176 (dk_at dksX5_one_3 22 rfl rfl)
theorem dX5_one_95 : decode cX5_one 95 = .ok (.aload_n 0, 1) := dk_42 (dk_at dksX5_one_3 23 rfl rfl)
theorem dX5_one_96 : decode cX5_one 96 = .ok (.getfield 46, 3) := dk_180 0 46 (dk_at dksX5_one_4 0 rfl rfl)
theorem dX5_one_99 : decode cX5_one 99 = .ok (.i2c, 1) := dk_146 (dk_at dksX5_one_4 3 rfl rfl)
theorem dX5_one_100 : decode cX5_one 100 = .ok (.istore_n 2, 1) := dk_61 (dk_at dksX5_one_4 4 rfl rfl)
theorem dX5_one_101 : decode cX5_one 101 = .ok (.aload_n 0, 1) := dk_42 (dk_at dksX5_one_4 5 rfl rfl)
theorem dX5_one_102 : decode cX5_one 102 = .ok (.invokevirtual 90, 3) := dk_182 0 90 (dk_at dksX5_one_4 6 rfl rfl)
theorem dX5_one_105 : decode cX5_one 105 = .ok (.new 257, 3) := dk_187 1 1 (dk_at dksX5_one_4 9 rfl rfl)
theorem dX5_one_108 : decode cX5_one 108 = .ok (.dup, 1) := dk_89 (dk_at dksX5_one_4 12 rfl rfl)
theorem dX5_one_109 : decode cX5_one 109 = .ok (.aload_n 1, 1) := dk_43 (dk_at dksX5_one_4 13 rfl rfl)
theorem dX5_one_110 : decode cX5_one 110 = .ok (.aload_n 0, 1) := dk_42 (dk_at dksX5_one_4 14 rfl rfl)
theorem dX5_one_111 : decode cX5_one 111 = .ok (.invokevirtual 270, 3) := dk_182 1 14 (dk_at dksX5_one_4 15 rfl rfl)
theorem dX5_one_114 : decode cX5_one 114 = .ok (.iload_n 2, 1) := dk_28 (dk_at dksX5_one_4 18 rfl rfl)
theorem dX5_one_115 : decode cX5_one 115 = .ok (.invokespecial 259, 3) := dk_183 1 3 (dk_at dksX5_one_4 19 rfl rfl)
theorem dX5_one_118 : decode cX5_one 118 = .ok (.areturn, 1) := dk_176 (dk_at dksX5_one_4 22 rfl rfl)
abbrev cX5_sum : ByteArray := prog_15_method_27_code
def yX5_sum : MethodName := ⟨RX5, "sum", "()LTrunkLitters$Node;"⟩
def dkwX5_sum_2 : List UInt8 := [167, 255, 214, 43, 176]
abbrev dktX5_sum_2 : List UInt8 := dkwX5_sum_2 ++ []
def dkwX5_sum_1 : List UInt8 := [180, 0, 46, 146, 61, 42, 182, 0, 90, 187, 1, 1, 89, 43, 42, 182, 1, 17, 28, 183, 1, 3, 76]
abbrev dktX5_sum_1 : List UInt8 := dkwX5_sum_1 ++ dktX5_sum_2
def dkwX5_sum_0 : List UInt8 := [42, 182, 1, 17, 76, 42, 180, 0, 46, 16, 43, 159, 0, 12, 42, 180, 0, 46, 16, 45, 160, 0, 30, 42]
abbrev dktX5_sum_0 : List UInt8 := dkwX5_sum_0 ++ dktX5_sum_1
theorem dksX5_sum_0 : cX5_sum.data.toList.drop 0 = dktX5_sum_0 := by decide +kernel
theorem dksX5_sum_1 : cX5_sum.data.toList.drop 24 = dktX5_sum_1 := dk_seg dksX5_sum_0 24 rfl rfl
theorem dksX5_sum_2 : cX5_sum.data.toList.drop 47 = dktX5_sum_2 := dk_seg dksX5_sum_1 23 rfl rfl
theorem dX5_sum_0 : decode cX5_sum 0 = .ok (.aload_n 0, 1) := dk_42 (dk_at dksX5_sum_0 0 rfl rfl)
theorem dX5_sum_1 : decode cX5_sum 1 = .ok (.invokevirtual 273, 3) := dk_182 1 17 (dk_at dksX5_sum_0 1 rfl rfl)
theorem dX5_sum_4 : decode cX5_sum 4 = .ok (.astore_n 1, 1) := dk_76 (dk_at dksX5_sum_0 4 rfl rfl)
theorem dX5_sum_5 : decode cX5_sum 5 = .ok (.aload_n 0, 1) := dk_42 (dk_at dksX5_sum_0 5 rfl rfl)
theorem dX5_sum_6 : decode cX5_sum 6 = .ok (.getfield 46, 3) := dk_180 0 46 (dk_at dksX5_sum_0 6 rfl rfl)
theorem dX5_sum_9 : decode cX5_sum 9 = .ok (.bipush 43, 2) := dk_16 43 (dk_at dksX5_sum_0 9 rfl rfl)
theorem dX5_sum_11 : decode cX5_sum 11 = .ok (.if_icmp .eq 12, 3) := dk_159 0 12 (dk_at dksX5_sum_0 11 rfl rfl)
theorem dX5_sum_14 : decode cX5_sum 14 = .ok (.aload_n 0, 1) := dk_42 (dk_at dksX5_sum_0 14 rfl rfl)
theorem dX5_sum_15 : decode cX5_sum 15 = .ok (.getfield 46, 3) := dk_180 0 46 (dk_at dksX5_sum_0 15 rfl rfl)
theorem dX5_sum_18 : decode cX5_sum 18 = .ok (.bipush 45, 2) := dk_16 45 (dk_at dksX5_sum_0 18 rfl rfl)
theorem dX5_sum_20 : decode cX5_sum 20 = .ok (.if_icmp .ne 30, 3) := dk_160 0 30 (dk_at dksX5_sum_0 20 rfl rfl)
theorem dX5_sum_23 : decode cX5_sum 23 = .ok (.aload_n 0, 1) := dk_42 (dk_at dksX5_sum_0 23 rfl rfl)
theorem dX5_sum_24 : decode cX5_sum 24 = .ok (.getfield 46, 3) := dk_180 0 46 (dk_at dksX5_sum_1 0 rfl rfl)
theorem dX5_sum_27 : decode cX5_sum 27 = .ok (.i2c, 1) := dk_146 (dk_at dksX5_sum_1 3 rfl rfl)
theorem dX5_sum_28 : decode cX5_sum 28 = .ok (.istore_n 2, 1) := dk_61 (dk_at dksX5_sum_1 4 rfl rfl)
theorem dX5_sum_29 : decode cX5_sum 29 = .ok (.aload_n 0, 1) := dk_42 (dk_at dksX5_sum_1 5 rfl rfl)
theorem dX5_sum_30 : decode cX5_sum 30 = .ok (.invokevirtual 90, 3) := dk_182 0 90 (dk_at dksX5_sum_1 6 rfl rfl)
theorem dX5_sum_33 : decode cX5_sum 33 = .ok (.new 257, 3) := dk_187 1 1 (dk_at dksX5_sum_1 9 rfl rfl)
theorem dX5_sum_36 : decode cX5_sum 36 = .ok (.dup, 1) := dk_89 (dk_at dksX5_sum_1 12 rfl rfl)
theorem dX5_sum_37 : decode cX5_sum 37 = .ok (.aload_n 1, 1) := dk_43 (dk_at dksX5_sum_1 13 rfl rfl)
theorem dX5_sum_38 : decode cX5_sum 38 = .ok (.aload_n 0, 1) := dk_42 (dk_at dksX5_sum_1 14 rfl rfl)
theorem dX5_sum_39 : decode cX5_sum 39 = .ok (.invokevirtual 273, 3) := dk_182 1 17 (dk_at dksX5_sum_1 15 rfl rfl)
theorem dX5_sum_42 : decode cX5_sum 42 = .ok (.iload_n 2, 1) := dk_28 (dk_at dksX5_sum_1 18 rfl rfl)
theorem dX5_sum_43 : decode cX5_sum 43 = .ok (.invokespecial 259, 3) := dk_183 1 3 (dk_at dksX5_sum_1 19 rfl rfl)
theorem dX5_sum_46 : decode cX5_sum 46 = .ok (.astore_n 1, 1) := dk_76 (dk_at dksX5_sum_1 22 rfl rfl)
theorem dX5_sum_47 : decode cX5_sum 47 = .ok (.goto (-42), 3) := dk_167 255 214 (dk_at dksX5_sum_2 0 rfl rfl)
theorem dX5_sum_50 : decode cX5_sum 50 = .ok (.aload_n 1, 1) := dk_43 (dk_at dksX5_sum_2 3 rfl rfl)
theorem dX5_sum_51 : decode cX5_sum 51 = .ok (.areturn, 1) := dk_176 (dk_at dksX5_sum_2 4 rfl rfl)
abbrev cX5_term : ByteArray := prog_15_method_28_code
def yX5_term : MethodName := ⟨RX5, "term", "()LTrunkLitters$Node;"⟩
def dkwX5_term_2 : List UInt8 := [182, 1, 20, 28, 183, 1, 3, 76, 167, 255, 205, 43, 176]
abbrev dktX5_term_2 : List UInt8 := dkwX5_term_2 ++ []
def dkwX5_term_1 : List UInt8 := [180, 0, 46, 16, 37, 160, 0, 30, 42, 180, 0, 46, 146, 61, 42, 182, 0, 90, 187, 1, 1, 89, 43, 42]
abbrev dktX5_term_1 : List UInt8 := dkwX5_term_1 ++ dktX5_term_2
def dkwX5_term_0 : List UInt8 := [42, 182, 1, 20, 76, 42, 180, 0, 46, 16, 42, 159, 0, 21, 42, 180, 0, 46, 16, 47, 159, 0, 12, 42]
abbrev dktX5_term_0 : List UInt8 := dkwX5_term_0 ++ dktX5_term_1
theorem dksX5_term_0 : cX5_term.data.toList.drop 0 = dktX5_term_0 := by decide +kernel
theorem dksX5_term_1 : cX5_term.data.toList.drop 24 = dktX5_term_1 := dk_seg dksX5_term_0 24 rfl rfl
theorem dksX5_term_2 : cX5_term.data.toList.drop 48 = dktX5_term_2 := dk_seg dksX5_term_1 24 rfl rfl
theorem dX5_term_0 : decode cX5_term 0 = .ok (.aload_n 0, 1) := dk_42 (dk_at dksX5_term_0 0 rfl rfl)
theorem dX5_term_1 : decode cX5_term 1 = .ok (.invokevirtual 276, 3) := dk_182 1 20 (dk_at dksX5_term_0 1 rfl rfl)
theorem dX5_term_4 : decode cX5_term 4 = .ok (.astore_n 1, 1) := dk_76 (dk_at dksX5_term_0 4 rfl rfl)
theorem dX5_term_5 : decode cX5_term 5 = .ok (.aload_n 0, 1) := dk_42 (dk_at dksX5_term_0 5 rfl rfl)
theorem dX5_term_6 : decode cX5_term 6 = .ok (.getfield 46, 3) := dk_180 0 46 (dk_at dksX5_term_0 6 rfl rfl)
theorem dX5_term_9 : decode cX5_term 9 = .ok (.bipush 42, 2) := dk_16 42 (dk_at dksX5_term_0 9 rfl rfl)
theorem dX5_term_11 : decode cX5_term 11 = .ok (.if_icmp .eq 21, 3) := dk_159 0 21 (dk_at dksX5_term_0 11 rfl rfl)
theorem dX5_term_14 : decode cX5_term 14 = .ok (.aload_n 0, 1) := dk_42 (dk_at dksX5_term_0 14 rfl rfl)
theorem dX5_term_15 : decode cX5_term 15 = .ok (.getfield 46, 3) := dk_180 0 46 (dk_at dksX5_term_0 15 rfl rfl)
theorem dX5_term_18 : decode cX5_term 18 = .ok (.bipush 47, 2) := dk_16 47 (dk_at dksX5_term_0 18 rfl rfl)
theorem dX5_term_20 : decode cX5_term 20 = .ok (.if_icmp .eq 12, 3) := dk_159 0 12 (dk_at dksX5_term_0 20 rfl rfl)
theorem dX5_term_23 : decode cX5_term 23 = .ok (.aload_n 0, 1) := dk_42 (dk_at dksX5_term_0 23 rfl rfl)
theorem dX5_term_24 : decode cX5_term 24 = .ok (.getfield 46, 3) := dk_180 0 46 (dk_at dksX5_term_1 0 rfl rfl)
theorem dX5_term_27 : decode cX5_term 27 = .ok (.bipush 37, 2) := dk_16 37 (dk_at dksX5_term_1 3 rfl rfl)
theorem dX5_term_29 : decode cX5_term 29 = .ok (.if_icmp .ne 30, 3) := dk_160 0 30 (dk_at dksX5_term_1 5 rfl rfl)
theorem dX5_term_32 : decode cX5_term 32 = .ok (.aload_n 0, 1) := dk_42 (dk_at dksX5_term_1 8 rfl rfl)
theorem dX5_term_33 : decode cX5_term 33 = .ok (.getfield 46, 3) := dk_180 0 46 (dk_at dksX5_term_1 9 rfl rfl)
theorem dX5_term_36 : decode cX5_term 36 = .ok (.i2c, 1) := dk_146 (dk_at dksX5_term_1 12 rfl rfl)
theorem dX5_term_37 : decode cX5_term 37 = .ok (.istore_n 2, 1) := dk_61 (dk_at dksX5_term_1 13 rfl rfl)
theorem dX5_term_38 : decode cX5_term 38 = .ok (.aload_n 0, 1) := dk_42 (dk_at dksX5_term_1 14 rfl rfl)
theorem dX5_term_39 : decode cX5_term 39 = .ok (.invokevirtual 90, 3) := dk_182 0 90 (dk_at dksX5_term_1 15 rfl rfl)
theorem dX5_term_42 : decode cX5_term 42 = .ok (.new 257, 3) := dk_187 1 1 (dk_at dksX5_term_1 18 rfl rfl)
theorem dX5_term_45 : decode cX5_term 45 = .ok (.dup, 1) := dk_89 (dk_at dksX5_term_1 21 rfl rfl)
theorem dX5_term_46 : decode cX5_term 46 = .ok (.aload_n 1, 1) := dk_43 (dk_at dksX5_term_1 22 rfl rfl)
theorem dX5_term_47 : decode cX5_term 47 = .ok (.aload_n 0, 1) := dk_42 (dk_at dksX5_term_1 23 rfl rfl)
theorem dX5_term_48 : decode cX5_term 48 = .ok (.invokevirtual 276, 3) := dk_182 1 20 (dk_at dksX5_term_2 0 rfl rfl)
theorem dX5_term_51 : decode cX5_term 51 = .ok (.iload_n 2, 1) := dk_28 (dk_at dksX5_term_2 3 rfl rfl)
theorem dX5_term_52 : decode cX5_term 52 = .ok (.invokespecial 259, 3) := dk_183 1 3 (dk_at dksX5_term_2 4 rfl rfl)
theorem dX5_term_55 : decode cX5_term 55 = .ok (.astore_n 1, 1) := dk_76 (dk_at dksX5_term_2 7 rfl rfl)
theorem dX5_term_56 : decode cX5_term 56 = .ok (.goto (-51), 3) := dk_167 255 205 (dk_at dksX5_term_2 8 rfl rfl)
theorem dX5_term_59 : decode cX5_term 59 = .ok (.aload_n 1, 1) := dk_43 (dk_at dksX5_term_2 11 rfl rfl)
theorem dX5_term_60 : decode cX5_term 60 = .ok (.areturn, 1) := dk_176 (dk_at dksX5_term_2 12 rfl rfl)
abbrev cX5_unit : ByteArray := prog_15_method_30_code
def yX5_unit : MethodName := ⟨RX5, "unit", "()LTrunkLitters$Node;"⟩
def dkwX5_unit_7 : List UInt8 := [183, 1, 49, 167, 0, 4, 43, 77, 42, 182, 0, 90, 44, 176]
abbrev dktX5_unit_7 : List UInt8 := dkwX5_unit_7 ++ []
def dkwX5_unit_6 : List UInt8 := [100, 181, 0, 245, 42, 182, 0, 90, 44, 176, 43, 199, 0, 17, 187, 1, 47, 89, 42, 180, 0, 69]
abbrev dktX5_unit_6 : List UInt8 := dkwX5_unit_6 ++ dktX5_unit_7
def dkwX5_unit_5 : List UInt8 := [182, 0, 251, 77, 42, 180, 0, 46, 16, 41, 159, 0, 8, 42, 182, 0, 96, 191, 42, 89, 180, 0, 245, 4]
abbrev dktX5_unit_5 : List UInt8 := dkwX5_unit_5 ++ dktX5_unit_6
def dkwX5_unit_4 : List UInt8 := [180, 0, 46, 16, 40, 160, 0, 52, 42, 89, 180, 0, 245, 4, 96, 181, 0, 245, 42, 182, 0, 90, 42]
abbrev dktX5_unit_4 : List UInt8 := dkwX5_unit_4 ++ dktX5_unit_5
def dkwX5_unit_3 : List UInt8 := [180, 0, 24, 89, 180, 1, 44, 4, 96, 181, 1, 44, 42, 89, 180, 0, 248, 4, 96, 181, 0, 248, 42]
abbrev dktX5_unit_3 : List UInt8 := dkwX5_unit_3 ++ dktX5_unit_4
def dkwX5_unit_2 : List UInt8 := [42, 180, 0, 46, 16, 40, 160, 0, 17, 42, 180, 0, 245, 16, 6, 164, 0, 8, 42, 182, 0, 96, 191, 42]
abbrev dktX5_unit_2 : List UInt8 := dkwX5_unit_2 ++ dktX5_unit_3
def dkwX5_unit_1 : List UInt8 := [198, 0, 42, 42, 180, 0, 24, 180, 1, 44, 16, 60, 159, 0, 30, 42, 180, 0, 248, 16, 30, 159, 0, 21]
abbrev dktX5_unit_1 : List UInt8 := dkwX5_unit_1 ++ dktX5_unit_2
def dkwX5_unit_0 : List UInt8 := [42, 182, 1, 41, 76, 42, 180, 0, 46, 5, 159, 0, 16, 42, 180, 0, 46, 16, 40, 159, 0, 7, 43]
abbrev dktX5_unit_0 : List UInt8 := dkwX5_unit_0 ++ dktX5_unit_1
theorem dksX5_unit_0 : cX5_unit.data.toList.drop 0 = dktX5_unit_0 := by decide +kernel
theorem dksX5_unit_1 : cX5_unit.data.toList.drop 23 = dktX5_unit_1 := dk_seg dksX5_unit_0 23 rfl rfl
theorem dksX5_unit_2 : cX5_unit.data.toList.drop 47 = dktX5_unit_2 := dk_seg dksX5_unit_1 24 rfl rfl
theorem dksX5_unit_3 : cX5_unit.data.toList.drop 71 = dktX5_unit_3 := dk_seg dksX5_unit_2 24 rfl rfl
theorem dksX5_unit_4 : cX5_unit.data.toList.drop 94 = dktX5_unit_4 := dk_seg dksX5_unit_3 23 rfl rfl
theorem dksX5_unit_5 : cX5_unit.data.toList.drop 117 = dktX5_unit_5 := dk_seg dksX5_unit_4 23 rfl rfl
theorem dksX5_unit_6 : cX5_unit.data.toList.drop 141 = dktX5_unit_6 := dk_seg dksX5_unit_5 24 rfl rfl
theorem dksX5_unit_7 : cX5_unit.data.toList.drop 163 = dktX5_unit_7 := dk_seg dksX5_unit_6 22 rfl rfl
theorem dX5_unit_0 : decode cX5_unit 0 = .ok (.aload_n 0, 1) := dk_42 (dk_at dksX5_unit_0 0 rfl rfl)
theorem dX5_unit_1 : decode cX5_unit 1 = .ok (.invokevirtual 297, 3) := dk_182 1 41 (dk_at dksX5_unit_0 1 rfl rfl)
theorem dX5_unit_4 : decode cX5_unit 4 = .ok (.astore_n 1, 1) := dk_76 (dk_at dksX5_unit_0 4 rfl rfl)
theorem dX5_unit_5 : decode cX5_unit 5 = .ok (.aload_n 0, 1) := dk_42 (dk_at dksX5_unit_0 5 rfl rfl)
theorem dX5_unit_6 : decode cX5_unit 6 = .ok (.getfield 46, 3) := dk_180 0 46 (dk_at dksX5_unit_0 6 rfl rfl)
theorem dX5_unit_9 : decode cX5_unit 9 = .ok (.iconst 2, 1) := dk_5 (dk_at dksX5_unit_0 9 rfl rfl)
theorem dX5_unit_10 : decode cX5_unit 10 = .ok (.if_icmp .eq 16, 3) := dk_159 0 16 (dk_at dksX5_unit_0 10 rfl rfl)
theorem dX5_unit_13 : decode cX5_unit 13 = .ok (.aload_n 0, 1) := dk_42 (dk_at dksX5_unit_0 13 rfl rfl)
theorem dX5_unit_14 : decode cX5_unit 14 = .ok (.getfield 46, 3) := dk_180 0 46 (dk_at dksX5_unit_0 14 rfl rfl)
theorem dX5_unit_17 : decode cX5_unit 17 = .ok (.bipush 40, 2) := dk_16 40 (dk_at dksX5_unit_0 17 rfl rfl)
theorem dX5_unit_19 : decode cX5_unit 19 = .ok (.if_icmp .eq 7, 3) := dk_159 0 7 (dk_at dksX5_unit_0 19 rfl rfl)
theorem dX5_unit_22 : decode cX5_unit 22 = .ok (.aload_n 1, 1) := dk_43 (dk_at dksX5_unit_0 22 rfl rfl)
theorem dX5_unit_23 : decode cX5_unit 23 = .ok (.ifnull 42, 3) := dk_198 0 42 (dk_at dksX5_unit_1 0 rfl rfl)
theorem dX5_unit_26 : decode cX5_unit 26 = .ok (.aload_n 0, 1) := dk_42 (dk_at dksX5_unit_1 3 rfl rfl)
theorem dX5_unit_27 : decode cX5_unit 27 = .ok (.getfield 24, 3) := dk_180 0 24 (dk_at dksX5_unit_1 4 rfl rfl)
theorem dX5_unit_30 : decode cX5_unit 30 = .ok (.getfield 300, 3) := dk_180 1 44 (dk_at dksX5_unit_1 7 rfl rfl)
theorem dX5_unit_33 : decode cX5_unit 33 = .ok (.bipush 60, 2) := dk_16 60 (dk_at dksX5_unit_1 10 rfl rfl)
theorem dX5_unit_35 : decode cX5_unit 35 = .ok (.if_icmp .eq 30, 3) := dk_159 0 30 (dk_at dksX5_unit_1 12 rfl rfl)
theorem dX5_unit_38 : decode cX5_unit 38 = .ok (.aload_n 0, 1) := dk_42 (dk_at dksX5_unit_1 15 rfl rfl)
theorem dX5_unit_39 : decode cX5_unit 39 = .ok (.getfield 248, 3) := dk_180 0 248 (dk_at dksX5_unit_1 16 rfl rfl)
theorem dX5_unit_42 : decode cX5_unit 42 = .ok (.bipush 30, 2) := dk_16 30 (dk_at dksX5_unit_1 19 rfl rfl)
theorem dX5_unit_44 : decode cX5_unit 44 = .ok (.if_icmp .eq 21, 3) := dk_159 0 21 (dk_at dksX5_unit_1 21 rfl rfl)
theorem dX5_unit_47 : decode cX5_unit 47 = .ok (.aload_n 0, 1) := dk_42 (dk_at dksX5_unit_2 0 rfl rfl)
theorem dX5_unit_48 : decode cX5_unit 48 = .ok (.getfield 46, 3) := dk_180 0 46 (dk_at dksX5_unit_2 1 rfl rfl)
theorem dX5_unit_51 : decode cX5_unit 51 = .ok (.bipush 40, 2) := dk_16 40 (dk_at dksX5_unit_2 4 rfl rfl)
theorem dX5_unit_53 : decode cX5_unit 53 = .ok (.if_icmp .ne 17, 3) := dk_160 0 17 (dk_at dksX5_unit_2 6 rfl rfl)
theorem dX5_unit_56 : decode cX5_unit 56 = .ok (.aload_n 0, 1) := dk_42 (dk_at dksX5_unit_2 9 rfl rfl)
theorem dX5_unit_57 : decode cX5_unit 57 = .ok (.getfield 245, 3) := dk_180 0 245 (dk_at dksX5_unit_2 10 rfl rfl)
theorem dX5_unit_60 : decode cX5_unit 60 = .ok (.bipush 6, 2) := dk_16 6 (dk_at dksX5_unit_2 13 rfl rfl)
theorem dX5_unit_62 : decode cX5_unit 62 = .ok (.if_icmp .le 8, 3) := dk_164 0 8 (dk_at dksX5_unit_2 15 rfl rfl)
theorem dX5_unit_65 : decode cX5_unit 65 = .ok (.aload_n 0, 1) := dk_42 (dk_at dksX5_unit_2 18 rfl rfl)
theorem dX5_unit_66 : decode cX5_unit 66 = .ok (.invokevirtual 96, 3) := dk_182 0 96 (dk_at dksX5_unit_2 19 rfl rfl)
theorem dX5_unit_69 : decode cX5_unit 69 = .ok (.athrow, 1) := dk_191 (dk_at dksX5_unit_2 22 rfl rfl)
theorem dX5_unit_70 : decode cX5_unit 70 = .ok (.aload_n 0, 1) := dk_42 (dk_at dksX5_unit_2 23 rfl rfl)
theorem dX5_unit_71 : decode cX5_unit 71 = .ok (.getfield 24, 3) := dk_180 0 24 (dk_at dksX5_unit_3 0 rfl rfl)
theorem dX5_unit_74 : decode cX5_unit 74 = .ok (.dup, 1) := dk_89 (dk_at dksX5_unit_3 3 rfl rfl)
theorem dX5_unit_75 : decode cX5_unit 75 = .ok (.getfield 300, 3) := dk_180 1 44 (dk_at dksX5_unit_3 4 rfl rfl)
theorem dX5_unit_78 : decode cX5_unit 78 = .ok (.iconst 1, 1) := dk_4 (dk_at dksX5_unit_3 7 rfl rfl)
theorem dX5_unit_79 : decode cX5_unit 79 = .ok (.iadd, 1) := dk_96 (dk_at dksX5_unit_3 8 rfl rfl)
theorem dX5_unit_80 : decode cX5_unit 80 = .ok (.putfield 300, 3) := dk_181 1 44 (dk_at dksX5_unit_3 9 rfl rfl)
theorem dX5_unit_83 : decode cX5_unit 83 = .ok (.aload_n 0, 1) := dk_42 (dk_at dksX5_unit_3 12 rfl rfl)
theorem dX5_unit_84 : decode cX5_unit 84 = .ok (.dup, 1) := dk_89 (dk_at dksX5_unit_3 13 rfl rfl)
theorem dX5_unit_85 : decode cX5_unit 85 = .ok (.getfield 248, 3) := dk_180 0 248 (dk_at dksX5_unit_3 14 rfl rfl)
theorem dX5_unit_88 : decode cX5_unit 88 = .ok (.iconst 1, 1) := dk_4 (dk_at dksX5_unit_3 17 rfl rfl)
theorem dX5_unit_89 : decode cX5_unit 89 = .ok (.iadd, 1) := dk_96 (dk_at dksX5_unit_3 18 rfl rfl)
theorem dX5_unit_90 : decode cX5_unit 90 = .ok (.putfield 248, 3) := dk_181 0 248 (dk_at dksX5_unit_3 19 rfl rfl)
theorem dX5_unit_93 : decode cX5_unit 93 = .ok (.aload_n 0, 1) := dk_42 (dk_at dksX5_unit_3 22 rfl rfl)
theorem dX5_unit_94 : decode cX5_unit 94 = .ok (.getfield 46, 3) := dk_180 0 46 (dk_at dksX5_unit_4 0 rfl rfl)
theorem dX5_unit_97 : decode cX5_unit 97 = .ok (.bipush 40, 2) := dk_16 40 (dk_at dksX5_unit_4 3 rfl rfl)
theorem dX5_unit_99 : decode cX5_unit 99 = .ok (.if_icmp .ne 52, 3) := dk_160 0 52 (dk_at dksX5_unit_4 5 rfl rfl)
theorem dX5_unit_102 : decode cX5_unit 102 = .ok (.aload_n 0, 1) := dk_42 (dk_at dksX5_unit_4 8 rfl rfl)
theorem dX5_unit_103 : decode cX5_unit 103 = .ok (.dup, 1) := dk_89 (dk_at dksX5_unit_4 9 rfl rfl)
theorem dX5_unit_104 : decode cX5_unit 104 = .ok (.getfield 245, 3) := dk_180 0 245 (dk_at dksX5_unit_4 10 rfl rfl)
theorem dX5_unit_107 : decode cX5_unit 107 = .ok (.iconst 1, 1) := dk_4 (dk_at dksX5_unit_4 13 rfl rfl)
theorem dX5_unit_108 : decode cX5_unit 108 = .ok (.iadd, 1) := dk_96 (dk_at dksX5_unit_4 14 rfl rfl)
theorem dX5_unit_109 : decode cX5_unit 109 = .ok (.putfield 245, 3) := dk_181 0 245 (dk_at dksX5_unit_4 15 rfl rfl)
theorem dX5_unit_112 : decode cX5_unit 112 = .ok (.aload_n 0, 1) := dk_42 (dk_at dksX5_unit_4 18 rfl rfl)
theorem dX5_unit_113 : decode cX5_unit 113 = .ok (.invokevirtual 90, 3) := dk_182 0 90 (dk_at dksX5_unit_4 19 rfl rfl)
theorem dX5_unit_116 : decode cX5_unit 116 = .ok (.aload_n 0, 1) := dk_42 (dk_at dksX5_unit_4 22 rfl rfl)
theorem dX5_unit_117 : decode cX5_unit 117 = .ok (.invokevirtual 251, 3) := dk_182 0 251 (dk_at dksX5_unit_5 0 rfl rfl)
theorem dX5_unit_120 : decode cX5_unit 120 = .ok (.astore_n 2, 1) := dk_77 (dk_at dksX5_unit_5 3 rfl rfl)
theorem dX5_unit_121 : decode cX5_unit 121 = .ok (.aload_n 0, 1) := dk_42 (dk_at dksX5_unit_5 4 rfl rfl)
theorem dX5_unit_122 : decode cX5_unit 122 = .ok (.getfield 46, 3) := dk_180 0 46 (dk_at dksX5_unit_5 5 rfl rfl)
theorem dX5_unit_125 : decode cX5_unit 125 = .ok (.bipush 41, 2) := dk_16 41 (dk_at dksX5_unit_5 8 rfl rfl)
theorem dX5_unit_127 : decode cX5_unit 127 = .ok (.if_icmp .eq 8, 3) := dk_159 0 8 (dk_at dksX5_unit_5 10 rfl rfl)
theorem dX5_unit_130 : decode cX5_unit 130 = .ok (.aload_n 0, 1) := dk_42 (dk_at dksX5_unit_5 13 rfl rfl)
theorem dX5_unit_131 : decode cX5_unit 131 = .ok (.invokevirtual 96, 3) := dk_182 0 96 (dk_at dksX5_unit_5 14 rfl rfl)
theorem dX5_unit_134 : decode cX5_unit 134 = .ok (.athrow, 1) := dk_191 (dk_at dksX5_unit_5 17 rfl rfl)
theorem dX5_unit_135 : decode cX5_unit 135 = .ok (.aload_n 0, 1) := dk_42 (dk_at dksX5_unit_5 18 rfl rfl)
theorem dX5_unit_136 : decode cX5_unit 136 = .ok (.dup, 1) := dk_89 (dk_at dksX5_unit_5 19 rfl rfl)
theorem dX5_unit_137 : decode cX5_unit 137 = .ok (.getfield 245, 3) := dk_180 0 245 (dk_at dksX5_unit_5 20 rfl rfl)
theorem dX5_unit_140 : decode cX5_unit 140 = .ok (.iconst 1, 1) := dk_4 (dk_at dksX5_unit_5 23 rfl rfl)
theorem dX5_unit_141 : decode cX5_unit 141 = .ok (.isub, 1) := dk_100 (dk_at dksX5_unit_6 0 rfl rfl)
theorem dX5_unit_142 : decode cX5_unit 142 = .ok (.putfield 245, 3) := dk_181 0 245 (dk_at dksX5_unit_6 1 rfl rfl)
theorem dX5_unit_145 : decode cX5_unit 145 = .ok (.aload_n 0, 1) := dk_42 (dk_at dksX5_unit_6 4 rfl rfl)
theorem dX5_unit_146 : decode cX5_unit 146 = .ok (.invokevirtual 90, 3) := dk_182 0 90 (dk_at dksX5_unit_6 5 rfl rfl)
theorem dX5_unit_149 : decode cX5_unit 149 = .ok (.aload_n 2, 1) := dk_44 (dk_at dksX5_unit_6 8 rfl rfl)
theorem dX5_unit_150 : decode cX5_unit 150 = .ok (.areturn, 1) := dk_176 (dk_at dksX5_unit_6 9 rfl rfl)
theorem dX5_unit_151 : decode cX5_unit 151 = .ok (.aload_n 1, 1) := dk_43 (dk_at dksX5_unit_6 10 rfl rfl)
theorem dX5_unit_152 : decode cX5_unit 152 = .ok (.ifnonnull 17, 3) := dk_199 0 17 (dk_at dksX5_unit_6 11 rfl rfl)
theorem dX5_unit_155 : decode cX5_unit 155 = .ok (.new 303, 3) := dk_187 1 47 (dk_at dksX5_unit_6 14 rfl rfl)
theorem dX5_unit_158 : decode cX5_unit 158 = .ok (.dup, 1) := dk_89 (dk_at dksX5_unit_6 17 rfl rfl)
theorem dX5_unit_159 : decode cX5_unit 159 = .ok (.aload_n 0, 1) := dk_42 (dk_at dksX5_unit_6 18 rfl rfl)
theorem dX5_unit_160 : decode cX5_unit 160 = .ok (.getfield 69, 3) := dk_180 0 69 (dk_at dksX5_unit_6 19 rfl rfl)
theorem dX5_unit_163 : decode cX5_unit 163 = .ok (.invokespecial 305, 3) := dk_183 1 49 (dk_at dksX5_unit_7 0 rfl rfl)
theorem dX5_unit_166 : decode cX5_unit 166 = .ok (.goto 4, 3) := dk_167 0 4 (dk_at dksX5_unit_7 3 rfl rfl)
theorem dX5_unit_169 : decode cX5_unit 169 = .ok (.aload_n 1, 1) := dk_43 (dk_at dksX5_unit_7 6 rfl rfl)
theorem dX5_unit_170 : decode cX5_unit 170 = .ok (.astore_n 2, 1) := dk_77 (dk_at dksX5_unit_7 7 rfl rfl)
theorem dX5_unit_171 : decode cX5_unit 171 = .ok (.aload_n 0, 1) := dk_42 (dk_at dksX5_unit_7 8 rfl rfl)
theorem dX5_unit_172 : decode cX5_unit 172 = .ok (.invokevirtual 90, 3) := dk_182 0 90 (dk_at dksX5_unit_7 9 rfl rfl)
theorem dX5_unit_175 : decode cX5_unit 175 = .ok (.aload_n 2, 1) := dk_44 (dk_at dksX5_unit_7 12 rfl rfl)
theorem dX5_unit_176 : decode cX5_unit 176 = .ok (.areturn, 1) := dk_176 (dk_at dksX5_unit_7 13 rfl rfl)
abbrev cX5_asked : ByteArray := prog_15_method_29_code
def yX5_asked : MethodName := ⟨RX5, "asked", "()LTrunkLitters$Node;"⟩
def dkwX5_asked_6 : List UInt8 := [178, 1, 23, 176, 178, 1, 29, 176, 178, 1, 32, 176, 178, 1, 35, 176, 178, 1, 38, 176, 1, 176]
abbrev dktX5_asked_6 : List UInt8 := dkwX5_asked_6 ++ []
def dkwX5_asked_5 : List UInt8 := [170, 0, 0, 0, 0, 0, 0, 56, 0, 0, 0, 0, 0, 0, 0, 4, 0, 0, 0, 36, 0, 0, 0, 40, 0, 0, 0, 44, 0, 0, 0, 48, 0, 0, 0, 52]
abbrev dktX5_asked_5 : List UInt8 := dkwX5_asked_5 ++ dktX5_asked_6
def dkwX5_asked_4 : List UInt8 := [153, 0, 19, 6, 61, 167, 0, 14, 43, 18, 138, 182, 0, 80, 153, 0, 5, 7, 61, 28]
abbrev dktX5_asked_4 : List UInt8 := dkwX5_asked_4 ++ dktX5_asked_5
def dkwX5_asked_3 : List UInt8 := [61, 167, 0, 42, 43, 18, 134, 182, 0, 80, 153, 0, 33, 5, 61, 167, 0, 28, 43, 18, 136, 182, 0, 80]
abbrev dktX5_asked_3 : List UInt8 := dkwX5_asked_3 ++ dktX5_asked_4
def dkwX5_asked_2 : List UInt8 := [43, 18, 117, 182, 0, 80, 153, 0, 61, 3, 61, 167, 0, 56, 43, 18, 132, 182, 0, 80, 153, 0, 47, 4]
abbrev dktX5_asked_2 : List UInt8 := dkwX5_asked_2 ++ dktX5_asked_3
def dkwX5_asked_1 : List UInt8 := [171, 0, 0, 0, 0, 0, 118, 0, 0, 0, 5, 0, 46, 81, 18, 0, 0, 0, 51, 0, 50, 160, 7, 0, 0, 0, 79, 0, 51, 6, 95, 0, 0, 0, 93, 0, 56, 136, 61, 0, 0, 0, 107, 5, 137, 151, 120, 0, 0, 0, 65]
abbrev dktX5_asked_1 : List UInt8 := dkwX5_asked_1 ++ dktX5_asked_2
def dkwX5_asked_0 : List UInt8 := [42, 180, 0, 46, 4, 159, 0, 5, 1, 176, 42, 180, 0, 17, 76, 2, 61, 43, 182, 0, 107]
abbrev dktX5_asked_0 : List UInt8 := dkwX5_asked_0 ++ dktX5_asked_1
theorem dksX5_asked_0 : cX5_asked.data.toList.drop 0 = dktX5_asked_0 := by decide +kernel
theorem dksX5_asked_1 : cX5_asked.data.toList.drop 21 = dktX5_asked_1 := dk_seg dksX5_asked_0 21 rfl rfl
theorem dksX5_asked_2 : cX5_asked.data.toList.drop 72 = dktX5_asked_2 := dk_seg dksX5_asked_1 51 rfl rfl
theorem dksX5_asked_3 : cX5_asked.data.toList.drop 96 = dktX5_asked_3 := dk_seg dksX5_asked_2 24 rfl rfl
theorem dksX5_asked_4 : cX5_asked.data.toList.drop 120 = dktX5_asked_4 := dk_seg dksX5_asked_3 24 rfl rfl
theorem dksX5_asked_5 : cX5_asked.data.toList.drop 140 = dktX5_asked_5 := dk_seg dksX5_asked_4 20 rfl rfl
theorem dksX5_asked_6 : cX5_asked.data.toList.drop 176 = dktX5_asked_6 := dk_seg dksX5_asked_5 36 rfl rfl
theorem dX5_asked_0 : decode cX5_asked 0 = .ok (.aload_n 0, 1) := dk_42 (dk_at dksX5_asked_0 0 rfl rfl)
theorem dX5_asked_1 : decode cX5_asked 1 = .ok (.getfield 46, 3) := dk_180 0 46 (dk_at dksX5_asked_0 1 rfl rfl)
theorem dX5_asked_4 : decode cX5_asked 4 = .ok (.iconst 1, 1) := dk_4 (dk_at dksX5_asked_0 4 rfl rfl)
theorem dX5_asked_5 : decode cX5_asked 5 = .ok (.if_icmp .eq 5, 3) := dk_159 0 5 (dk_at dksX5_asked_0 5 rfl rfl)
theorem dX5_asked_8 : decode cX5_asked 8 = .ok (.aconst_null, 1) := dk_1 (dk_at dksX5_asked_0 8 rfl rfl)
theorem dX5_asked_9 : decode cX5_asked 9 = .ok (.areturn, 1) := dk_176 (dk_at dksX5_asked_0 9 rfl rfl)
theorem dX5_asked_10 : decode cX5_asked 10 = .ok (.aload_n 0, 1) := dk_42 (dk_at dksX5_asked_0 10 rfl rfl)
theorem dX5_asked_11 : decode cX5_asked 11 = .ok (.getfield 17, 3) := dk_180 0 17 (dk_at dksX5_asked_0 11 rfl rfl)
theorem dX5_asked_14 : decode cX5_asked 14 = .ok (.astore_n 1, 1) := dk_76 (dk_at dksX5_asked_0 14 rfl rfl)
theorem dX5_asked_15 : decode cX5_asked 15 = .ok (.iconst (-1), 1) := dk_2 (dk_at dksX5_asked_0 15 rfl rfl)
theorem dX5_asked_16 : decode cX5_asked 16 = .ok (.istore_n 2, 1) := dk_61 (dk_at dksX5_asked_0 16 rfl rfl)
theorem dX5_asked_17 : decode cX5_asked 17 = .ok (.aload_n 1, 1) := dk_43 (dk_at dksX5_asked_0 17 rfl rfl)
theorem dX5_asked_18 : decode cX5_asked 18 = .ok (.invokevirtual 107, 3) := dk_182 0 107 (dk_at dksX5_asked_0 18 rfl rfl)
theorem dX5_asked_21 : decode cX5_asked 21 = .ok (.lookupswitch 118 #[(3035410, 51), (3317767, 79), (3343967, 93), (3704893, 107), (92903288, 65)], 51) := by decide +kernel
theorem dX5_asked_72 : decode cX5_asked 72 = .ok (.aload_n 1, 1) := dk_43 (dk_at dksX5_asked_2 0 rfl rfl)
theorem dX5_asked_73 : decode cX5_asked 73 = .ok (.ldc 117, 2) := dk_18 117 (dk_at dksX5_asked_2 1 rfl rfl)
theorem dX5_asked_75 : decode cX5_asked 75 = .ok (.invokevirtual 80, 3) := dk_182 0 80 (dk_at dksX5_asked_2 3 rfl rfl)
theorem dX5_asked_78 : decode cX5_asked 78 = .ok (.ifCond .eq 61, 3) := dk_153 0 61 (dk_at dksX5_asked_2 6 rfl rfl)
theorem dX5_asked_81 : decode cX5_asked 81 = .ok (.iconst 0, 1) := dk_3 (dk_at dksX5_asked_2 9 rfl rfl)
theorem dX5_asked_82 : decode cX5_asked 82 = .ok (.istore_n 2, 1) := dk_61 (dk_at dksX5_asked_2 10 rfl rfl)
theorem dX5_asked_83 : decode cX5_asked 83 = .ok (.goto 56, 3) := dk_167 0 56 (dk_at dksX5_asked_2 11 rfl rfl)
theorem dX5_asked_86 : decode cX5_asked 86 = .ok (.aload_n 1, 1) := dk_43 (dk_at dksX5_asked_2 14 rfl rfl)
theorem dX5_asked_87 : decode cX5_asked 87 = .ok (.ldc 132, 2) := dk_18 132 (dk_at dksX5_asked_2 15 rfl rfl)
theorem dX5_asked_89 : decode cX5_asked 89 = .ok (.invokevirtual 80, 3) := dk_182 0 80 (dk_at dksX5_asked_2 17 rfl rfl)
theorem dX5_asked_92 : decode cX5_asked 92 = .ok (.ifCond .eq 47, 3) := dk_153 0 47 (dk_at dksX5_asked_2 20 rfl rfl)
theorem dX5_asked_95 : decode cX5_asked 95 = .ok (.iconst 1, 1) := dk_4 (dk_at dksX5_asked_2 23 rfl rfl)
theorem dX5_asked_96 : decode cX5_asked 96 = .ok (.istore_n 2, 1) := dk_61 (dk_at dksX5_asked_3 0 rfl rfl)
theorem dX5_asked_97 : decode cX5_asked 97 = .ok (.goto 42, 3) := dk_167 0 42 (dk_at dksX5_asked_3 1 rfl rfl)
theorem dX5_asked_100 : decode cX5_asked 100 = .ok (.aload_n 1, 1) := dk_43 (dk_at dksX5_asked_3 4 rfl rfl)
theorem dX5_asked_101 : decode cX5_asked 101 = .ok (.ldc 134, 2) := dk_18 134 (dk_at dksX5_asked_3 5 rfl rfl)
theorem dX5_asked_103 : decode cX5_asked 103 = .ok (.invokevirtual 80, 3) := dk_182 0 80 (dk_at dksX5_asked_3 7 rfl rfl)
theorem dX5_asked_106 : decode cX5_asked 106 = .ok (.ifCond .eq 33, 3) := dk_153 0 33 (dk_at dksX5_asked_3 10 rfl rfl)
theorem dX5_asked_109 : decode cX5_asked 109 = .ok (.iconst 2, 1) := dk_5 (dk_at dksX5_asked_3 13 rfl rfl)
theorem dX5_asked_110 : decode cX5_asked 110 = .ok (.istore_n 2, 1) := dk_61 (dk_at dksX5_asked_3 14 rfl rfl)
theorem dX5_asked_111 : decode cX5_asked 111 = .ok (.goto 28, 3) := dk_167 0 28 (dk_at dksX5_asked_3 15 rfl rfl)
theorem dX5_asked_114 : decode cX5_asked 114 = .ok (.aload_n 1, 1) := dk_43 (dk_at dksX5_asked_3 18 rfl rfl)
theorem dX5_asked_115 : decode cX5_asked 115 = .ok (.ldc 136, 2) := dk_18 136 (dk_at dksX5_asked_3 19 rfl rfl)
theorem dX5_asked_117 : decode cX5_asked 117 = .ok (.invokevirtual 80, 3) := dk_182 0 80 (dk_at dksX5_asked_3 21 rfl rfl)
theorem dX5_asked_120 : decode cX5_asked 120 = .ok (.ifCond .eq 19, 3) := dk_153 0 19 (dk_at dksX5_asked_4 0 rfl rfl)
theorem dX5_asked_123 : decode cX5_asked 123 = .ok (.iconst 3, 1) := dk_6 (dk_at dksX5_asked_4 3 rfl rfl)
theorem dX5_asked_124 : decode cX5_asked 124 = .ok (.istore_n 2, 1) := dk_61 (dk_at dksX5_asked_4 4 rfl rfl)
theorem dX5_asked_125 : decode cX5_asked 125 = .ok (.goto 14, 3) := dk_167 0 14 (dk_at dksX5_asked_4 5 rfl rfl)
theorem dX5_asked_128 : decode cX5_asked 128 = .ok (.aload_n 1, 1) := dk_43 (dk_at dksX5_asked_4 8 rfl rfl)
theorem dX5_asked_129 : decode cX5_asked 129 = .ok (.ldc 138, 2) := dk_18 138 (dk_at dksX5_asked_4 9 rfl rfl)
theorem dX5_asked_131 : decode cX5_asked 131 = .ok (.invokevirtual 80, 3) := dk_182 0 80 (dk_at dksX5_asked_4 11 rfl rfl)
theorem dX5_asked_134 : decode cX5_asked 134 = .ok (.ifCond .eq 5, 3) := dk_153 0 5 (dk_at dksX5_asked_4 14 rfl rfl)
theorem dX5_asked_137 : decode cX5_asked 137 = .ok (.iconst 4, 1) := dk_7 (dk_at dksX5_asked_4 17 rfl rfl)
theorem dX5_asked_138 : decode cX5_asked 138 = .ok (.istore_n 2, 1) := dk_61 (dk_at dksX5_asked_4 18 rfl rfl)
theorem dX5_asked_139 : decode cX5_asked 139 = .ok (.iload_n 2, 1) := dk_28 (dk_at dksX5_asked_4 19 rfl rfl)
theorem dX5_asked_140 : decode cX5_asked 140 = .ok (.tableswitch 56 0 4 #[36, 40, 44, 48, 52], 36) := by decide +kernel
theorem dX5_asked_176 : decode cX5_asked 176 = .ok (.getstatic 279, 3) := dk_178 1 23 (dk_at dksX5_asked_6 0 rfl rfl)
theorem dX5_asked_179 : decode cX5_asked 179 = .ok (.areturn, 1) := dk_176 (dk_at dksX5_asked_6 3 rfl rfl)
theorem dX5_asked_180 : decode cX5_asked 180 = .ok (.getstatic 285, 3) := dk_178 1 29 (dk_at dksX5_asked_6 4 rfl rfl)
theorem dX5_asked_183 : decode cX5_asked 183 = .ok (.areturn, 1) := dk_176 (dk_at dksX5_asked_6 7 rfl rfl)
theorem dX5_asked_184 : decode cX5_asked 184 = .ok (.getstatic 288, 3) := dk_178 1 32 (dk_at dksX5_asked_6 8 rfl rfl)
theorem dX5_asked_187 : decode cX5_asked 187 = .ok (.areturn, 1) := dk_176 (dk_at dksX5_asked_6 11 rfl rfl)
theorem dX5_asked_188 : decode cX5_asked 188 = .ok (.getstatic 291, 3) := dk_178 1 35 (dk_at dksX5_asked_6 12 rfl rfl)
theorem dX5_asked_191 : decode cX5_asked 191 = .ok (.areturn, 1) := dk_176 (dk_at dksX5_asked_6 15 rfl rfl)
theorem dX5_asked_192 : decode cX5_asked 192 = .ok (.getstatic 294, 3) := dk_178 1 38 (dk_at dksX5_asked_6 16 rfl rfl)
theorem dX5_asked_195 : decode cX5_asked 195 = .ok (.areturn, 1) := dk_176 (dk_at dksX5_asked_6 19 rfl rfl)
theorem dX5_asked_196 : decode cX5_asked 196 = .ok (.aconst_null, 1) := dk_1 (dk_at dksX5_asked_6 20 rfl rfl)
theorem dX5_asked_197 : decode cX5_asked 197 = .ok (.areturn, 1) := dk_176 (dk_at dksX5_asked_6 21 rfl rfl)
abbrev cX5_readPines : ByteArray := prog_15_method_20_code
def yX5_readPines : MethodName := ⟨RX5, "readPines", "()V"⟩
def dkwX5_readPines_0 : List UInt8 := [42, 182, 0, 90, 42, 4, 181, 0, 181, 42, 180, 0, 24, 42, 4, 16, 9, 182, 0, 104, 181, 0, 238, 177]
abbrev dktX5_readPines_0 : List UInt8 := dkwX5_readPines_0 ++ []
theorem dksX5_readPines_0 : cX5_readPines.data.toList.drop 0 = dktX5_readPines_0 := by decide +kernel
theorem dX5_readPines_0 : decode cX5_readPines 0 = .ok (.aload_n 0, 1) := dk_42 (dk_at dksX5_readPines_0 0 rfl rfl)
theorem dX5_readPines_1 : decode cX5_readPines 1 = .ok (.invokevirtual 90, 3) := dk_182 0 90 (dk_at dksX5_readPines_0 1 rfl rfl)
theorem dX5_readPines_4 : decode cX5_readPines 4 = .ok (.aload_n 0, 1) := dk_42 (dk_at dksX5_readPines_0 4 rfl rfl)
theorem dX5_readPines_5 : decode cX5_readPines 5 = .ok (.iconst 1, 1) := dk_4 (dk_at dksX5_readPines_0 5 rfl rfl)
theorem dX5_readPines_6 : decode cX5_readPines 6 = .ok (.putfield 181, 3) := dk_181 0 181 (dk_at dksX5_readPines_0 6 rfl rfl)
theorem dX5_readPines_9 : decode cX5_readPines 9 = .ok (.aload_n 0, 1) := dk_42 (dk_at dksX5_readPines_0 9 rfl rfl)
theorem dX5_readPines_10 : decode cX5_readPines 10 = .ok (.getfield 24, 3) := dk_180 0 24 (dk_at dksX5_readPines_0 10 rfl rfl)
theorem dX5_readPines_13 : decode cX5_readPines 13 = .ok (.aload_n 0, 1) := dk_42 (dk_at dksX5_readPines_0 13 rfl rfl)
theorem dX5_readPines_14 : decode cX5_readPines 14 = .ok (.iconst 1, 1) := dk_4 (dk_at dksX5_readPines_0 14 rfl rfl)
theorem dX5_readPines_15 : decode cX5_readPines 15 = .ok (.bipush 9, 2) := dk_16 9 (dk_at dksX5_readPines_0 15 rfl rfl)
theorem dX5_readPines_17 : decode cX5_readPines 17 = .ok (.invokevirtual 104, 3) := dk_182 0 104 (dk_at dksX5_readPines_0 17 rfl rfl)
theorem dX5_readPines_20 : decode cX5_readPines 20 = .ok (.putfield 238, 3) := dk_181 0 238 (dk_at dksX5_readPines_0 20 rfl rfl)
theorem dX5_readPines_23 : decode cX5_readPines 23 = .ok (.return_, 1) := dk_177 (dk_at dksX5_readPines_0 23 rfl rfl)
abbrev cX5_readTales : ByteArray := prog_15_method_21_code
def yX5_readTales : MethodName := ⟨RX5, "readTales", "()V"⟩
def dkwX5_readTales_0 : List UInt8 := [42, 182, 0, 90, 42, 4, 181, 0, 188, 42, 180, 0, 24, 42, 3, 16, 99, 182, 0, 104, 181, 0, 240, 177]
abbrev dktX5_readTales_0 : List UInt8 := dkwX5_readTales_0 ++ []
theorem dksX5_readTales_0 : cX5_readTales.data.toList.drop 0 = dktX5_readTales_0 := by decide +kernel
theorem dX5_readTales_0 : decode cX5_readTales 0 = .ok (.aload_n 0, 1) := dk_42 (dk_at dksX5_readTales_0 0 rfl rfl)
theorem dX5_readTales_1 : decode cX5_readTales 1 = .ok (.invokevirtual 90, 3) := dk_182 0 90 (dk_at dksX5_readTales_0 1 rfl rfl)
theorem dX5_readTales_4 : decode cX5_readTales 4 = .ok (.aload_n 0, 1) := dk_42 (dk_at dksX5_readTales_0 4 rfl rfl)
theorem dX5_readTales_5 : decode cX5_readTales 5 = .ok (.iconst 1, 1) := dk_4 (dk_at dksX5_readTales_0 5 rfl rfl)
theorem dX5_readTales_6 : decode cX5_readTales 6 = .ok (.putfield 188, 3) := dk_181 0 188 (dk_at dksX5_readTales_0 6 rfl rfl)
theorem dX5_readTales_9 : decode cX5_readTales 9 = .ok (.aload_n 0, 1) := dk_42 (dk_at dksX5_readTales_0 9 rfl rfl)
theorem dX5_readTales_10 : decode cX5_readTales 10 = .ok (.getfield 24, 3) := dk_180 0 24 (dk_at dksX5_readTales_0 10 rfl rfl)
theorem dX5_readTales_13 : decode cX5_readTales 13 = .ok (.aload_n 0, 1) := dk_42 (dk_at dksX5_readTales_0 13 rfl rfl)
theorem dX5_readTales_14 : decode cX5_readTales 14 = .ok (.iconst 0, 1) := dk_3 (dk_at dksX5_readTales_0 14 rfl rfl)
theorem dX5_readTales_15 : decode cX5_readTales 15 = .ok (.bipush 99, 2) := dk_16 99 (dk_at dksX5_readTales_0 15 rfl rfl)
theorem dX5_readTales_17 : decode cX5_readTales 17 = .ok (.invokevirtual 104, 3) := dk_182 0 104 (dk_at dksX5_readTales_0 17 rfl rfl)
theorem dX5_readTales_20 : decode cX5_readTales 20 = .ok (.putfield 240, 3) := dk_181 0 240 (dk_at dksX5_readTales_0 20 rfl rfl)
theorem dX5_readTales_23 : decode cX5_readTales 23 = .ok (.return_, 1) := dk_177 (dk_at dksX5_readTales_0 23 rfl rfl)
abbrev cX5_readDraw : ByteArray := prog_15_method_22_code
def yX5_readDraw : MethodName := ⟨RX5, "readDraw", "()V"⟩
def dkwX5_readDraw_1 : List UInt8 := [177]
abbrev dktX5_readDraw_1 : List UInt8 := dkwX5_readDraw_1 ++ []
def dkwX5_readDraw_0 : List UInt8 := [42, 182, 0, 90, 42, 4, 181, 0, 194, 42, 180, 0, 24, 42, 3, 17, 3, 231, 182, 0, 104, 181, 0, 242]
abbrev dktX5_readDraw_0 : List UInt8 := dkwX5_readDraw_0 ++ dktX5_readDraw_1
theorem dksX5_readDraw_0 : cX5_readDraw.data.toList.drop 0 = dktX5_readDraw_0 := by decide +kernel
theorem dksX5_readDraw_1 : cX5_readDraw.data.toList.drop 24 = dktX5_readDraw_1 := dk_seg dksX5_readDraw_0 24 rfl rfl
theorem dX5_readDraw_0 : decode cX5_readDraw 0 = .ok (.aload_n 0, 1) := dk_42 (dk_at dksX5_readDraw_0 0 rfl rfl)
theorem dX5_readDraw_1 : decode cX5_readDraw 1 = .ok (.invokevirtual 90, 3) := dk_182 0 90 (dk_at dksX5_readDraw_0 1 rfl rfl)
theorem dX5_readDraw_4 : decode cX5_readDraw 4 = .ok (.aload_n 0, 1) := dk_42 (dk_at dksX5_readDraw_0 4 rfl rfl)
theorem dX5_readDraw_5 : decode cX5_readDraw 5 = .ok (.iconst 1, 1) := dk_4 (dk_at dksX5_readDraw_0 5 rfl rfl)
theorem dX5_readDraw_6 : decode cX5_readDraw 6 = .ok (.putfield 194, 3) := dk_181 0 194 (dk_at dksX5_readDraw_0 6 rfl rfl)
theorem dX5_readDraw_9 : decode cX5_readDraw 9 = .ok (.aload_n 0, 1) := dk_42 (dk_at dksX5_readDraw_0 9 rfl rfl)
theorem dX5_readDraw_10 : decode cX5_readDraw 10 = .ok (.getfield 24, 3) := dk_180 0 24 (dk_at dksX5_readDraw_0 10 rfl rfl)
theorem dX5_readDraw_13 : decode cX5_readDraw 13 = .ok (.aload_n 0, 1) := dk_42 (dk_at dksX5_readDraw_0 13 rfl rfl)
theorem dX5_readDraw_14 : decode cX5_readDraw 14 = .ok (.iconst 0, 1) := dk_3 (dk_at dksX5_readDraw_0 14 rfl rfl)
theorem dX5_readDraw_15 : decode cX5_readDraw 15 = .ok (.sipush 999, 3) := dk_17 3 231 (dk_at dksX5_readDraw_0 15 rfl rfl)
theorem dX5_readDraw_18 : decode cX5_readDraw 18 = .ok (.invokevirtual 104, 3) := dk_182 0 104 (dk_at dksX5_readDraw_0 18 rfl rfl)
theorem dX5_readDraw_21 : decode cX5_readDraw 21 = .ok (.putfield 242, 3) := dk_181 0 242 (dk_at dksX5_readDraw_0 21 rfl rfl)
theorem dX5_readDraw_24 : decode cX5_readDraw 24 = .ok (.return_, 1) := dk_177 (dk_at dksX5_readDraw_1 0 rfl rfl)
theorem q133 : (Jvm.Cond.initialized "TrunkLitters$Reader") ∈ lw_all := lw_g (lw_at lw_m1 11 rfl) rfl
theorem q229 : (Jvm.Cond.fieldLink "TrunkLitters$Reader" (157 : Nat) "TrunkLitters$Book" "rooms" "Ljava/util/ArrayList;") ∈ lw_all := lw_g (lw_at lw_m1 107 rfl) rfl
theorem q233 : (Jvm.Cond.fieldLink "TrunkLitters$Reader" (169 : Nat) "TrunkLitters$Book" "trunks" "Ljava/util/ArrayList;") ∈ lw_all := lw_g (lw_at lw_m1 111 rfl) rfl
theorem q237 : (Jvm.Cond.fieldLink "TrunkLitters$Reader" (175 : Nat) "TrunkLitters$Book" "brood" "LTrunkLitters$Node;") ∈ lw_all := lw_g (lw_at lw_m1 115 rfl) rfl
theorem q240 : (Jvm.Cond.fieldLink "TrunkLitters$Reader" (238 : Nat) "TrunkLitters$Book" "pines" "I") ∈ lw_all := lw_g (lw_at lw_m1 118 rfl) rfl
theorem q243 : (Jvm.Cond.fieldLink "TrunkLitters$Reader" (240 : Nat) "TrunkLitters$Book" "tales" "I") ∈ lw_all := lw_g (lw_at lw_m1 121 rfl) rfl
theorem q245 : (Jvm.Cond.fieldLink "TrunkLitters$Reader" (242 : Nat) "TrunkLitters$Book" "seed" "I") ∈ lw_all := lw_g (lw_at lw_m1 123 rfl) rfl
theorem q246 : (Jvm.Cond.fieldLink "TrunkLitters$Reader" (300 : Nat) "TrunkLitters$Book" "units" "I") ∈ lw_all := lw_g (lw_at lw_m1 124 rfl) rfl
theorem q364 : (Jvm.Cond.fieldLinkNest "TrunkLitters$Reader" (35 : Nat) "TrunkLitters" "tape" "[B" "TrunkLitters") ∈ lw_tbl := lw_at lw_m2 2 rfl
theorem q366 : (Jvm.Cond.fieldLinkNest "TrunkLitters$Reader" (32 : Nat) "TrunkLitters" "taped" "I" "TrunkLitters") ∈ lw_tbl := lw_at lw_m2 4 rfl
theorem q461 : (Jvm.Cond.instantiable "TrunkLitters$Reader" (12 : Nat)) ∈ lw_all := lw_g (lw_at lw_m2 99 rfl) rfl
theorem q463 : (Jvm.Cond.instanceMethod ({ cls := "TrunkLitters$Reader", name := "<init>", desc := "(LTrunkLitters;)V" } : Jvm.MethodName)) ∈ lw_all := lw_g (lw_at lw_m2 101 rfl) rfl
theorem q464 : (Jvm.Cond.code ({ cls := "TrunkLitters$Reader", name := "<init>", desc := "(LTrunkLitters;)V" } : Jvm.MethodName) prog_15_method_1_code (2 : Nat) (Option.none : Option Jvm.ClassFile.FieldType)) ∈ lw_all := lw_g (lw_at lw_m2 102 rfl) rfl
theorem q465 : (Jvm.Cond.methodLink "TrunkLitters$Reader" (9 : Nat) ({ cls := "java/lang/Object", name := "<init>", desc := "()V" } : Jvm.MethodName)) ∈ lw_all := lw_g (lw_at lw_m2 103 rfl) rfl
theorem q466 : (Jvm.Cond.stringRef "TrunkLitters$Reader" (15 : Nat) "") ∈ lw_tbl := lw_at lw_m2 104 rfl
theorem q467 : (Jvm.Cond.classLink "TrunkLitters$Reader" (21 : Nat) "TrunkLitters$Book") ∈ lw_all := lw_g (lw_at lw_m2 105 rfl) rfl
theorem q468 : (Jvm.Cond.methodLinkNest "TrunkLitters$Reader" (23 : Nat) ({ cls := "TrunkLitters$Book", name := "<init>", desc := "()V" } : Jvm.MethodName) "TrunkLitters") ∈ lw_tbl := lw_at lw_m2 106 rfl
theorem q469 : (Jvm.Cond.fieldLink "TrunkLitters$Reader" (28 : Nat) "TrunkLitters$Reader" "at" "I") ∈ lw_all := lw_g (lw_at lw_m2 107 rfl) rfl
theorem q470 : (Jvm.Cond.fieldLink "TrunkLitters$Reader" (46 : Nat) "TrunkLitters$Reader" "sort" "I") ∈ lw_all := lw_g (lw_at lw_m2 108 rfl) rfl
theorem q471 : (Jvm.Cond.fieldLink "TrunkLitters$Reader" (43 : Nat) "TrunkLitters$Reader" "place" "I") ∈ lw_all := lw_g (lw_at lw_m2 109 rfl) rfl
theorem q472 : (Jvm.Cond.fieldLink "TrunkLitters$Reader" (69 : Nat) "TrunkLitters$Reader" "number" "I") ∈ lw_all := lw_g (lw_at lw_m2 110 rfl) rfl
theorem q473 : (Jvm.Cond.fieldLink "TrunkLitters$Reader" (245 : Nat) "TrunkLitters$Reader" "deep" "I") ∈ lw_all := lw_g (lw_at lw_m2 111 rfl) rfl
theorem q474 : (Jvm.Cond.fieldLink "TrunkLitters$Reader" (248 : Nat) "TrunkLitters$Reader" "own" "I") ∈ lw_all := lw_g (lw_at lw_m2 112 rfl) rfl
theorem q475 : (Jvm.Cond.fieldLink "TrunkLitters$Reader" (181 : Nat) "TrunkLitters$Reader" "hasPines" "Z") ∈ lw_all := lw_g (lw_at lw_m2 113 rfl) rfl
theorem q476 : (Jvm.Cond.fieldLink "TrunkLitters$Reader" (188 : Nat) "TrunkLitters$Reader" "hasTales" "Z") ∈ lw_all := lw_g (lw_at lw_m2 114 rfl) rfl
theorem q477 : (Jvm.Cond.fieldLink "TrunkLitters$Reader" (194 : Nat) "TrunkLitters$Reader" "hasDraw" "Z") ∈ lw_all := lw_g (lw_at lw_m2 115 rfl) rfl
theorem q478 : (Jvm.Cond.fieldLink "TrunkLitters$Reader" (17 : Nat) "TrunkLitters$Reader" "word" "Ljava/lang/String;") ∈ lw_all := lw_g (lw_at lw_m2 116 rfl) rfl
theorem q479 : (Jvm.Cond.fieldLink "TrunkLitters$Reader" (24 : Nat) "TrunkLitters$Reader" "made" "LTrunkLitters$Book;") ∈ lw_all := lw_g (lw_at lw_m2 117 rfl) rfl
theorem q480 : (Jvm.Cond.fieldLink "TrunkLitters$Reader" (3 : Nat) "TrunkLitters$Reader" "this$0" "LTrunkLitters;") ∈ lw_all := lw_g (lw_at lw_m2 118 rfl) rfl
theorem q481 : (Jvm.Cond.lays "TrunkLitters$Reader" "TrunkLitters$Reader" "at" "I") ∈ lw_all := lw_g (lw_at lw_m2 119 rfl) rfl
theorem q482 : (Jvm.Cond.soleField "TrunkLitters$Reader" "at") ∈ lw_all := lw_g (lw_at lw_m2 120 rfl) rfl
theorem q483 : (Jvm.Cond.lays "TrunkLitters$Reader" "TrunkLitters$Reader" "sort" "I") ∈ lw_all := lw_g (lw_at lw_m2 121 rfl) rfl
theorem q484 : (Jvm.Cond.soleField "TrunkLitters$Reader" "sort") ∈ lw_all := lw_g (lw_at lw_m2 122 rfl) rfl
theorem q485 : (Jvm.Cond.lays "TrunkLitters$Reader" "TrunkLitters$Reader" "place" "I") ∈ lw_all := lw_g (lw_at lw_m2 123 rfl) rfl
theorem q486 : (Jvm.Cond.soleField "TrunkLitters$Reader" "place") ∈ lw_all := lw_g (lw_at lw_m2 124 rfl) rfl
theorem q487 : (Jvm.Cond.lays "TrunkLitters$Reader" "TrunkLitters$Reader" "number" "I") ∈ lw_all := lw_g (lw_at lw_m2 125 rfl) rfl
theorem q488 : (Jvm.Cond.soleField "TrunkLitters$Reader" "number") ∈ lw_all := lw_g (lw_at lw_m2 126 rfl) rfl
theorem q489 : (Jvm.Cond.lays "TrunkLitters$Reader" "TrunkLitters$Reader" "deep" "I") ∈ lw_all := lw_g (lw_at lw_m2 127 rfl) rfl
theorem q490 : (Jvm.Cond.soleField "TrunkLitters$Reader" "deep") ∈ lw_all := lw_g (lw_at lw_m2 128 rfl) rfl
theorem q491 : (Jvm.Cond.lays "TrunkLitters$Reader" "TrunkLitters$Reader" "own" "I") ∈ lw_all := lw_g (lw_at lw_m2 129 rfl) rfl
theorem q492 : (Jvm.Cond.soleField "TrunkLitters$Reader" "own") ∈ lw_all := lw_g (lw_at lw_m2 130 rfl) rfl
theorem q493 : (Jvm.Cond.lays "TrunkLitters$Reader" "TrunkLitters$Reader" "hasPines" "Z") ∈ lw_all := lw_g (lw_at lw_m2 131 rfl) rfl
theorem q494 : (Jvm.Cond.soleField "TrunkLitters$Reader" "hasPines") ∈ lw_all := lw_g (lw_at lw_m2 132 rfl) rfl
theorem q495 : (Jvm.Cond.lays "TrunkLitters$Reader" "TrunkLitters$Reader" "hasTales" "Z") ∈ lw_all := lw_g (lw_at lw_m2 133 rfl) rfl
theorem q496 : (Jvm.Cond.soleField "TrunkLitters$Reader" "hasTales") ∈ lw_all := lw_g (lw_at lw_m2 134 rfl) rfl
theorem q497 : (Jvm.Cond.lays "TrunkLitters$Reader" "TrunkLitters$Reader" "hasDraw" "Z") ∈ lw_all := lw_g (lw_at lw_m2 135 rfl) rfl
theorem q498 : (Jvm.Cond.soleField "TrunkLitters$Reader" "hasDraw") ∈ lw_all := lw_g (lw_at lw_m2 136 rfl) rfl
theorem q499 : (Jvm.Cond.lays "TrunkLitters$Reader" "TrunkLitters$Reader" "word" "Ljava/lang/String;") ∈ lw_all := lw_g (lw_at lw_m2 137 rfl) rfl
theorem q500 : (Jvm.Cond.soleField "TrunkLitters$Reader" "word") ∈ lw_all := lw_g (lw_at lw_m2 138 rfl) rfl
theorem q501 : (Jvm.Cond.laysFinal "TrunkLitters$Reader" "TrunkLitters$Reader" "made" "LTrunkLitters$Book;") ∈ lw_all := lw_g (lw_at lw_m2 139 rfl) rfl
theorem q502 : (Jvm.Cond.soleField "TrunkLitters$Reader" "made") ∈ lw_all := lw_g (lw_at lw_m2 140 rfl) rfl
theorem q503 : (Jvm.Cond.laysFinal "TrunkLitters$Reader" "TrunkLitters$Reader" "this$0" "LTrunkLitters;") ∈ lw_all := lw_g (lw_at lw_m2 141 rfl) rfl
theorem q504 : (Jvm.Cond.soleField "TrunkLitters$Reader" "this$0") ∈ lw_all := lw_g (lw_at lw_m2 142 rfl) rfl
theorem q505 : (Jvm.Cond.superclass "TrunkLitters$Reader" "java/lang/Object") ∈ lw_all := lw_g (lw_at lw_m2 143 rfl) rfl
theorem q507 : (Jvm.Cond.instanceMethod ({ cls := "TrunkLitters$Reader", name := "text", desc := "()LTrunkLitters$Book;" } : Jvm.MethodName)) ∈ lw_all := lw_g (lw_at lw_m2 145 rfl) rfl
theorem q508 : (Jvm.Cond.selects "TrunkLitters$Reader" ({ cls := "TrunkLitters$Reader", name := "text", desc := "()LTrunkLitters$Book;" } : Jvm.MethodName) ({ cls := "TrunkLitters$Reader", name := "text", desc := "()LTrunkLitters$Book;" } : Jvm.MethodName)) ∈ lw_all := lw_g (lw_at lw_m2 146 rfl) rfl
theorem q509 : (Jvm.Cond.code ({ cls := "TrunkLitters$Reader", name := "text", desc := "()LTrunkLitters$Book;" } : Jvm.MethodName) prog_15_method_15_code (1 : Nat) (Option.some (Jvm.ClassFile.FieldType.object "TrunkLitters$Book"))) ∈ lw_all := lw_g (lw_at lw_m2 147 rfl) rfl
theorem q510 : (Jvm.Cond.methodLink "TrunkLitters$Reader" (90 : Nat) ({ cls := "TrunkLitters$Reader", name := "go", desc := "()V" } : Jvm.MethodName)) ∈ lw_all := lw_g (lw_at lw_m2 148 rfl) rfl
theorem q511 : (Jvm.Cond.privateMethod ({ cls := "TrunkLitters$Reader", name := "go", desc := "()V" } : Jvm.MethodName)) ∈ lw_tbl := lw_at lw_m2 149 rfl
theorem q512 : (Jvm.Cond.instanceMethod ({ cls := "TrunkLitters$Reader", name := "go", desc := "()V" } : Jvm.MethodName)) ∈ lw_all := lw_g (lw_at lw_m2 150 rfl) rfl
theorem q513 : (Jvm.Cond.code ({ cls := "TrunkLitters$Reader", name := "go", desc := "()V" } : Jvm.MethodName) prog_15_method_6_code (4 : Nat) (Option.none : Option Jvm.ClassFile.FieldType)) ∈ lw_all := lw_g (lw_at lw_m2 151 rfl) rfl
theorem q514 : (Jvm.Cond.methodLink "TrunkLitters$Reader" (39 : Nat) ({ cls := "TrunkLitters$Reader", name := "here", desc := "(I)I" } : Jvm.MethodName)) ∈ lw_all := lw_g (lw_at lw_m2 152 rfl) rfl
theorem q515 : (Jvm.Cond.privateMethod ({ cls := "TrunkLitters$Reader", name := "here", desc := "(I)I" } : Jvm.MethodName)) ∈ lw_tbl := lw_at lw_m2 153 rfl
theorem q516 : (Jvm.Cond.instanceMethod ({ cls := "TrunkLitters$Reader", name := "here", desc := "(I)I" } : Jvm.MethodName)) ∈ lw_all := lw_g (lw_at lw_m2 154 rfl) rfl
theorem q517 : (Jvm.Cond.code ({ cls := "TrunkLitters$Reader", name := "here", desc := "(I)I" } : Jvm.MethodName) prog_15_method_2_code (2 : Nat) (Option.some Jvm.ClassFile.FieldType.int)) ∈ lw_all := lw_g (lw_at lw_m2 155 rfl) rfl
theorem q518 : (Jvm.Cond.methodLink "TrunkLitters$Reader" (49 : Nat) ({ cls := "TrunkLitters$Reader", name := "isLetter", desc := "(I)Z" } : Jvm.MethodName)) ∈ lw_all := lw_g (lw_at lw_m2 156 rfl) rfl
theorem q519 : (Jvm.Cond.privateMethod ({ cls := "TrunkLitters$Reader", name := "isLetter", desc := "(I)Z" } : Jvm.MethodName)) ∈ lw_tbl := lw_at lw_m2 157 rfl
theorem q520 : (Jvm.Cond.instanceMethod ({ cls := "TrunkLitters$Reader", name := "isLetter", desc := "(I)Z" } : Jvm.MethodName)) ∈ lw_all := lw_g (lw_at lw_m2 158 rfl) rfl
theorem q521 : (Jvm.Cond.code ({ cls := "TrunkLitters$Reader", name := "isLetter", desc := "(I)Z" } : Jvm.MethodName) prog_15_method_3_code (2 : Nat) (Option.some Jvm.ClassFile.FieldType.boolean)) ∈ lw_all := lw_g (lw_at lw_m2 159 rfl) rfl
theorem q522 : (Jvm.Cond.classLink "TrunkLitters$Reader" (53 : Nat) "java/lang/StringBuilder") ∈ lw_all := lw_g (lw_at lw_m2 160 rfl) rfl
theorem q524 : (Jvm.Cond.methodLink "TrunkLitters$Reader" (55 : Nat) ({ cls := "java/lang/StringBuilder", name := "<init>", desc := "(I)V" } : Jvm.MethodName)) ∈ lw_all := lw_g (lw_at lw_m2 162 rfl) rfl
theorem q553 : (Jvm.Cond.methodLink "TrunkLitters$Reader" (58 : Nat) ({ cls := "java/lang/StringBuilder", name := "append", desc := "(C)Ljava/lang/StringBuilder;" } : Jvm.MethodName)) ∈ lw_all := lw_g (lw_at lw_m2 191 rfl) rfl
theorem q646 : (Jvm.Cond.methodLink "TrunkLitters$Reader" (62 : Nat) ({ cls := "java/lang/StringBuilder", name := "toString", desc := "()Ljava/lang/String;" } : Jvm.MethodName)) ∈ lw_all := lw_g (lw_at lw_m3 44 rfl) rfl
theorem q709 : (Jvm.Cond.methodLink "TrunkLitters$Reader" (66 : Nat) ({ cls := "TrunkLitters$Reader", name := "isDigit", desc := "(I)Z" } : Jvm.MethodName)) ∈ lw_all := lw_g (lw_at lw_m3 107 rfl) rfl
theorem q710 : (Jvm.Cond.privateMethod ({ cls := "TrunkLitters$Reader", name := "isDigit", desc := "(I)Z" } : Jvm.MethodName)) ∈ lw_tbl := lw_at lw_m3 108 rfl
theorem q711 : (Jvm.Cond.instanceMethod ({ cls := "TrunkLitters$Reader", name := "isDigit", desc := "(I)Z" } : Jvm.MethodName)) ∈ lw_all := lw_g (lw_at lw_m3 109 rfl) rfl
theorem q712 : (Jvm.Cond.code ({ cls := "TrunkLitters$Reader", name := "isDigit", desc := "(I)Z" } : Jvm.MethodName) prog_15_method_4_code (2 : Nat) (Option.some Jvm.ClassFile.FieldType.boolean)) ∈ lw_all := lw_g (lw_at lw_m3 110 rfl) rfl
theorem q713 : (Jvm.Cond.methodLink "TrunkLitters$Reader" (72 : Nat) ({ cls := "TrunkLitters$Reader", name := "isSign", desc := "(I)Z" } : Jvm.MethodName)) ∈ lw_all := lw_g (lw_at lw_m3 111 rfl) rfl
theorem q714 : (Jvm.Cond.static ({ cls := "TrunkLitters$Reader", name := "isSign", desc := "(I)Z" } : Jvm.MethodName)) ∈ lw_all := lw_g (lw_at lw_m3 112 rfl) rfl
theorem q715 : (Jvm.Cond.code ({ cls := "TrunkLitters$Reader", name := "isSign", desc := "(I)Z" } : Jvm.MethodName) prog_15_method_5_code (1 : Nat) (Option.some Jvm.ClassFile.FieldType.boolean)) ∈ lw_all := lw_g (lw_at lw_m3 113 rfl) rfl
theorem q716 : (Jvm.Cond.methodLink "TrunkLitters$Reader" (154 : Nat) ({ cls := "TrunkLitters$Reader", name := "readLine", desc := "()V" } : Jvm.MethodName)) ∈ lw_all := lw_g (lw_at lw_m3 114 rfl) rfl
theorem q717 : (Jvm.Cond.privateMethod ({ cls := "TrunkLitters$Reader", name := "readLine", desc := "()V" } : Jvm.MethodName)) ∈ lw_tbl := lw_at lw_m3 115 rfl
theorem q718 : (Jvm.Cond.instanceMethod ({ cls := "TrunkLitters$Reader", name := "readLine", desc := "()V" } : Jvm.MethodName)) ∈ lw_all := lw_g (lw_at lw_m3 116 rfl) rfl
theorem q719 : (Jvm.Cond.code ({ cls := "TrunkLitters$Reader", name := "readLine", desc := "()V" } : Jvm.MethodName) prog_15_method_16_code (1 : Nat) (Option.none : Option Jvm.ClassFile.FieldType)) ∈ lw_all := lw_g (lw_at lw_m3 117 rfl) rfl
theorem q720 : (Jvm.Cond.stringRef "TrunkLitters$Reader" (111 : Nat) "room") ∈ lw_tbl := lw_at lw_m3 118 rfl
theorem q721 : (Jvm.Cond.methodLink "TrunkLitters$Reader" (86 : Nat) ({ cls := "TrunkLitters$Reader", name := "is", desc := "(Ljava/lang/String;)Z" } : Jvm.MethodName)) ∈ lw_all := lw_g (lw_at lw_m3 119 rfl) rfl
theorem q722 : (Jvm.Cond.privateMethod ({ cls := "TrunkLitters$Reader", name := "is", desc := "(Ljava/lang/String;)Z" } : Jvm.MethodName)) ∈ lw_tbl := lw_at lw_m3 120 rfl
theorem q723 : (Jvm.Cond.instanceMethod ({ cls := "TrunkLitters$Reader", name := "is", desc := "(Ljava/lang/String;)Z" } : Jvm.MethodName)) ∈ lw_all := lw_g (lw_at lw_m3 121 rfl) rfl
theorem q724 : (Jvm.Cond.code ({ cls := "TrunkLitters$Reader", name := "is", desc := "(Ljava/lang/String;)Z" } : Jvm.MethodName) prog_15_method_8_code (2 : Nat) (Option.some Jvm.ClassFile.FieldType.boolean)) ∈ lw_all := lw_g (lw_at lw_m3 122 rfl) rfl
theorem q725 : (Jvm.Cond.methodLink "TrunkLitters$Reader" (80 : Nat) ({ cls := "java/lang/String", name := "equals", desc := "(Ljava/lang/Object;)Z" } : Jvm.MethodName)) ∈ lw_all := lw_g (lw_at lw_m3 123 rfl) rfl
theorem q733 : (Jvm.Cond.methodLink "TrunkLitters$Reader" (161 : Nat) ({ cls := "java/util/ArrayList", name := "size", desc := "()I" } : Jvm.MethodName)) ∈ lw_all := lw_g (lw_at lw_m3 131 rfl) rfl
theorem q734 : (Jvm.Cond.methodLink "TrunkLitters$Reader" (166 : Nat) ({ cls := "TrunkLitters$Reader", name := "readRoom", desc := "()V" } : Jvm.MethodName)) ∈ lw_all := lw_g (lw_at lw_m3 132 rfl) rfl
theorem q735 : (Jvm.Cond.privateMethod ({ cls := "TrunkLitters$Reader", name := "readRoom", desc := "()V" } : Jvm.MethodName)) ∈ lw_tbl := lw_at lw_m3 133 rfl
theorem q736 : (Jvm.Cond.instanceMethod ({ cls := "TrunkLitters$Reader", name := "readRoom", desc := "()V" } : Jvm.MethodName)) ∈ lw_all := lw_g (lw_at lw_m3 134 rfl) rfl
theorem q737 : (Jvm.Cond.code ({ cls := "TrunkLitters$Reader", name := "readRoom", desc := "()V" } : Jvm.MethodName) prog_15_method_17_code (2 : Nat) (Option.none : Option Jvm.ClassFile.FieldType)) ∈ lw_all := lw_g (lw_at lw_m3 135 rfl) rfl
theorem q738 : (Jvm.Cond.classLink "TrunkLitters$Reader" (200 : Nat) "TrunkLitters$Room") ∈ lw_all := lw_g (lw_at lw_m3 136 rfl) rfl
theorem q740 : (Jvm.Cond.methodLink "TrunkLitters$Reader" (202 : Nat) ({ cls := "TrunkLitters$Reader", name := "newName", desc := "(Ljava/util/ArrayList;)Ljava/lang/String;" } : Jvm.MethodName)) ∈ lw_all := lw_g (lw_at lw_m3 138 rfl) rfl
theorem q741 : (Jvm.Cond.privateMethod ({ cls := "TrunkLitters$Reader", name := "newName", desc := "(Ljava/util/ArrayList;)Ljava/lang/String;" } : Jvm.MethodName)) ∈ lw_tbl := lw_at lw_m3 139 rfl
theorem q742 : (Jvm.Cond.instanceMethod ({ cls := "TrunkLitters$Reader", name := "newName", desc := "(Ljava/util/ArrayList;)Ljava/lang/String;" } : Jvm.MethodName)) ∈ lw_all := lw_g (lw_at lw_m3 140 rfl) rfl
theorem q743 : (Jvm.Cond.code ({ cls := "TrunkLitters$Reader", name := "newName", desc := "(Ljava/util/ArrayList;)Ljava/lang/String;" } : Jvm.MethodName) prog_15_method_14_code (3 : Nat) (Option.some (Jvm.ClassFile.FieldType.object "java/lang/String"))) ∈ lw_all := lw_g (lw_at lw_m3 141 rfl) rfl
theorem q744 : (Jvm.Cond.methodLink "TrunkLitters$Reader" (146 : Nat) ({ cls := "TrunkLitters$Reader", name := "isName", desc := "()Z" } : Jvm.MethodName)) ∈ lw_all := lw_g (lw_at lw_m3 142 rfl) rfl
theorem q745 : (Jvm.Cond.privateMethod ({ cls := "TrunkLitters$Reader", name := "isName", desc := "()Z" } : Jvm.MethodName)) ∈ lw_tbl := lw_at lw_m3 143 rfl
theorem q746 : (Jvm.Cond.instanceMethod ({ cls := "TrunkLitters$Reader", name := "isName", desc := "()Z" } : Jvm.MethodName)) ∈ lw_all := lw_g (lw_at lw_m3 144 rfl) rfl
theorem q747 : (Jvm.Cond.code ({ cls := "TrunkLitters$Reader", name := "isName", desc := "()Z" } : Jvm.MethodName) prog_15_method_13_code (3 : Nat) (Option.some Jvm.ClassFile.FieldType.boolean)) ∈ lw_all := lw_g (lw_at lw_m3 145 rfl) rfl
theorem q748 : (Jvm.Cond.methodLink "TrunkLitters$Reader" (107 : Nat) ({ cls := "java/lang/String", name := "hashCode", desc := "()I" } : Jvm.MethodName)) ∈ lw_all := lw_g (lw_at lw_m3 146 rfl) rfl
theorem q801 : (Jvm.Cond.stringRef "TrunkLitters$Reader" (113 : Nat) "holds") ∈ lw_tbl := lw_at lw_m3 199 rfl
theorem q802 : (Jvm.Cond.stringRef "TrunkLitters$Reader" (115 : Nat) "trunk") ∈ lw_tbl := lw_at lw_m3 200 rfl
theorem q803 : (Jvm.Cond.stringRef "TrunkLitters$Reader" (117 : Nat) "bulk") ∈ lw_tbl := lw_at lw_m3 201 rfl
theorem q804 : (Jvm.Cond.stringRef "TrunkLitters$Reader" (119 : Nat) "at") ∈ lw_tbl := lw_at lw_m3 202 rfl
theorem q805 : (Jvm.Cond.stringRef "TrunkLitters$Reader" (120 : Nat) "marks") ∈ lw_tbl := lw_at lw_m3 203 rfl
theorem q806 : (Jvm.Cond.stringRef "TrunkLitters$Reader" (122 : Nat) "told") ∈ lw_tbl := lw_at lw_m3 204 rfl
theorem q807 : (Jvm.Cond.stringRef "TrunkLitters$Reader" (124 : Nat) "brood") ∈ lw_tbl := lw_at lw_m3 205 rfl
theorem q808 : (Jvm.Cond.stringRef "TrunkLitters$Reader" (126 : Nat) "pines") ∈ lw_tbl := lw_at lw_m3 206 rfl
theorem q809 : (Jvm.Cond.stringRef "TrunkLitters$Reader" (128 : Nat) "tales") ∈ lw_tbl := lw_at lw_m3 207 rfl
theorem q810 : (Jvm.Cond.stringRef "TrunkLitters$Reader" (130 : Nat) "draw") ∈ lw_tbl := lw_at lw_m3 208 rfl
theorem q811 : (Jvm.Cond.stringRef "TrunkLitters$Reader" (132 : Nat) "alike") ∈ lw_tbl := lw_at lw_m3 209 rfl
theorem q812 : (Jvm.Cond.stringRef "TrunkLitters$Reader" (134 : Nat) "left") ∈ lw_tbl := lw_at lw_m3 210 rfl
theorem q813 : (Jvm.Cond.stringRef "TrunkLitters$Reader" (136 : Nat) "many") ∈ lw_tbl := lw_at lw_m3 211 rfl
theorem q814 : (Jvm.Cond.stringRef "TrunkLitters$Reader" (138 : Nat) "year") ∈ lw_tbl := lw_at lw_m3 212 rfl
theorem q815 : (Jvm.Cond.stringRef "TrunkLitters$Reader" (140 : Nat) "and") ∈ lw_tbl := lw_at lw_m3 213 rfl
theorem q816 : (Jvm.Cond.stringRef "TrunkLitters$Reader" (142 : Nat) "or") ∈ lw_tbl := lw_at lw_m3 214 rfl
theorem q817 : (Jvm.Cond.stringRef "TrunkLitters$Reader" (144 : Nat) "not") ∈ lw_tbl := lw_at lw_m3 215 rfl
theorem q818 : (Jvm.Cond.methodLink "TrunkLitters$Reader" (96 : Nat) ({ cls := "TrunkLitters$Reader", name := "wrong", desc := "()LTrunkLitters$Wrong;" } : Jvm.MethodName)) ∈ lw_all := lw_g (lw_at lw_m3 216 rfl) rfl
theorem q819 : (Jvm.Cond.privateMethod ({ cls := "TrunkLitters$Reader", name := "wrong", desc := "()LTrunkLitters$Wrong;" } : Jvm.MethodName)) ∈ lw_tbl := lw_at lw_m3 217 rfl
theorem q820 : (Jvm.Cond.instanceMethod ({ cls := "TrunkLitters$Reader", name := "wrong", desc := "()LTrunkLitters$Wrong;" } : Jvm.MethodName)) ∈ lw_all := lw_g (lw_at lw_m3 218 rfl) rfl
theorem q821 : (Jvm.Cond.code ({ cls := "TrunkLitters$Reader", name := "wrong", desc := "()LTrunkLitters$Wrong;" } : Jvm.MethodName) prog_15_method_7_code (1 : Nat) (Option.some (Jvm.ClassFile.FieldType.object "TrunkLitters$Wrong"))) ∈ lw_all := lw_g (lw_at lw_m3 219 rfl) rfl
theorem q822 : (Jvm.Cond.classLink "TrunkLitters$Reader" (75 : Nat) "TrunkLitters$Wrong") ∈ lw_all := lw_g (lw_at lw_m3 220 rfl) rfl
theorem q859 : (Jvm.Cond.methodLink "TrunkLitters$Reader" (77 : Nat) ({ cls := "TrunkLitters$Wrong", name := "<init>", desc := "(II)V" } : Jvm.MethodName)) ∈ lw_all := lw_g (lw_at lw_m4 17 rfl) rfl
theorem q889 : (Jvm.Cond.methodLinkNest "TrunkLitters$Reader" (150 : Nat) ({ cls := "TrunkLitters", name := "find", desc := "(Ljava/util/ArrayList;Ljava/lang/String;)I" } : Jvm.MethodName) "TrunkLitters") ∈ lw_tbl := lw_at lw_m4 47 rfl
theorem q896 : (Jvm.Cond.methodLink "TrunkLitters$Reader" (206 : Nat) ({ cls := "TrunkLitters$Room", name := "<init>", desc := "(Ljava/lang/String;)V" } : Jvm.MethodName)) ∈ lw_all := lw_g (lw_at lw_m4 54 rfl) rfl
theorem q905 : (Jvm.Cond.fieldLink "TrunkLitters$Reader" (212 : Nat) "TrunkLitters$Room" "holds" "I") ∈ lw_all := lw_g (lw_at lw_m4 63 rfl) rfl
theorem q906 : (Jvm.Cond.fieldLink "TrunkLitters$Reader" (227 : Nat) "TrunkLitters$Room" "taken" "I") ∈ lw_all := lw_g (lw_at lw_m4 64 rfl) rfl
theorem q916 : (Jvm.Cond.methodLink "TrunkLitters$Reader" (208 : Nat) ({ cls := "TrunkLitters$Reader", name := "numberBy", desc := "(Ljava/lang/String;II)I" } : Jvm.MethodName)) ∈ lw_all := lw_g (lw_at lw_m4 74 rfl) rfl
theorem q917 : (Jvm.Cond.privateMethod ({ cls := "TrunkLitters$Reader", name := "numberBy", desc := "(Ljava/lang/String;II)I" } : Jvm.MethodName)) ∈ lw_tbl := lw_at lw_m4 75 rfl
theorem q918 : (Jvm.Cond.instanceMethod ({ cls := "TrunkLitters$Reader", name := "numberBy", desc := "(Ljava/lang/String;II)I" } : Jvm.MethodName)) ∈ lw_all := lw_g (lw_at lw_m4 76 rfl) rfl
theorem q919 : (Jvm.Cond.code ({ cls := "TrunkLitters$Reader", name := "numberBy", desc := "(Ljava/lang/String;II)I" } : Jvm.MethodName) prog_15_method_12_code (4 : Nat) (Option.some Jvm.ClassFile.FieldType.int)) ∈ lw_all := lw_g (lw_at lw_m4 77 rfl) rfl
theorem q920 : (Jvm.Cond.methodLink "TrunkLitters$Reader" (100 : Nat) ({ cls := "TrunkLitters$Reader", name := "key", desc := "(Ljava/lang/String;)V" } : Jvm.MethodName)) ∈ lw_all := lw_g (lw_at lw_m4 78 rfl) rfl
theorem q921 : (Jvm.Cond.privateMethod ({ cls := "TrunkLitters$Reader", name := "key", desc := "(Ljava/lang/String;)V" } : Jvm.MethodName)) ∈ lw_tbl := lw_at lw_m4 79 rfl
theorem q922 : (Jvm.Cond.instanceMethod ({ cls := "TrunkLitters$Reader", name := "key", desc := "(Ljava/lang/String;)V" } : Jvm.MethodName)) ∈ lw_all := lw_g (lw_at lw_m4 80 rfl) rfl
theorem q923 : (Jvm.Cond.code ({ cls := "TrunkLitters$Reader", name := "key", desc := "(Ljava/lang/String;)V" } : Jvm.MethodName) prog_15_method_10_code (2 : Nat) (Option.none : Option Jvm.ClassFile.FieldType)) ∈ lw_all := lw_g (lw_at lw_m4 81 rfl) rfl
theorem q924 : (Jvm.Cond.methodLink "TrunkLitters$Reader" (93 : Nat) ({ cls := "TrunkLitters$Reader", name := "takes", desc := "(Ljava/lang/String;)Z" } : Jvm.MethodName)) ∈ lw_all := lw_g (lw_at lw_m4 82 rfl) rfl
theorem q925 : (Jvm.Cond.privateMethod ({ cls := "TrunkLitters$Reader", name := "takes", desc := "(Ljava/lang/String;)Z" } : Jvm.MethodName)) ∈ lw_tbl := lw_at lw_m4 83 rfl
theorem q926 : (Jvm.Cond.instanceMethod ({ cls := "TrunkLitters$Reader", name := "takes", desc := "(Ljava/lang/String;)Z" } : Jvm.MethodName)) ∈ lw_all := lw_g (lw_at lw_m4 84 rfl) rfl
theorem q927 : (Jvm.Cond.code ({ cls := "TrunkLitters$Reader", name := "takes", desc := "(Ljava/lang/String;)Z" } : Jvm.MethodName) prog_15_method_9_code (3 : Nat) (Option.some Jvm.ClassFile.FieldType.boolean)) ∈ lw_all := lw_g (lw_at lw_m4 85 rfl) rfl
theorem q928 : (Jvm.Cond.methodLink "TrunkLitters$Reader" (104 : Nat) ({ cls := "TrunkLitters$Reader", name := "number", desc := "(II)I" } : Jvm.MethodName)) ∈ lw_all := lw_g (lw_at lw_m4 86 rfl) rfl
theorem q929 : (Jvm.Cond.privateMethod ({ cls := "TrunkLitters$Reader", name := "number", desc := "(II)I" } : Jvm.MethodName)) ∈ lw_tbl := lw_at lw_m4 87 rfl
theorem q930 : (Jvm.Cond.instanceMethod ({ cls := "TrunkLitters$Reader", name := "number", desc := "(II)I" } : Jvm.MethodName)) ∈ lw_all := lw_g (lw_at lw_m4 88 rfl) rfl
theorem q931 : (Jvm.Cond.code ({ cls := "TrunkLitters$Reader", name := "number", desc := "(II)I" } : Jvm.MethodName) prog_15_method_11_code (4 : Nat) (Option.some Jvm.ClassFile.FieldType.int)) ∈ lw_all := lw_g (lw_at lw_m4 89 rfl) rfl
theorem q932 : (Jvm.Cond.methodLink "TrunkLitters$Reader" (214 : Nat) ({ cls := "java/util/ArrayList", name := "add", desc := "(Ljava/lang/Object;)Z" } : Jvm.MethodName)) ∈ lw_all := lw_g (lw_at lw_m4 90 rfl) rfl
theorem q968 : (Jvm.Cond.selects "TrunkLitters$Reader" ({ cls := "java/lang/Object", name := "getClass", desc := "()Ljava/lang/Class;" } : Jvm.MethodName) ({ cls := "java/lang/Object", name := "getClass", desc := "()Ljava/lang/Class;" } : Jvm.MethodName)) ∈ lw_all := lw_g (lw_at lw_m4 126 rfl) rfl
theorem q986 : (Jvm.Cond.methodLink "TrunkLitters$Reader" (172 : Nat) ({ cls := "TrunkLitters$Reader", name := "readTrunk", desc := "()V" } : Jvm.MethodName)) ∈ lw_all := lw_g (lw_at lw_m4 144 rfl) rfl
theorem q987 : (Jvm.Cond.privateMethod ({ cls := "TrunkLitters$Reader", name := "readTrunk", desc := "()V" } : Jvm.MethodName)) ∈ lw_tbl := lw_at lw_m4 145 rfl
theorem q988 : (Jvm.Cond.instanceMethod ({ cls := "TrunkLitters$Reader", name := "readTrunk", desc := "()V" } : Jvm.MethodName)) ∈ lw_all := lw_g (lw_at lw_m4 146 rfl) rfl
theorem q989 : (Jvm.Cond.code ({ cls := "TrunkLitters$Reader", name := "readTrunk", desc := "()V" } : Jvm.MethodName) prog_15_method_18_code (3 : Nat) (Option.none : Option Jvm.ClassFile.FieldType)) ∈ lw_all := lw_g (lw_at lw_m4 147 rfl) rfl
theorem q990 : (Jvm.Cond.classLink "TrunkLitters$Reader" (217 : Nat) "TrunkLitters$Trunk") ∈ lw_all := lw_g (lw_at lw_m4 148 rfl) rfl
theorem q992 : (Jvm.Cond.methodLink "TrunkLitters$Reader" (219 : Nat) ({ cls := "TrunkLitters$Trunk", name := "<init>", desc := "(Ljava/lang/String;)V" } : Jvm.MethodName)) ∈ lw_all := lw_g (lw_at lw_m4 150 rfl) rfl
theorem q997 : (Jvm.Cond.fieldLink "TrunkLitters$Reader" (220 : Nat) "TrunkLitters$Trunk" "bulk" "I") ∈ lw_all := lw_g (lw_at lw_m4 155 rfl) rfl
theorem q999 : (Jvm.Cond.fieldLink "TrunkLitters$Reader" (222 : Nat) "TrunkLitters$Trunk" "at" "I") ∈ lw_all := lw_g (lw_at lw_m4 157 rfl) rfl
theorem q1001 : (Jvm.Cond.fieldLink "TrunkLitters$Reader" (230 : Nat) "TrunkLitters$Trunk" "marks" "I") ∈ lw_all := lw_g (lw_at lw_m4 159 rfl) rfl
theorem q1004 : (Jvm.Cond.fieldLink "TrunkLitters$Reader" (232 : Nat) "TrunkLitters$Trunk" "told" "I") ∈ lw_all := lw_g (lw_at lw_m4 162 rfl) rfl
theorem q1015 : (Jvm.Cond.methodLink "TrunkLitters$Reader" (223 : Nat) ({ cls := "java/util/ArrayList", name := "get", desc := "(I)Ljava/lang/Object;" } : Jvm.MethodName)) ∈ lw_all := lw_g (lw_at lw_m4 173 rfl) rfl
theorem q1016 : (Jvm.Cond.methodLink "TrunkLitters$Reader" (178 : Nat) ({ cls := "TrunkLitters$Reader", name := "readBrood", desc := "()V" } : Jvm.MethodName)) ∈ lw_all := lw_g (lw_at lw_m4 174 rfl) rfl
theorem q1017 : (Jvm.Cond.privateMethod ({ cls := "TrunkLitters$Reader", name := "readBrood", desc := "()V" } : Jvm.MethodName)) ∈ lw_tbl := lw_at lw_m4 175 rfl
theorem q1018 : (Jvm.Cond.instanceMethod ({ cls := "TrunkLitters$Reader", name := "readBrood", desc := "()V" } : Jvm.MethodName)) ∈ lw_all := lw_g (lw_at lw_m4 176 rfl) rfl
theorem q1019 : (Jvm.Cond.code ({ cls := "TrunkLitters$Reader", name := "readBrood", desc := "()V" } : Jvm.MethodName) prog_15_method_19_code (1 : Nat) (Option.none : Option Jvm.ClassFile.FieldType)) ∈ lw_all := lw_g (lw_at lw_m4 177 rfl) rfl
theorem q1020 : (Jvm.Cond.methodLink "TrunkLitters$Reader" (234 : Nat) ({ cls := "TrunkLitters$Reader", name := "e", desc := "()LTrunkLitters$Node;" } : Jvm.MethodName)) ∈ lw_all := lw_g (lw_at lw_m4 178 rfl) rfl
theorem q1021 : (Jvm.Cond.privateMethod ({ cls := "TrunkLitters$Reader", name := "e", desc := "()LTrunkLitters$Node;" } : Jvm.MethodName)) ∈ lw_tbl := lw_at lw_m4 179 rfl
theorem q1022 : (Jvm.Cond.instanceMethod ({ cls := "TrunkLitters$Reader", name := "e", desc := "()LTrunkLitters$Node;" } : Jvm.MethodName)) ∈ lw_all := lw_g (lw_at lw_m4 180 rfl) rfl
theorem q1023 : (Jvm.Cond.code ({ cls := "TrunkLitters$Reader", name := "e", desc := "()LTrunkLitters$Node;" } : Jvm.MethodName) prog_15_method_23_code (1 : Nat) (Option.some (Jvm.ClassFile.FieldType.object "TrunkLitters$Node"))) ∈ lw_all := lw_g (lw_at lw_m4 181 rfl) rfl
theorem q1024 : (Jvm.Cond.methodLink "TrunkLitters$Reader" (251 : Nat) ({ cls := "TrunkLitters$Reader", name := "both", desc := "()LTrunkLitters$Node;" } : Jvm.MethodName)) ∈ lw_all := lw_g (lw_at lw_m4 182 rfl) rfl
theorem q1025 : (Jvm.Cond.privateMethod ({ cls := "TrunkLitters$Reader", name := "both", desc := "()LTrunkLitters$Node;" } : Jvm.MethodName)) ∈ lw_tbl := lw_at lw_m4 183 rfl
theorem q1026 : (Jvm.Cond.instanceMethod ({ cls := "TrunkLitters$Reader", name := "both", desc := "()LTrunkLitters$Node;" } : Jvm.MethodName)) ∈ lw_all := lw_g (lw_at lw_m4 184 rfl) rfl
theorem q1027 : (Jvm.Cond.code ({ cls := "TrunkLitters$Reader", name := "both", desc := "()LTrunkLitters$Node;" } : Jvm.MethodName) prog_15_method_24_code (2 : Nat) (Option.some (Jvm.ClassFile.FieldType.object "TrunkLitters$Node"))) ∈ lw_all := lw_g (lw_at lw_m4 185 rfl) rfl
theorem q1028 : (Jvm.Cond.methodLink "TrunkLitters$Reader" (254 : Nat) ({ cls := "TrunkLitters$Reader", name := "all", desc := "()LTrunkLitters$Node;" } : Jvm.MethodName)) ∈ lw_all := lw_g (lw_at lw_m4 186 rfl) rfl
theorem q1029 : (Jvm.Cond.privateMethod ({ cls := "TrunkLitters$Reader", name := "all", desc := "()LTrunkLitters$Node;" } : Jvm.MethodName)) ∈ lw_tbl := lw_at lw_m4 187 rfl
theorem q1030 : (Jvm.Cond.instanceMethod ({ cls := "TrunkLitters$Reader", name := "all", desc := "()LTrunkLitters$Node;" } : Jvm.MethodName)) ∈ lw_all := lw_g (lw_at lw_m4 188 rfl) rfl
theorem q1031 : (Jvm.Cond.code ({ cls := "TrunkLitters$Reader", name := "all", desc := "()LTrunkLitters$Node;" } : Jvm.MethodName) prog_15_method_25_code (2 : Nat) (Option.some (Jvm.ClassFile.FieldType.object "TrunkLitters$Node"))) ∈ lw_all := lw_g (lw_at lw_m4 189 rfl) rfl
theorem q1032 : (Jvm.Cond.methodLink "TrunkLitters$Reader" (262 : Nat) ({ cls := "TrunkLitters$Reader", name := "one", desc := "()LTrunkLitters$Node;" } : Jvm.MethodName)) ∈ lw_all := lw_g (lw_at lw_m4 190 rfl) rfl
theorem q1033 : (Jvm.Cond.privateMethod ({ cls := "TrunkLitters$Reader", name := "one", desc := "()LTrunkLitters$Node;" } : Jvm.MethodName)) ∈ lw_tbl := lw_at lw_m4 191 rfl
theorem q1034 : (Jvm.Cond.instanceMethod ({ cls := "TrunkLitters$Reader", name := "one", desc := "()LTrunkLitters$Node;" } : Jvm.MethodName)) ∈ lw_all := lw_g (lw_at lw_m4 192 rfl) rfl
theorem q1035 : (Jvm.Cond.code ({ cls := "TrunkLitters$Reader", name := "one", desc := "()LTrunkLitters$Node;" } : Jvm.MethodName) prog_15_method_26_code (3 : Nat) (Option.some (Jvm.ClassFile.FieldType.object "TrunkLitters$Node"))) ∈ lw_all := lw_g (lw_at lw_m4 193 rfl) rfl
theorem q1036 : (Jvm.Cond.classLink "TrunkLitters$Reader" (265 : Nat) "TrunkLitters$Not") ∈ lw_all := lw_g (lw_at lw_m4 194 rfl) rfl
theorem q1038 : (Jvm.Cond.methodLink "TrunkLitters$Reader" (267 : Nat) ({ cls := "TrunkLitters$Not", name := "<init>", desc := "(LTrunkLitters$Node;)V" } : Jvm.MethodName)) ∈ lw_all := lw_g (lw_at lw_m4 196 rfl) rfl
theorem q1046 : (Jvm.Cond.methodLink "TrunkLitters$Reader" (270 : Nat) ({ cls := "TrunkLitters$Reader", name := "sum", desc := "()LTrunkLitters$Node;" } : Jvm.MethodName)) ∈ lw_all := lw_g (lw_at lw_m4 204 rfl) rfl
theorem q1047 : (Jvm.Cond.privateMethod ({ cls := "TrunkLitters$Reader", name := "sum", desc := "()LTrunkLitters$Node;" } : Jvm.MethodName)) ∈ lw_tbl := lw_at lw_m4 205 rfl
theorem q1048 : (Jvm.Cond.instanceMethod ({ cls := "TrunkLitters$Reader", name := "sum", desc := "()LTrunkLitters$Node;" } : Jvm.MethodName)) ∈ lw_all := lw_g (lw_at lw_m4 206 rfl) rfl
theorem q1049 : (Jvm.Cond.code ({ cls := "TrunkLitters$Reader", name := "sum", desc := "()LTrunkLitters$Node;" } : Jvm.MethodName) prog_15_method_27_code (3 : Nat) (Option.some (Jvm.ClassFile.FieldType.object "TrunkLitters$Node"))) ∈ lw_all := lw_g (lw_at lw_m4 207 rfl) rfl
theorem q1050 : (Jvm.Cond.methodLink "TrunkLitters$Reader" (273 : Nat) ({ cls := "TrunkLitters$Reader", name := "term", desc := "()LTrunkLitters$Node;" } : Jvm.MethodName)) ∈ lw_all := lw_g (lw_at lw_m4 208 rfl) rfl
theorem q1051 : (Jvm.Cond.privateMethod ({ cls := "TrunkLitters$Reader", name := "term", desc := "()LTrunkLitters$Node;" } : Jvm.MethodName)) ∈ lw_tbl := lw_at lw_m4 209 rfl
theorem q1052 : (Jvm.Cond.instanceMethod ({ cls := "TrunkLitters$Reader", name := "term", desc := "()LTrunkLitters$Node;" } : Jvm.MethodName)) ∈ lw_all := lw_g (lw_at lw_m4 210 rfl) rfl
theorem q1053 : (Jvm.Cond.code ({ cls := "TrunkLitters$Reader", name := "term", desc := "()LTrunkLitters$Node;" } : Jvm.MethodName) prog_15_method_28_code (3 : Nat) (Option.some (Jvm.ClassFile.FieldType.object "TrunkLitters$Node"))) ∈ lw_all := lw_g (lw_at lw_m4 211 rfl) rfl
theorem q1054 : (Jvm.Cond.methodLink "TrunkLitters$Reader" (276 : Nat) ({ cls := "TrunkLitters$Reader", name := "unit", desc := "()LTrunkLitters$Node;" } : Jvm.MethodName)) ∈ lw_all := lw_g (lw_at lw_m4 212 rfl) rfl
theorem q1055 : (Jvm.Cond.privateMethod ({ cls := "TrunkLitters$Reader", name := "unit", desc := "()LTrunkLitters$Node;" } : Jvm.MethodName)) ∈ lw_tbl := lw_at lw_m4 213 rfl
theorem q1056 : (Jvm.Cond.instanceMethod ({ cls := "TrunkLitters$Reader", name := "unit", desc := "()LTrunkLitters$Node;" } : Jvm.MethodName)) ∈ lw_all := lw_g (lw_at lw_m4 214 rfl) rfl
theorem q1057 : (Jvm.Cond.code ({ cls := "TrunkLitters$Reader", name := "unit", desc := "()LTrunkLitters$Node;" } : Jvm.MethodName) prog_15_method_30_code (3 : Nat) (Option.some (Jvm.ClassFile.FieldType.object "TrunkLitters$Node"))) ∈ lw_all := lw_g (lw_at lw_m4 215 rfl) rfl
theorem q1058 : (Jvm.Cond.methodLink "TrunkLitters$Reader" (297 : Nat) ({ cls := "TrunkLitters$Reader", name := "asked", desc := "()LTrunkLitters$Node;" } : Jvm.MethodName)) ∈ lw_all := lw_g (lw_at lw_m4 216 rfl) rfl
theorem q1059 : (Jvm.Cond.privateMethod ({ cls := "TrunkLitters$Reader", name := "asked", desc := "()LTrunkLitters$Node;" } : Jvm.MethodName)) ∈ lw_tbl := lw_at lw_m4 217 rfl
theorem q1060 : (Jvm.Cond.instanceMethod ({ cls := "TrunkLitters$Reader", name := "asked", desc := "()LTrunkLitters$Node;" } : Jvm.MethodName)) ∈ lw_all := lw_g (lw_at lw_m4 218 rfl) rfl
theorem q1061 : (Jvm.Cond.code ({ cls := "TrunkLitters$Reader", name := "asked", desc := "()LTrunkLitters$Node;" } : Jvm.MethodName) prog_15_method_29_code (3 : Nat) (Option.some (Jvm.ClassFile.FieldType.object "TrunkLitters$Node"))) ∈ lw_all := lw_g (lw_at lw_m4 219 rfl) rfl
theorem q1062 : (Jvm.Cond.fieldLink "TrunkLitters$Reader" (279 : Nat) "TrunkLitters$Asked" "HOW_GREAT" "LTrunkLitters$Asked;") ∈ lw_all := lw_g (lw_at lw_m4 220 rfl) rfl
theorem q1064 : (Jvm.Cond.fieldLink "TrunkLitters$Reader" (285 : Nat) "TrunkLitters$Asked" "HOW_ALIKE" "LTrunkLitters$Asked;") ∈ lw_all := lw_g (lw_at lw_m4 222 rfl) rfl
theorem q1066 : (Jvm.Cond.fieldLink "TrunkLitters$Reader" (288 : Nat) "TrunkLitters$Asked" "WHAT_IS_LEFT" "LTrunkLitters$Asked;") ∈ lw_all := lw_g (lw_at lw_m4 224 rfl) rfl
theorem q1068 : (Jvm.Cond.fieldLink "TrunkLitters$Reader" (291 : Nat) "TrunkLitters$Asked" "HOW_MANY" "LTrunkLitters$Asked;") ∈ lw_all := lw_g (lw_at lw_m4 226 rfl) rfl
theorem q1070 : (Jvm.Cond.fieldLink "TrunkLitters$Reader" (294 : Nat) "TrunkLitters$Asked" "A_YEAR" "LTrunkLitters$Asked;") ∈ lw_all := lw_g (lw_at lw_m4 228 rfl) rfl
theorem q1072 : (Jvm.Cond.classLink "TrunkLitters$Reader" (303 : Nat) "TrunkLitters$Value") ∈ lw_all := lw_g (lw_at lw_m4 230 rfl) rfl
theorem q1074 : (Jvm.Cond.methodLink "TrunkLitters$Reader" (305 : Nat) ({ cls := "TrunkLitters$Value", name := "<init>", desc := "(I)V" } : Jvm.MethodName)) ∈ lw_all := lw_g (lw_at lw_m4 232 rfl) rfl
theorem q1082 : (Jvm.Cond.classLink "TrunkLitters$Reader" (257 : Nat) "TrunkLitters$Pair") ∈ lw_all := lw_g (lw_at lw_m5 0 rfl) rfl
theorem q1084 : (Jvm.Cond.methodLink "TrunkLitters$Reader" (259 : Nat) ({ cls := "TrunkLitters$Pair", name := "<init>", desc := "(LTrunkLitters$Node;LTrunkLitters$Node;C)V" } : Jvm.MethodName)) ∈ lw_all := lw_g (lw_at lw_m5 2 rfl) rfl
theorem q1098 : (Jvm.Cond.methodLink "TrunkLitters$Reader" (185 : Nat) ({ cls := "TrunkLitters$Reader", name := "readPines", desc := "()V" } : Jvm.MethodName)) ∈ lw_all := lw_g (lw_at lw_m5 16 rfl) rfl
theorem q1099 : (Jvm.Cond.privateMethod ({ cls := "TrunkLitters$Reader", name := "readPines", desc := "()V" } : Jvm.MethodName)) ∈ lw_tbl := lw_at lw_m5 17 rfl
theorem q1100 : (Jvm.Cond.instanceMethod ({ cls := "TrunkLitters$Reader", name := "readPines", desc := "()V" } : Jvm.MethodName)) ∈ lw_all := lw_g (lw_at lw_m5 18 rfl) rfl
theorem q1101 : (Jvm.Cond.code ({ cls := "TrunkLitters$Reader", name := "readPines", desc := "()V" } : Jvm.MethodName) prog_15_method_20_code (1 : Nat) (Option.none : Option Jvm.ClassFile.FieldType)) ∈ lw_all := lw_g (lw_at lw_m5 19 rfl) rfl
theorem q1102 : (Jvm.Cond.methodLink "TrunkLitters$Reader" (191 : Nat) ({ cls := "TrunkLitters$Reader", name := "readTales", desc := "()V" } : Jvm.MethodName)) ∈ lw_all := lw_g (lw_at lw_m5 20 rfl) rfl
theorem q1103 : (Jvm.Cond.privateMethod ({ cls := "TrunkLitters$Reader", name := "readTales", desc := "()V" } : Jvm.MethodName)) ∈ lw_tbl := lw_at lw_m5 21 rfl
theorem q1104 : (Jvm.Cond.instanceMethod ({ cls := "TrunkLitters$Reader", name := "readTales", desc := "()V" } : Jvm.MethodName)) ∈ lw_all := lw_g (lw_at lw_m5 22 rfl) rfl
theorem q1105 : (Jvm.Cond.code ({ cls := "TrunkLitters$Reader", name := "readTales", desc := "()V" } : Jvm.MethodName) prog_15_method_21_code (1 : Nat) (Option.none : Option Jvm.ClassFile.FieldType)) ∈ lw_all := lw_g (lw_at lw_m5 23 rfl) rfl
theorem q1106 : (Jvm.Cond.methodLink "TrunkLitters$Reader" (197 : Nat) ({ cls := "TrunkLitters$Reader", name := "readDraw", desc := "()V" } : Jvm.MethodName)) ∈ lw_all := lw_g (lw_at lw_m5 24 rfl) rfl
theorem q1107 : (Jvm.Cond.privateMethod ({ cls := "TrunkLitters$Reader", name := "readDraw", desc := "()V" } : Jvm.MethodName)) ∈ lw_tbl := lw_at lw_m5 25 rfl
theorem q1108 : (Jvm.Cond.instanceMethod ({ cls := "TrunkLitters$Reader", name := "readDraw", desc := "()V" } : Jvm.MethodName)) ∈ lw_all := lw_g (lw_at lw_m5 26 rfl) rfl
theorem q1109 : (Jvm.Cond.code ({ cls := "TrunkLitters$Reader", name := "readDraw", desc := "()V" } : Jvm.MethodName) prog_15_method_22_code (1 : Nat) (Option.none : Option Jvm.ClassFile.FieldType)) ∈ lw_all := lw_g (lw_at lw_m5 27 rfl) rfl
theorem q2266 : (Jvm.Cond.castable "TrunkLitters$Reader" "java/lang/Object") ∈ lw_tbl := lw_at lw_m9 224 rfl
theorem in_X5 : ∀ w ∈ wsX50, w ∈ lw_all := lw_in wsX50 [481, 483, 485, 487, 489, 491, 493, 495, 497, 499, 501, 503] (by decide +kernel) (by decide +kernel)

/-! TrunkLitters$Named -/
set_option maxRecDepth 100000
def RX6 : String := "TrunkLitters$Named"
abbrev cX6_init : ByteArray := prog_11_method_1_code
def yX6_init : MethodName := ⟨RX6, "<init>", "(Ljava/lang/String;)V"⟩
def dkwX6_init_0 : List UInt8 := [42, 183, 0, 1, 42, 43, 181, 0, 7, 177]
abbrev dktX6_init_0 : List UInt8 := dkwX6_init_0 ++ []
theorem dksX6_init_0 : cX6_init.data.toList.drop 0 = dktX6_init_0 := by decide +kernel
theorem dX6_init_0 : decode cX6_init 0 = .ok (.aload_n 0, 1) := dk_42 (dk_at dksX6_init_0 0 rfl rfl)
theorem dX6_init_1 : decode cX6_init 1 = .ok (.invokespecial 1, 3) := dk_183 0 1 (dk_at dksX6_init_0 1 rfl rfl)
theorem dX6_init_4 : decode cX6_init 4 = .ok (.aload_n 0, 1) := dk_42 (dk_at dksX6_init_0 4 rfl rfl)
theorem dX6_init_5 : decode cX6_init 5 = .ok (.aload_n 1, 1) := dk_43 (dk_at dksX6_init_0 5 rfl rfl)
theorem dX6_init_6 : decode cX6_init 6 = .ok (.putfield 7, 3) := dk_181 0 7 (dk_at dksX6_init_0 6 rfl rfl)
theorem dX6_init_9 : decode cX6_init 9 = .ok (.return_, 1) := dk_177 (dk_at dksX6_init_0 9 rfl rfl)
theorem q143 : (Jvm.Cond.initialized "TrunkLitters$Named") ∈ lw_all := lw_g (lw_at lw_m1 21 rfl) rfl
theorem q900 : (Jvm.Cond.instanceMethod ({ cls := "TrunkLitters$Named", name := "<init>", desc := "(Ljava/lang/String;)V" } : Jvm.MethodName)) ∈ lw_all := lw_g (lw_at lw_m4 58 rfl) rfl
theorem q901 : (Jvm.Cond.code ({ cls := "TrunkLitters$Named", name := "<init>", desc := "(Ljava/lang/String;)V" } : Jvm.MethodName) prog_11_method_1_code (2 : Nat) (Option.none : Option Jvm.ClassFile.FieldType)) ∈ lw_all := lw_g (lw_at lw_m4 59 rfl) rfl
theorem q902 : (Jvm.Cond.methodLink "TrunkLitters$Named" (1 : Nat) ({ cls := "java/lang/Object", name := "<init>", desc := "()V" } : Jvm.MethodName)) ∈ lw_all := lw_g (lw_at lw_m4 60 rfl) rfl
theorem q907 : (Jvm.Cond.fieldLink "TrunkLitters$Named" (7 : Nat) "TrunkLitters$Named" "name" "Ljava/lang/String;") ∈ lw_all := lw_g (lw_at lw_m4 65 rfl) rfl
theorem q914 : (Jvm.Cond.soleField "TrunkLitters$Named" "name") ∈ lw_all := lw_g (lw_at lw_m4 72 rfl) rfl

/-! TrunkLitters$Room -/
set_option maxRecDepth 100000
def RX7 : String := "TrunkLitters$Room"
def TX7 : u_T := fun k => match k with
  | 0 => ("TrunkLitters$Named", "name", "Ljava/lang/String;", true)
  | 1 => ("TrunkLitters$Room", "holds", "I", false)
  | _ => ("TrunkLitters$Room", "taken", "I", false)
def tyX7 : Nat → FieldType := fun k => match k with
  | 0 => .object "java/lang/String"
  | 1 => .int
  | _ => .int
abbrev wsX70 : List Cond := u_ws RX7 TX7 3
theorem nmX7 : ∀ a, a < 3 → ∀ b, b < 3 → a ≠ b → (TX7 a).2.1 ≠ (TX7 b).2.1 := by decide +kernel
theorem tyX7_ok : ∀ k, k < 3 → parseFieldDescriptor (TX7 k).2.2.1 = some (tyX7 k) := by decide +kernel
abbrev cX7_init : ByteArray := prog_16_method_1_code
def yX7_init : MethodName := ⟨RX7, "<init>", "(Ljava/lang/String;)V"⟩
def dkwX7_init_0 : List UInt8 := [42, 43, 183, 0, 1, 177]
abbrev dktX7_init_0 : List UInt8 := dkwX7_init_0 ++ []
theorem dksX7_init_0 : cX7_init.data.toList.drop 0 = dktX7_init_0 := by decide +kernel
theorem dX7_init_0 : decode cX7_init 0 = .ok (.aload_n 0, 1) := dk_42 (dk_at dksX7_init_0 0 rfl rfl)
theorem dX7_init_1 : decode cX7_init 1 = .ok (.aload_n 1, 1) := dk_43 (dk_at dksX7_init_0 1 rfl rfl)
theorem dX7_init_2 : decode cX7_init 2 = .ok (.invokespecial 1, 3) := dk_183 0 1 (dk_at dksX7_init_0 2 rfl rfl)
theorem dX7_init_5 : decode cX7_init 5 = .ok (.return_, 1) := dk_177 (dk_at dksX7_init_0 5 rfl rfl)
theorem q144 : (Jvm.Cond.initialized "TrunkLitters$Room") ∈ lw_all := lw_g (lw_at lw_m1 22 rfl) rfl
theorem q739 : (Jvm.Cond.instantiable "TrunkLitters$Room" (3 : Nat)) ∈ lw_all := lw_g (lw_at lw_m3 137 rfl) rfl
theorem q897 : (Jvm.Cond.instanceMethod ({ cls := "TrunkLitters$Room", name := "<init>", desc := "(Ljava/lang/String;)V" } : Jvm.MethodName)) ∈ lw_all := lw_g (lw_at lw_m4 55 rfl) rfl
theorem q898 : (Jvm.Cond.code ({ cls := "TrunkLitters$Room", name := "<init>", desc := "(Ljava/lang/String;)V" } : Jvm.MethodName) prog_16_method_1_code (2 : Nat) (Option.none : Option Jvm.ClassFile.FieldType)) ∈ lw_all := lw_g (lw_at lw_m4 56 rfl) rfl
theorem q899 : (Jvm.Cond.methodLink "TrunkLitters$Room" (1 : Nat) ({ cls := "TrunkLitters$Named", name := "<init>", desc := "(Ljava/lang/String;)V" } : Jvm.MethodName)) ∈ lw_all := lw_g (lw_at lw_m4 57 rfl) rfl
theorem q909 : (Jvm.Cond.lays "TrunkLitters$Room" "TrunkLitters$Room" "holds" "I") ∈ lw_all := lw_g (lw_at lw_m4 67 rfl) rfl
theorem q910 : (Jvm.Cond.soleField "TrunkLitters$Room" "holds") ∈ lw_all := lw_g (lw_at lw_m4 68 rfl) rfl
theorem q911 : (Jvm.Cond.lays "TrunkLitters$Room" "TrunkLitters$Room" "taken" "I") ∈ lw_all := lw_g (lw_at lw_m4 69 rfl) rfl
theorem q912 : (Jvm.Cond.soleField "TrunkLitters$Room" "taken") ∈ lw_all := lw_g (lw_at lw_m4 70 rfl) rfl
theorem q913 : (Jvm.Cond.laysFinal "TrunkLitters$Room" "TrunkLitters$Named" "name" "Ljava/lang/String;") ∈ lw_all := lw_g (lw_at lw_m4 71 rfl) rfl
theorem q915 : (Jvm.Cond.superclass "TrunkLitters$Room" "TrunkLitters$Named") ∈ lw_all := lw_g (lw_at lw_m4 73 rfl) rfl
theorem q969 : (Jvm.Cond.selects "TrunkLitters$Room" ({ cls := "java/lang/Object", name := "getClass", desc := "()Ljava/lang/Class;" } : Jvm.MethodName) ({ cls := "java/lang/Object", name := "getClass", desc := "()Ljava/lang/Class;" } : Jvm.MethodName)) ∈ lw_all := lw_g (lw_at lw_m4 127 rfl) rfl
theorem q2258 : (Jvm.Cond.castable "TrunkLitters$Room" "TrunkLitters$Named") ∈ lw_tbl := lw_at lw_m9 216 rfl
theorem q2269 : (Jvm.Cond.castable "TrunkLitters$Room" "java/lang/Object") ∈ lw_tbl := lw_at lw_m9 227 rfl
theorem in_X7 : ∀ w ∈ wsX70, w ∈ lw_all := lw_in wsX70 [913, 909, 911] (by decide +kernel) (by decide +kernel)

/-! TrunkLitters$Wrong -/
set_option maxRecDepth 100000
def RX8 : String := "TrunkLitters$Wrong"
def TX8 : u_T := fun k => match k with
  | 0 => ("java/lang/Throwable", "cause", "Ljava/lang/Throwable;", false)
  | 1 => ("java/lang/Throwable", "stackTrace", "[Ljava/lang/StackTraceElement;", false)
  | 2 => ("java/lang/Throwable", "suppressedExceptions", "Ljava/util/List;", false)
  | 3 => ("java/lang/Throwable", "detailMessage", "Ljava/lang/String;", false)
  | 4 => ("java/lang/Throwable", "backtrace", "Ljava/lang/Object;", false)
  | 5 => ("java/lang/Throwable", "depth", "I", false)
  | 6 => ("TrunkLitters$Wrong", "kind", "I", true)
  | _ => ("TrunkLitters$Wrong", "place", "I", true)
def tyX8 : Nat → FieldType := fun k => match k with
  | 0 => .object "java/lang/Throwable"
  | 1 => .array (.object "java/lang/StackTraceElement")
  | 2 => .object "java/util/List"
  | 3 => .object "java/lang/String"
  | 4 => .object "java/lang/Object"
  | 5 => .int
  | 6 => .int
  | _ => .int
abbrev wsX80 : List Cond := u_ws RX8 TX8 8
theorem nmX8 : ∀ a, a < 8 → ∀ b, b < 8 → a ≠ b → (TX8 a).2.1 ≠ (TX8 b).2.1 := by decide +kernel
theorem tyX8_ok : ∀ k, k < 8 → parseFieldDescriptor (TX8 k).2.2.1 = some (tyX8 k) := by decide +kernel
abbrev cX8_init : ByteArray := prog_20_method_1_code
def yX8_init : MethodName := ⟨RX8, "<init>", "(II)V"⟩
def dkwX8_init_0 : List UInt8 := [42, 1, 1, 3, 3, 183, 0, 1, 42, 27, 181, 0, 7, 42, 28, 181, 0, 13, 177]
abbrev dktX8_init_0 : List UInt8 := dkwX8_init_0 ++ []
theorem dksX8_init_0 : cX8_init.data.toList.drop 0 = dktX8_init_0 := by decide +kernel
theorem dX8_init_0 : decode cX8_init 0 = .ok (.aload_n 0, 1) := dk_42 (dk_at dksX8_init_0 0 rfl rfl)
theorem dX8_init_1 : decode cX8_init 1 = .ok (.aconst_null, 1) := dk_1 (dk_at dksX8_init_0 1 rfl rfl)
theorem dX8_init_2 : decode cX8_init 2 = .ok (.aconst_null, 1) := dk_1 (dk_at dksX8_init_0 2 rfl rfl)
theorem dX8_init_3 : decode cX8_init 3 = .ok (.iconst 0, 1) := dk_3 (dk_at dksX8_init_0 3 rfl rfl)
theorem dX8_init_4 : decode cX8_init 4 = .ok (.iconst 0, 1) := dk_3 (dk_at dksX8_init_0 4 rfl rfl)
theorem dX8_init_5 : decode cX8_init 5 = .ok (.invokespecial 1, 3) := dk_183 0 1 (dk_at dksX8_init_0 5 rfl rfl)
theorem dX8_init_8 : decode cX8_init 8 = .ok (.aload_n 0, 1) := dk_42 (dk_at dksX8_init_0 8 rfl rfl)
theorem dX8_init_9 : decode cX8_init 9 = .ok (.iload_n 1, 1) := dk_27 (dk_at dksX8_init_0 9 rfl rfl)
theorem dX8_init_10 : decode cX8_init 10 = .ok (.putfield 7, 3) := dk_181 0 7 (dk_at dksX8_init_0 10 rfl rfl)
theorem dX8_init_13 : decode cX8_init 13 = .ok (.aload_n 0, 1) := dk_42 (dk_at dksX8_init_0 13 rfl rfl)
theorem dX8_init_14 : decode cX8_init 14 = .ok (.iload_n 2, 1) := dk_28 (dk_at dksX8_init_0 14 rfl rfl)
theorem dX8_init_15 : decode cX8_init 15 = .ok (.putfield 13, 3) := dk_181 0 13 (dk_at dksX8_init_0 15 rfl rfl)
theorem dX8_init_18 : decode cX8_init 18 = .ok (.return_, 1) := dk_177 (dk_at dksX8_init_0 18 rfl rfl)
theorem q147 : (Jvm.Cond.initialized "TrunkLitters$Wrong") ∈ lw_all := lw_g (lw_at lw_m1 25 rfl) rfl
theorem q823 : (Jvm.Cond.instantiable "TrunkLitters$Wrong" (8 : Nat)) ∈ lw_all := lw_g (lw_at lw_m3 221 rfl) rfl
theorem q824 : (Jvm.Cond.castable "TrunkLitters$Wrong" "TrunkLitters$Wrong") ∈ lw_tbl := lw_at lw_m3 222 rfl
theorem q829 : (Jvm.Cond.selects "TrunkLitters$Wrong" ({ cls := "java/lang/Throwable", name := "fillInStackTrace", desc := "(I)Ljava/lang/Throwable;" } : Jvm.MethodName) ({ cls := "java/lang/Throwable", name := "fillInStackTrace", desc := "(I)Ljava/lang/Throwable;" } : Jvm.MethodName)) ∈ lw_all := lw_g (lw_at lw_m3 227 rfl) rfl
theorem q830 : (Jvm.Cond.selects "TrunkLitters$Wrong" ({ cls := "java/lang/Throwable", name := "fillInStackTrace", desc := "()Ljava/lang/Throwable;" } : Jvm.MethodName) ({ cls := "java/lang/Throwable", name := "fillInStackTrace", desc := "()Ljava/lang/Throwable;" } : Jvm.MethodName)) ∈ lw_all := lw_g (lw_at lw_m3 228 rfl) rfl
theorem q831 : (Jvm.Cond.lays "TrunkLitters$Wrong" "java/lang/Throwable" "cause" "Ljava/lang/Throwable;") ∈ lw_all := lw_g (lw_at lw_m3 229 rfl) rfl
theorem q833 : (Jvm.Cond.lays "TrunkLitters$Wrong" "java/lang/Throwable" "stackTrace" "[Ljava/lang/StackTraceElement;") ∈ lw_all := lw_g (lw_at lw_m3 231 rfl) rfl
theorem q835 : (Jvm.Cond.lays "TrunkLitters$Wrong" "java/lang/Throwable" "suppressedExceptions" "Ljava/util/List;") ∈ lw_all := lw_g (lw_at lw_m3 233 rfl) rfl
theorem q837 : (Jvm.Cond.lays "TrunkLitters$Wrong" "java/lang/Throwable" "detailMessage" "Ljava/lang/String;") ∈ lw_all := lw_g (lw_at lw_m3 235 rfl) rfl
theorem q839 : (Jvm.Cond.lays "TrunkLitters$Wrong" "java/lang/Throwable" "backtrace" "Ljava/lang/Object;") ∈ lw_all := lw_g (lw_at lw_m3 237 rfl) rfl
theorem q860 : (Jvm.Cond.instanceMethod ({ cls := "TrunkLitters$Wrong", name := "<init>", desc := "(II)V" } : Jvm.MethodName)) ∈ lw_all := lw_g (lw_at lw_m4 18 rfl) rfl
theorem q861 : (Jvm.Cond.code ({ cls := "TrunkLitters$Wrong", name := "<init>", desc := "(II)V" } : Jvm.MethodName) prog_20_method_1_code (3 : Nat) (Option.none : Option Jvm.ClassFile.FieldType)) ∈ lw_all := lw_g (lw_at lw_m4 19 rfl) rfl
theorem q862 : (Jvm.Cond.methodLink "TrunkLitters$Wrong" (1 : Nat) ({ cls := "java/lang/Exception", name := "<init>", desc := "(Ljava/lang/String;Ljava/lang/Throwable;ZZ)V" } : Jvm.MethodName)) ∈ lw_all := lw_g (lw_at lw_m4 20 rfl) rfl
theorem q868 : (Jvm.Cond.fieldLink "TrunkLitters$Wrong" (7 : Nat) "TrunkLitters$Wrong" "kind" "I") ∈ lw_all := lw_g (lw_at lw_m4 26 rfl) rfl
theorem q870 : (Jvm.Cond.fieldLink "TrunkLitters$Wrong" (13 : Nat) "TrunkLitters$Wrong" "place" "I") ∈ lw_all := lw_g (lw_at lw_m4 28 rfl) rfl
theorem q877 : (Jvm.Cond.laysFinal "TrunkLitters$Wrong" "TrunkLitters$Wrong" "kind" "I") ∈ lw_all := lw_g (lw_at lw_m4 35 rfl) rfl
theorem q878 : (Jvm.Cond.soleField "TrunkLitters$Wrong" "kind") ∈ lw_all := lw_g (lw_at lw_m4 36 rfl) rfl
theorem q879 : (Jvm.Cond.laysFinal "TrunkLitters$Wrong" "TrunkLitters$Wrong" "place" "I") ∈ lw_all := lw_g (lw_at lw_m4 37 rfl) rfl
theorem q880 : (Jvm.Cond.soleField "TrunkLitters$Wrong" "place") ∈ lw_all := lw_g (lw_at lw_m4 38 rfl) rfl
theorem q885 : (Jvm.Cond.lays "TrunkLitters$Wrong" "java/lang/Throwable" "depth" "I") ∈ lw_all := lw_g (lw_at lw_m4 43 rfl) rfl
theorem q888 : (Jvm.Cond.superclass "TrunkLitters$Wrong" "java/lang/Exception") ∈ lw_all := lw_g (lw_at lw_m4 46 rfl) rfl
theorem q973 : (Jvm.Cond.selects "TrunkLitters$Wrong" ({ cls := "java/lang/Object", name := "getClass", desc := "()Ljava/lang/Class;" } : Jvm.MethodName) ({ cls := "java/lang/Object", name := "getClass", desc := "()Ljava/lang/Class;" } : Jvm.MethodName)) ∈ lw_all := lw_g (lw_at lw_m4 131 rfl) rfl
theorem q2271 : (Jvm.Cond.castable "TrunkLitters$Wrong" "java/lang/Object") ∈ lw_tbl := lw_at lw_m9 229 rfl
theorem in_X8 : ∀ w ∈ wsX80, w ∈ lw_all := lw_in wsX80 [831, 833, 835, 837, 839, 885, 877, 879] (by decide +kernel) (by decide +kernel)

/-! TrunkLitters$Trunk -/
set_option maxRecDepth 100000
def RX9 : String := "TrunkLitters$Trunk"
def TX9 : u_T := fun k => match k with
  | 0 => ("TrunkLitters$Named", "name", "Ljava/lang/String;", true)
  | 1 => ("TrunkLitters$Trunk", "bulk", "I", false)
  | 2 => ("TrunkLitters$Trunk", "at", "I", false)
  | 3 => ("TrunkLitters$Trunk", "marks", "I", false)
  | _ => ("TrunkLitters$Trunk", "told", "I", false)
def tyX9 : Nat → FieldType := fun k => match k with
  | 0 => .object "java/lang/String"
  | 1 => .int
  | 2 => .int
  | 3 => .int
  | _ => .int
abbrev wsX90 : List Cond := u_ws RX9 TX9 5
theorem nmX9 : ∀ a, a < 5 → ∀ b, b < 5 → a ≠ b → (TX9 a).2.1 ≠ (TX9 b).2.1 := by decide +kernel
theorem tyX9_ok : ∀ k, k < 5 → parseFieldDescriptor (TX9 k).2.2.1 = some (tyX9 k) := by decide +kernel
abbrev cX9_init : ByteArray := prog_18_method_1_code
def yX9_init : MethodName := ⟨RX9, "<init>", "(Ljava/lang/String;)V"⟩
def dkwX9_init_0 : List UInt8 := [42, 43, 183, 0, 1, 177]
abbrev dktX9_init_0 : List UInt8 := dkwX9_init_0 ++ []
theorem dksX9_init_0 : cX9_init.data.toList.drop 0 = dktX9_init_0 := by decide +kernel
theorem dX9_init_0 : decode cX9_init 0 = .ok (.aload_n 0, 1) := dk_42 (dk_at dksX9_init_0 0 rfl rfl)
theorem dX9_init_1 : decode cX9_init 1 = .ok (.aload_n 1, 1) := dk_43 (dk_at dksX9_init_0 1 rfl rfl)
theorem dX9_init_2 : decode cX9_init 2 = .ok (.invokespecial 1, 3) := dk_183 0 1 (dk_at dksX9_init_0 2 rfl rfl)
theorem dX9_init_5 : decode cX9_init 5 = .ok (.return_, 1) := dk_177 (dk_at dksX9_init_0 5 rfl rfl)
theorem q148 : (Jvm.Cond.initialized "TrunkLitters$Trunk") ∈ lw_all := lw_g (lw_at lw_m1 26 rfl) rfl
theorem q971 : (Jvm.Cond.selects "TrunkLitters$Trunk" ({ cls := "java/lang/Object", name := "getClass", desc := "()Ljava/lang/Class;" } : Jvm.MethodName) ({ cls := "java/lang/Object", name := "getClass", desc := "()Ljava/lang/Class;" } : Jvm.MethodName)) ∈ lw_all := lw_g (lw_at lw_m4 129 rfl) rfl
theorem q991 : (Jvm.Cond.instantiable "TrunkLitters$Trunk" (5 : Nat)) ∈ lw_all := lw_g (lw_at lw_m4 149 rfl) rfl
theorem q993 : (Jvm.Cond.instanceMethod ({ cls := "TrunkLitters$Trunk", name := "<init>", desc := "(Ljava/lang/String;)V" } : Jvm.MethodName)) ∈ lw_all := lw_g (lw_at lw_m4 151 rfl) rfl
theorem q994 : (Jvm.Cond.code ({ cls := "TrunkLitters$Trunk", name := "<init>", desc := "(Ljava/lang/String;)V" } : Jvm.MethodName) prog_18_method_1_code (2 : Nat) (Option.none : Option Jvm.ClassFile.FieldType)) ∈ lw_all := lw_g (lw_at lw_m4 152 rfl) rfl
theorem q995 : (Jvm.Cond.methodLink "TrunkLitters$Trunk" (1 : Nat) ({ cls := "TrunkLitters$Named", name := "<init>", desc := "(Ljava/lang/String;)V" } : Jvm.MethodName)) ∈ lw_all := lw_g (lw_at lw_m4 153 rfl) rfl
theorem q1005 : (Jvm.Cond.lays "TrunkLitters$Trunk" "TrunkLitters$Trunk" "bulk" "I") ∈ lw_all := lw_g (lw_at lw_m4 163 rfl) rfl
theorem q1006 : (Jvm.Cond.soleField "TrunkLitters$Trunk" "bulk") ∈ lw_all := lw_g (lw_at lw_m4 164 rfl) rfl
theorem q1007 : (Jvm.Cond.lays "TrunkLitters$Trunk" "TrunkLitters$Trunk" "at" "I") ∈ lw_all := lw_g (lw_at lw_m4 165 rfl) rfl
theorem q1008 : (Jvm.Cond.soleField "TrunkLitters$Trunk" "at") ∈ lw_all := lw_g (lw_at lw_m4 166 rfl) rfl
theorem q1009 : (Jvm.Cond.lays "TrunkLitters$Trunk" "TrunkLitters$Trunk" "marks" "I") ∈ lw_all := lw_g (lw_at lw_m4 167 rfl) rfl
theorem q1010 : (Jvm.Cond.soleField "TrunkLitters$Trunk" "marks") ∈ lw_all := lw_g (lw_at lw_m4 168 rfl) rfl
theorem q1011 : (Jvm.Cond.lays "TrunkLitters$Trunk" "TrunkLitters$Trunk" "told" "I") ∈ lw_all := lw_g (lw_at lw_m4 169 rfl) rfl
theorem q1012 : (Jvm.Cond.soleField "TrunkLitters$Trunk" "told") ∈ lw_all := lw_g (lw_at lw_m4 170 rfl) rfl
theorem q1013 : (Jvm.Cond.laysFinal "TrunkLitters$Trunk" "TrunkLitters$Named" "name" "Ljava/lang/String;") ∈ lw_all := lw_g (lw_at lw_m4 171 rfl) rfl
theorem q1014 : (Jvm.Cond.superclass "TrunkLitters$Trunk" "TrunkLitters$Named") ∈ lw_all := lw_g (lw_at lw_m4 172 rfl) rfl
theorem q2259 : (Jvm.Cond.castable "TrunkLitters$Trunk" "TrunkLitters$Named") ∈ lw_tbl := lw_at lw_m9 217 rfl
theorem q2272 : (Jvm.Cond.castable "TrunkLitters$Trunk" "java/lang/Object") ∈ lw_tbl := lw_at lw_m9 230 rfl
theorem in_X9 : ∀ w ∈ wsX90, w ∈ lw_all := lw_in wsX90 [1013, 1005, 1007, 1009, 1011] (by decide +kernel) (by decide +kernel)
