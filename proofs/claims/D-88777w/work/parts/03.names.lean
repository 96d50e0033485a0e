/-! java/lang/Math -/
set_option maxRecDepth 100000
def RJ0 : String := "java/lang/Math"
abbrev cJ0_floorMod : ByteArray := prog_24_method_50_code
def yJ0_floorMod : MethodName := ⟨RJ0, "floorMod", "(II)I"⟩
def dkwJ0_floorMod_0 : List UInt8 := [26, 27, 112, 61, 26, 27, 130, 156, 0, 11, 28, 153, 0, 7, 28, 27, 96, 172, 28, 172]
abbrev dktJ0_floorMod_0 : List UInt8 := dkwJ0_floorMod_0 ++ []
theorem dksJ0_floorMod_0 : cJ0_floorMod.data.toList.drop 0 = dktJ0_floorMod_0 := by decide +kernel
theorem dJ0_floorMod_0 : decode cJ0_floorMod 0 = .ok (.iload_n 0, 1) := dk_26 (dk_at dksJ0_floorMod_0 0 rfl rfl)
theorem dJ0_floorMod_1 : decode cJ0_floorMod 1 = .ok (.iload_n 1, 1) := dk_27 (dk_at dksJ0_floorMod_0 1 rfl rfl)
theorem dJ0_floorMod_2 : decode cJ0_floorMod 2 = .ok (.irem, 1) := dk_112 (dk_at dksJ0_floorMod_0 2 rfl rfl)
theorem dJ0_floorMod_3 : decode cJ0_floorMod 3 = .ok (.istore_n 2, 1) := dk_61 (dk_at dksJ0_floorMod_0 3 rfl rfl)
theorem dJ0_floorMod_4 : decode cJ0_floorMod 4 = .ok (.iload_n 0, 1) := dk_26 (dk_at dksJ0_floorMod_0 4 rfl rfl)
theorem dJ0_floorMod_5 : decode cJ0_floorMod 5 = .ok (.iload_n 1, 1) := dk_27 (dk_at dksJ0_floorMod_0 5 rfl rfl)
theorem dJ0_floorMod_6 : decode cJ0_floorMod 6 = .ok (.ixor, 1) := dk_130 (dk_at dksJ0_floorMod_0 6 rfl rfl)
theorem dJ0_floorMod_7 : decode cJ0_floorMod 7 = .ok (.ifCond .ge 11, 3) := dk_156 0 11 (dk_at dksJ0_floorMod_0 7 rfl rfl)
theorem dJ0_floorMod_10 : decode cJ0_floorMod 10 = .ok (.iload_n 2, 1) := dk_28 (dk_at dksJ0_floorMod_0 10 rfl rfl)
theorem dJ0_floorMod_11 : decode cJ0_floorMod 11 = .ok (.ifCond .eq 7, 3) := dk_153 0 7 (dk_at dksJ0_floorMod_0 11 rfl rfl)
theorem dJ0_floorMod_14 : decode cJ0_floorMod 14 = .ok (.iload_n 2, 1) := dk_28 (dk_at dksJ0_floorMod_0 14 rfl rfl)
theorem dJ0_floorMod_15 : decode cJ0_floorMod 15 = .ok (.iload_n 1, 1) := dk_27 (dk_at dksJ0_floorMod_0 15 rfl rfl)
theorem dJ0_floorMod_16 : decode cJ0_floorMod 16 = .ok (.iadd, 1) := dk_96 (dk_at dksJ0_floorMod_0 16 rfl rfl)
theorem dJ0_floorMod_17 : decode cJ0_floorMod 17 = .ok (.ireturn, 1) := dk_172 (dk_at dksJ0_floorMod_0 17 rfl rfl)
theorem dJ0_floorMod_18 : decode cJ0_floorMod 18 = .ok (.iload_n 2, 1) := dk_28 (dk_at dksJ0_floorMod_0 18 rfl rfl)
theorem dJ0_floorMod_19 : decode cJ0_floorMod 19 = .ok (.ireturn, 1) := dk_172 (dk_at dksJ0_floorMod_0 19 rfl rfl)
abbrev cJ0_floorMod_2 : ByteArray := prog_24_method_52_code
def yJ0_floorMod_2 : MethodName := ⟨RJ0, "floorMod", "(JJ)J"⟩
def dkwJ0_floorMod_2_1 : List UInt8 := [173, 22, 4, 173]
abbrev dktJ0_floorMod_2_1 : List UInt8 := dkwJ0_floorMod_2_1 ++ []
def dkwJ0_floorMod_2_0 : List UInt8 := [30, 32, 113, 55, 4, 30, 32, 131, 9, 148, 156, 0, 15, 22, 4, 9, 148, 153, 0, 8, 22, 4, 32, 97]
abbrev dktJ0_floorMod_2_0 : List UInt8 := dkwJ0_floorMod_2_0 ++ dktJ0_floorMod_2_1
theorem dksJ0_floorMod_2_0 : cJ0_floorMod_2.data.toList.drop 0 = dktJ0_floorMod_2_0 := by decide +kernel
theorem dksJ0_floorMod_2_1 : cJ0_floorMod_2.data.toList.drop 24 = dktJ0_floorMod_2_1 := dk_seg dksJ0_floorMod_2_0 24 rfl rfl
theorem dJ0_floorMod_2_0 : decode cJ0_floorMod_2 0 = .ok (.lload_n 0, 1) := dk_30 (dk_at dksJ0_floorMod_2_0 0 rfl rfl)
theorem dJ0_floorMod_2_1 : decode cJ0_floorMod_2 1 = .ok (.lload_n 2, 1) := dk_32 (dk_at dksJ0_floorMod_2_0 1 rfl rfl)
theorem dJ0_floorMod_2_2 : decode cJ0_floorMod_2 2 = .ok (.lrem, 1) := dk_113 (dk_at dksJ0_floorMod_2_0 2 rfl rfl)
theorem dJ0_floorMod_2_3 : decode cJ0_floorMod_2 3 = .ok (.lstore 4, 2) := dk_55 4 (dk_at dksJ0_floorMod_2_0 3 rfl rfl)
theorem dJ0_floorMod_2_5 : decode cJ0_floorMod_2 5 = .ok (.lload_n 0, 1) := dk_30 (dk_at dksJ0_floorMod_2_0 5 rfl rfl)
theorem dJ0_floorMod_2_6 : decode cJ0_floorMod_2 6 = .ok (.lload_n 2, 1) := dk_32 (dk_at dksJ0_floorMod_2_0 6 rfl rfl)
theorem dJ0_floorMod_2_7 : decode cJ0_floorMod_2 7 = .ok (.lxor, 1) := dk_131 (dk_at dksJ0_floorMod_2_0 7 rfl rfl)
theorem dJ0_floorMod_2_8 : decode cJ0_floorMod_2 8 = .ok (.lconst 0, 1) := dk_9 (dk_at dksJ0_floorMod_2_0 8 rfl rfl)
theorem dJ0_floorMod_2_9 : decode cJ0_floorMod_2 9 = .ok (.lcmp, 1) := dk_148 (dk_at dksJ0_floorMod_2_0 9 rfl rfl)
theorem dJ0_floorMod_2_10 : decode cJ0_floorMod_2 10 = .ok (.ifCond .ge 15, 3) := dk_156 0 15 (dk_at dksJ0_floorMod_2_0 10 rfl rfl)
theorem dJ0_floorMod_2_13 : decode cJ0_floorMod_2 13 = .ok (.lload 4, 2) := dk_22 4 (dk_at dksJ0_floorMod_2_0 13 rfl rfl)
theorem dJ0_floorMod_2_15 : decode cJ0_floorMod_2 15 = .ok (.lconst 0, 1) := dk_9 (dk_at dksJ0_floorMod_2_0 15 rfl rfl)
theorem dJ0_floorMod_2_16 : decode cJ0_floorMod_2 16 = .ok (.lcmp, 1) := dk_148 (dk_at dksJ0_floorMod_2_0 16 rfl rfl)
theorem dJ0_floorMod_2_17 : decode cJ0_floorMod_2 17 = .ok (.ifCond .eq 8, 3) := dk_153 0 8 (dk_at dksJ0_floorMod_2_0 17 rfl rfl)
theorem dJ0_floorMod_2_20 : decode cJ0_floorMod_2 20 = .ok (.lload 4, 2) := dk_22 4 (dk_at dksJ0_floorMod_2_0 20 rfl rfl)
theorem dJ0_floorMod_2_22 : decode cJ0_floorMod_2 22 = .ok (.lload_n 2, 1) := dk_32 (dk_at dksJ0_floorMod_2_0 22 rfl rfl)
theorem dJ0_floorMod_2_23 : decode cJ0_floorMod_2 23 = .ok (.ladd, 1) := dk_97 (dk_at dksJ0_floorMod_2_0 23 rfl rfl)
theorem dJ0_floorMod_2_24 : decode cJ0_floorMod_2 24 = .ok (.lreturn, 1) := dk_173 (dk_at dksJ0_floorMod_2_1 0 rfl rfl)
theorem dJ0_floorMod_2_25 : decode cJ0_floorMod_2 25 = .ok (.lload 4, 2) := dk_22 4 (dk_at dksJ0_floorMod_2_1 1 rfl rfl)
theorem dJ0_floorMod_2_27 : decode cJ0_floorMod_2 27 = .ok (.lreturn, 1) := dk_173 (dk_at dksJ0_floorMod_2_1 3 rfl rfl)
abbrev cJ0_min : ByteArray := prog_24_method_69_code
def yJ0_min : MethodName := ⟨RJ0, "min", "(II)I"⟩
def dkwJ0_min_0 : List UInt8 := [26, 27, 163, 0, 7, 26, 167, 0, 4, 27, 172]
abbrev dktJ0_min_0 : List UInt8 := dkwJ0_min_0 ++ []
theorem dksJ0_min_0 : cJ0_min.data.toList.drop 0 = dktJ0_min_0 := by decide +kernel
theorem dJ0_min_0 : decode cJ0_min 0 = .ok (.iload_n 0, 1) := dk_26 (dk_at dksJ0_min_0 0 rfl rfl)
theorem dJ0_min_1 : decode cJ0_min 1 = .ok (.iload_n 1, 1) := dk_27 (dk_at dksJ0_min_0 1 rfl rfl)
theorem dJ0_min_2 : decode cJ0_min 2 = .ok (.if_icmp .gt 7, 3) := dk_163 0 7 (dk_at dksJ0_min_0 2 rfl rfl)
theorem dJ0_min_5 : decode cJ0_min 5 = .ok (.iload_n 0, 1) := dk_26 (dk_at dksJ0_min_0 5 rfl rfl)
theorem dJ0_min_6 : decode cJ0_min 6 = .ok (.goto 4, 3) := dk_167 0 4 (dk_at dksJ0_min_0 6 rfl rfl)
theorem dJ0_min_9 : decode cJ0_min 9 = .ok (.iload_n 1, 1) := dk_27 (dk_at dksJ0_min_0 9 rfl rfl)
theorem dJ0_min_10 : decode cJ0_min 10 = .ok (.ireturn, 1) := dk_172 (dk_at dksJ0_min_0 10 rfl rfl)
abbrev cJ0_abs : ByteArray := prog_24_method_59_code
def yJ0_abs : MethodName := ⟨RJ0, "abs", "(I)I"⟩
def dkwJ0_abs_0 : List UInt8 := [26, 156, 0, 8, 26, 116, 167, 0, 4, 26, 172]
abbrev dktJ0_abs_0 : List UInt8 := dkwJ0_abs_0 ++ []
theorem dksJ0_abs_0 : cJ0_abs.data.toList.drop 0 = dktJ0_abs_0 := by decide +kernel
theorem dJ0_abs_0 : decode cJ0_abs 0 = .ok (.iload_n 0, 1) := dk_26 (dk_at dksJ0_abs_0 0 rfl rfl)
theorem dJ0_abs_1 : decode cJ0_abs 1 = .ok (.ifCond .ge 8, 3) := dk_156 0 8 (dk_at dksJ0_abs_0 1 rfl rfl)
theorem dJ0_abs_4 : decode cJ0_abs 4 = .ok (.iload_n 0, 1) := dk_26 (dk_at dksJ0_abs_0 4 rfl rfl)
theorem dJ0_abs_5 : decode cJ0_abs 5 = .ok (.ineg, 1) := dk_116 (dk_at dksJ0_abs_0 5 rfl rfl)
theorem dJ0_abs_6 : decode cJ0_abs 6 = .ok (.goto 4, 3) := dk_167 0 4 (dk_at dksJ0_abs_0 6 rfl rfl)
theorem dJ0_abs_9 : decode cJ0_abs 9 = .ok (.iload_n 0, 1) := dk_26 (dk_at dksJ0_abs_0 9 rfl rfl)
theorem dJ0_abs_10 : decode cJ0_abs 10 = .ok (.ireturn, 1) := dk_172 (dk_at dksJ0_abs_0 10 rfl rfl)
abbrev cJ0_max : ByteArray := prog_24_method_65_code
def yJ0_max : MethodName := ⟨RJ0, "max", "(II)I"⟩
def dkwJ0_max_0 : List UInt8 := [26, 27, 161, 0, 7, 26, 167, 0, 4, 27, 172]
abbrev dktJ0_max_0 : List UInt8 := dkwJ0_max_0 ++ []
theorem dksJ0_max_0 : cJ0_max.data.toList.drop 0 = dktJ0_max_0 := by decide +kernel
theorem dJ0_max_0 : decode cJ0_max 0 = .ok (.iload_n 0, 1) := dk_26 (dk_at dksJ0_max_0 0 rfl rfl)
theorem dJ0_max_1 : decode cJ0_max 1 = .ok (.iload_n 1, 1) := dk_27 (dk_at dksJ0_max_0 1 rfl rfl)
theorem dJ0_max_2 : decode cJ0_max 2 = .ok (.if_icmp .lt 7, 3) := dk_161 0 7 (dk_at dksJ0_max_0 2 rfl rfl)
theorem dJ0_max_5 : decode cJ0_max 5 = .ok (.iload_n 0, 1) := dk_26 (dk_at dksJ0_max_0 5 rfl rfl)
theorem dJ0_max_6 : decode cJ0_max 6 = .ok (.goto 4, 3) := dk_167 0 4 (dk_at dksJ0_max_0 6 rfl rfl)
theorem dJ0_max_9 : decode cJ0_max 9 = .ok (.iload_n 1, 1) := dk_27 (dk_at dksJ0_max_0 9 rfl rfl)
theorem dJ0_max_10 : decode cJ0_max 10 = .ok (.ireturn, 1) := dk_172 (dk_at dksJ0_max_0 10 rfl rfl)
theorem q61 : (Jvm.Cond.initialized "java/lang/Math") ∈ lw_all := lw_g (lw_at lw_m1 2 rfl) rfl
theorem q100 : (Jvm.Cond.static ({ cls := "java/lang/Math", name := "floorMod", desc := "(II)I" } : Jvm.MethodName)) ∈ lw_all := lw_g (lw_at lw_m1 41 rfl) rfl
theorem q101 : (Jvm.Cond.code ({ cls := "java/lang/Math", name := "floorMod", desc := "(II)I" } : Jvm.MethodName) prog_24_method_50_code (3 : Nat) (Option.some Jvm.ClassFile.FieldType.int)) ∈ lw_all := lw_g (lw_at lw_m1 42 rfl) rfl
theorem q117 : (Jvm.Cond.static ({ cls := "java/lang/Math", name := "floorMod", desc := "(JJ)J" } : Jvm.MethodName)) ∈ lw_all := lw_g (lw_at lw_m1 58 rfl) rfl
theorem q118 : (Jvm.Cond.code ({ cls := "java/lang/Math", name := "floorMod", desc := "(JJ)J" } : Jvm.MethodName) prog_24_method_52_code (6 : Nat) (Option.some Jvm.ClassFile.FieldType.long)) ∈ lw_all := lw_g (lw_at lw_m1 59 rfl) rfl
theorem q429 : (Jvm.Cond.static ({ cls := "java/lang/Math", name := "min", desc := "(II)I" } : Jvm.MethodName)) ∈ lw_all := lw_g (lw_at lw_m2 130 rfl) rfl
theorem q430 : (Jvm.Cond.code ({ cls := "java/lang/Math", name := "min", desc := "(II)I" } : Jvm.MethodName) prog_24_method_69_code (2 : Nat) (Option.some Jvm.ClassFile.FieldType.int)) ∈ lw_all := lw_g (lw_at lw_m2 131 rfl) rfl
theorem q596 : (Jvm.Cond.static ({ cls := "java/lang/Math", name := "abs", desc := "(I)I" } : Jvm.MethodName)) ∈ lw_all := lw_g (lw_at lw_m3 57 rfl) rfl
theorem q597 : (Jvm.Cond.code ({ cls := "java/lang/Math", name := "abs", desc := "(I)I" } : Jvm.MethodName) prog_24_method_59_code (1 : Nat) (Option.some Jvm.ClassFile.FieldType.int)) ∈ lw_all := lw_g (lw_at lw_m3 58 rfl) rfl
theorem q804 : (Jvm.Cond.static ({ cls := "java/lang/Math", name := "max", desc := "(II)I" } : Jvm.MethodName)) ∈ lw_all := lw_g (lw_at lw_m4 25 rfl) rfl
theorem q805 : (Jvm.Cond.code ({ cls := "java/lang/Math", name := "max", desc := "(II)I" } : Jvm.MethodName) prog_24_method_65_code (2 : Nat) (Option.some Jvm.ClassFile.FieldType.int)) ∈ lw_all := lw_g (lw_at lw_m4 26 rfl) rfl
/-! java/util/AbstractCollection -/
set_option maxRecDepth 100000
def RJ1 : String := "java/util/AbstractCollection"
abbrev cJ1_init : ByteArray := prog_27_method_1_code
def yJ1_init : MethodName := ⟨RJ1, "<init>", "()V"⟩
theorem dJ1_init_0 : decode cJ1_init 0 = .ok (.aload_n 0, 1) := by decide +kernel
theorem dJ1_init_1 : decode cJ1_init 1 = .ok (.invokespecial 1, 3) := by decide +kernel
theorem dJ1_init_4 : decode cJ1_init 4 = .ok (.return_, 1) := by decide +kernel
theorem q68 : (Jvm.Cond.initialized "java/util/AbstractCollection") ∈ lw_all := lw_g (lw_at lw_m1 9 rfl) rfl
theorem q220 : (Jvm.Cond.instanceMethod ({ cls := "java/util/AbstractCollection", name := "<init>", desc := "()V" } : Jvm.MethodName)) ∈ lw_all := lw_g (lw_at lw_m1 161 rfl) rfl
theorem q221 : (Jvm.Cond.code ({ cls := "java/util/AbstractCollection", name := "<init>", desc := "()V" } : Jvm.MethodName) prog_27_method_1_code (1 : Nat) (Option.none : Option Jvm.ClassFile.FieldType)) ∈ lw_all := lw_g (lw_at lw_m1 162 rfl) rfl
theorem q222 : (Jvm.Cond.methodLink "java/util/AbstractCollection" (1 : Nat) ({ cls := "java/lang/Object", name := "<init>", desc := "()V" } : Jvm.MethodName)) ∈ lw_all := lw_g (lw_at lw_m1 163 rfl) rfl
/-! java/lang/Object -/
set_option maxRecDepth 100000
def RJ10 : String := "java/lang/Object"
abbrev cJ10_init : ByteArray := object_method_1_code
def yJ10_init : MethodName := ⟨RJ10, "<init>", "()V"⟩
theorem dJ10_init_0 : decode cJ10_init 0 = .ok (.return_, 1) := by decide +kernel
theorem q108 : (Jvm.Cond.instanceMethod ({ cls := "java/lang/Object", name := "<init>", desc := "()V" } : Jvm.MethodName)) ∈ lw_all := lw_g (lw_at lw_m1 49 rfl) rfl
theorem q109 : (Jvm.Cond.code ({ cls := "java/lang/Object", name := "<init>", desc := "()V" } : Jvm.MethodName) object_method_1_code (1 : Nat) (Option.none : Option Jvm.ClassFile.FieldType)) ∈ lw_all := lw_g (lw_at lw_m1 50 rfl) rfl
theorem q814 : (Jvm.Cond.instanceMethod ({ cls := "java/lang/Object", name := "getClass", desc := "()Ljava/lang/Class;" } : Jvm.MethodName)) ∈ lw_all := lw_g (lw_at lw_m4 35 rfl) rfl
theorem q815 : (Jvm.Cond.sameMethod "java/lang/Object" "java/lang/Object" "getClass" "()Ljava/lang/Class;") ∈ lw_all := lw_g (lw_at lw_m4 36 rfl) rfl
theorem q833 : (Jvm.Cond.native ({ cls := "java/lang/Object", name := "getClass", desc := "()Ljava/lang/Class;" } : Jvm.MethodName)) ∈ lw_all := lw_g (lw_at lw_m4 54 rfl) rfl
theorem q1507 : (Jvm.Cond.declares ({ cls := "java/lang/Object", name := "getClass", desc := "()Ljava/lang/Class;" } : Jvm.MethodName)) ∈ lw_tbl := lw_at lw_m7 8 rfl
/-! java/util/AbstractList -/
set_option maxRecDepth 100000
def RJ2 : String := "java/util/AbstractList"
abbrev cJ2_init : ByteArray := prog_28_method_1_code
def yJ2_init : MethodName := ⟨RJ2, "<init>", "()V"⟩
def dkwJ2_init_0 : List UInt8 := [42, 183, 0, 1, 42, 3, 181, 0, 7, 177]
abbrev dktJ2_init_0 : List UInt8 := dkwJ2_init_0 ++ []
theorem dksJ2_init_0 : cJ2_init.data.toList.drop 0 = dktJ2_init_0 := by decide +kernel
theorem dJ2_init_0 : decode cJ2_init 0 = .ok (.aload_n 0, 1) := dk_42 (dk_at dksJ2_init_0 0 rfl rfl)
theorem dJ2_init_1 : decode cJ2_init 1 = .ok (.invokespecial 1, 3) := dk_183 0 1 (dk_at dksJ2_init_0 1 rfl rfl)
theorem dJ2_init_4 : decode cJ2_init 4 = .ok (.aload_n 0, 1) := dk_42 (dk_at dksJ2_init_0 4 rfl rfl)
theorem dJ2_init_5 : decode cJ2_init 5 = .ok (.iconst 0, 1) := dk_3 (dk_at dksJ2_init_0 5 rfl rfl)
theorem dJ2_init_6 : decode cJ2_init 6 = .ok (.putfield 7, 3) := dk_181 0 7 (dk_at dksJ2_init_0 6 rfl rfl)
theorem dJ2_init_9 : decode cJ2_init 9 = .ok (.return_, 1) := dk_177 (dk_at dksJ2_init_0 9 rfl rfl)
theorem q69 : (Jvm.Cond.initialized "java/util/AbstractList") ∈ lw_all := lw_g (lw_at lw_m1 10 rfl) rfl
theorem q217 : (Jvm.Cond.instanceMethod ({ cls := "java/util/AbstractList", name := "<init>", desc := "()V" } : Jvm.MethodName)) ∈ lw_all := lw_g (lw_at lw_m1 158 rfl) rfl
theorem q218 : (Jvm.Cond.code ({ cls := "java/util/AbstractList", name := "<init>", desc := "()V" } : Jvm.MethodName) prog_28_method_1_code (1 : Nat) (Option.none : Option Jvm.ClassFile.FieldType)) ∈ lw_all := lw_g (lw_at lw_m1 159 rfl) rfl
theorem q219 : (Jvm.Cond.methodLink "java/util/AbstractList" (1 : Nat) ({ cls := "java/util/AbstractCollection", name := "<init>", desc := "()V" } : Jvm.MethodName)) ∈ lw_all := lw_g (lw_at lw_m1 160 rfl) rfl
theorem q227 : (Jvm.Cond.fieldLink "java/util/AbstractList" (7 : Nat) "java/util/AbstractList" "modCount" "I") ∈ lw_all := lw_g (lw_at lw_m1 168 rfl) rfl
theorem q235 : (Jvm.Cond.soleField "java/util/AbstractList" "modCount") ∈ lw_all := lw_g (lw_at lw_m1 176 rfl) rfl
/-! java/util/ArrayList -/
set_option maxRecDepth 100000
def RJ3 : String := "java/util/ArrayList"
def TJ3 : u_T := fun k => match k with
  | 0 => ("java/util/AbstractList", "modCount", "I", false)
  | 1 => ("java/util/ArrayList", "elementData", "[Ljava/lang/Object;", false)
  | _ => ("java/util/ArrayList", "size", "I", false)
def tyJ3 : Nat → FieldType := fun k => match k with
  | 0 => .int
  | 1 => .array (.object "java/lang/Object")
  | _ => .int
abbrev wsJ30 : List Cond := u_ws RJ3 TJ3 3
theorem nmJ3 : ∀ a, a < 3 → ∀ b, b < 3 → a ≠ b → (TJ3 a).2.1 ≠ (TJ3 b).2.1 := by decide +kernel
theorem tyJ3_ok : ∀ k, k < 3 → parseFieldDescriptor (TJ3 k).2.2.1 = some (tyJ3 k) := by decide +kernel
abbrev cJ3_init : ByteArray := prog_29_method_2_code
def yJ3_init : MethodName := ⟨RJ3, "<init>", "()V"⟩
def dkwJ3_init_0 : List UInt8 := [42, 183, 0, 1, 42, 178, 0, 39, 181, 0, 9, 177]
abbrev dktJ3_init_0 : List UInt8 := dkwJ3_init_0 ++ []
theorem dksJ3_init_0 : cJ3_init.data.toList.drop 0 = dktJ3_init_0 := by decide +kernel
theorem dJ3_init_0 : decode cJ3_init 0 = .ok (.aload_n 0, 1) := dk_42 (dk_at dksJ3_init_0 0 rfl rfl)
theorem dJ3_init_1 : decode cJ3_init 1 = .ok (.invokespecial 1, 3) := dk_183 0 1 (dk_at dksJ3_init_0 1 rfl rfl)
theorem dJ3_init_4 : decode cJ3_init 4 = .ok (.aload_n 0, 1) := dk_42 (dk_at dksJ3_init_0 4 rfl rfl)
theorem dJ3_init_5 : decode cJ3_init 5 = .ok (.getstatic 39, 3) := dk_178 0 39 (dk_at dksJ3_init_0 5 rfl rfl)
theorem dJ3_init_8 : decode cJ3_init 8 = .ok (.putfield 9, 3) := dk_181 0 9 (dk_at dksJ3_init_0 8 rfl rfl)
theorem dJ3_init_11 : decode cJ3_init 11 = .ok (.return_, 1) := dk_177 (dk_at dksJ3_init_0 11 rfl rfl)
abbrev cJ3_size : ByteArray := prog_29_method_8_code
def yJ3_size : MethodName := ⟨RJ3, "size", "()I"⟩
theorem dJ3_size_0 : decode cJ3_size 0 = .ok (.aload_n 0, 1) := by decide +kernel
theorem dJ3_size_1 : decode cJ3_size 1 = .ok (.getfield 48, 3) := by decide +kernel
theorem dJ3_size_4 : decode cJ3_size 4 = .ok (.ireturn, 1) := by decide +kernel
abbrev cJ3_get : ByteArray := prog_29_method_20_code
def yJ3_get : MethodName := ⟨RJ3, "get", "(I)Ljava/lang/Object;"⟩
def dkwJ3_get_0 : List UInt8 := [27, 42, 180, 0, 48, 184, 0, 118, 87, 42, 27, 182, 0, 123, 176]
abbrev dktJ3_get_0 : List UInt8 := dkwJ3_get_0 ++ []
theorem dksJ3_get_0 : cJ3_get.data.toList.drop 0 = dktJ3_get_0 := by decide +kernel
theorem dJ3_get_0 : decode cJ3_get 0 = .ok (.iload_n 1, 1) := dk_27 (dk_at dksJ3_get_0 0 rfl rfl)
theorem dJ3_get_1 : decode cJ3_get 1 = .ok (.aload_n 0, 1) := dk_42 (dk_at dksJ3_get_0 1 rfl rfl)
theorem dJ3_get_2 : decode cJ3_get 2 = .ok (.getfield 48, 3) := dk_180 0 48 (dk_at dksJ3_get_0 2 rfl rfl)
theorem dJ3_get_5 : decode cJ3_get 5 = .ok (.invokestatic 118, 3) := dk_184 0 118 (dk_at dksJ3_get_0 5 rfl rfl)
theorem dJ3_get_8 : decode cJ3_get 8 = .ok (.pop, 1) := dk_87 (dk_at dksJ3_get_0 8 rfl rfl)
theorem dJ3_get_9 : decode cJ3_get 9 = .ok (.aload_n 0, 1) := dk_42 (dk_at dksJ3_get_0 9 rfl rfl)
theorem dJ3_get_10 : decode cJ3_get 10 = .ok (.iload_n 1, 1) := dk_27 (dk_at dksJ3_get_0 10 rfl rfl)
theorem dJ3_get_11 : decode cJ3_get 11 = .ok (.invokevirtual 123, 3) := dk_182 0 123 (dk_at dksJ3_get_0 11 rfl rfl)
theorem dJ3_get_14 : decode cJ3_get 14 = .ok (.areturn, 1) := dk_176 (dk_at dksJ3_get_0 14 rfl rfl)
abbrev cJ3_elementData : ByteArray := prog_29_method_18_code
def yJ3_elementData : MethodName := ⟨RJ3, "elementData", "(I)Ljava/lang/Object;"⟩
def dkwJ3_elementData_0 : List UInt8 := [42, 180, 0, 9, 27, 50, 176]
abbrev dktJ3_elementData_0 : List UInt8 := dkwJ3_elementData_0 ++ []
theorem dksJ3_elementData_0 : cJ3_elementData.data.toList.drop 0 = dktJ3_elementData_0 := by decide +kernel
theorem dJ3_elementData_0 : decode cJ3_elementData 0 = .ok (.aload_n 0, 1) := dk_42 (dk_at dksJ3_elementData_0 0 rfl rfl)
theorem dJ3_elementData_1 : decode cJ3_elementData 1 = .ok (.getfield 9, 3) := dk_180 0 9 (dk_at dksJ3_elementData_0 1 rfl rfl)
theorem dJ3_elementData_4 : decode cJ3_elementData 4 = .ok (.iload_n 1, 1) := dk_27 (dk_at dksJ3_elementData_0 4 rfl rfl)
theorem dJ3_elementData_5 : decode cJ3_elementData 5 = .ok (.aaload, 1) := dk_50 (dk_at dksJ3_elementData_0 5 rfl rfl)
theorem dJ3_elementData_6 : decode cJ3_elementData 6 = .ok (.areturn, 1) := dk_176 (dk_at dksJ3_elementData_0 6 rfl rfl)
abbrev cJ3_add : ByteArray := prog_29_method_25_code
def yJ3_add : MethodName := ⟨RJ3, "add", "(Ljava/lang/Object;)Z"⟩
def dkwJ3_add_1 : List UInt8 := [172]
abbrev dktJ3_add_1 : List UInt8 := dkwJ3_add_1 ++ []
def dkwJ3_add_0 : List UInt8 := [42, 89, 180, 0, 63, 4, 96, 181, 0, 63, 42, 43, 42, 180, 0, 9, 42, 180, 0, 48, 182, 0, 131, 4]
abbrev dktJ3_add_0 : List UInt8 := dkwJ3_add_0 ++ dktJ3_add_1
theorem dksJ3_add_0 : cJ3_add.data.toList.drop 0 = dktJ3_add_0 := by decide +kernel
theorem dksJ3_add_1 : cJ3_add.data.toList.drop 24 = dktJ3_add_1 := dk_seg dksJ3_add_0 24 rfl rfl
theorem dJ3_add_0 : decode cJ3_add 0 = .ok (.aload_n 0, 1) := dk_42 (dk_at dksJ3_add_0 0 rfl rfl)
theorem dJ3_add_1 : decode cJ3_add 1 = .ok (.dup, 1) := dk_89 (dk_at dksJ3_add_0 1 rfl rfl)
theorem dJ3_add_2 : decode cJ3_add 2 = .ok (.getfield 63, 3) := dk_180 0 63 (dk_at dksJ3_add_0 2 rfl rfl)
theorem dJ3_add_5 : decode cJ3_add 5 = .ok (.iconst 1, 1) := dk_4 (dk_at dksJ3_add_0 5 rfl rfl)
theorem dJ3_add_6 : decode cJ3_add 6 = .ok (.iadd, 1) := dk_96 (dk_at dksJ3_add_0 6 rfl rfl)
theorem dJ3_add_7 : decode cJ3_add 7 = .ok (.putfield 63, 3) := dk_181 0 63 (dk_at dksJ3_add_0 7 rfl rfl)
theorem dJ3_add_10 : decode cJ3_add 10 = .ok (.aload_n 0, 1) := dk_42 (dk_at dksJ3_add_0 10 rfl rfl)
theorem dJ3_add_11 : decode cJ3_add 11 = .ok (.aload_n 1, 1) := dk_43 (dk_at dksJ3_add_0 11 rfl rfl)
theorem dJ3_add_12 : decode cJ3_add 12 = .ok (.aload_n 0, 1) := dk_42 (dk_at dksJ3_add_0 12 rfl rfl)
theorem dJ3_add_13 : decode cJ3_add 13 = .ok (.getfield 9, 3) := dk_180 0 9 (dk_at dksJ3_add_0 13 rfl rfl)
theorem dJ3_add_16 : decode cJ3_add 16 = .ok (.aload_n 0, 1) := dk_42 (dk_at dksJ3_add_0 16 rfl rfl)
theorem dJ3_add_17 : decode cJ3_add 17 = .ok (.getfield 48, 3) := dk_180 0 48 (dk_at dksJ3_add_0 17 rfl rfl)
theorem dJ3_add_20 : decode cJ3_add 20 = .ok (.invokevirtual 131, 3) := dk_182 0 131 (dk_at dksJ3_add_0 20 rfl rfl)
theorem dJ3_add_23 : decode cJ3_add 23 = .ok (.iconst 1, 1) := dk_4 (dk_at dksJ3_add_0 23 rfl rfl)
theorem dJ3_add_24 : decode cJ3_add 24 = .ok (.ireturn, 1) := dk_172 (dk_at dksJ3_add_1 0 rfl rfl)
abbrev cJ3_add_2 : ByteArray := prog_29_method_24_code
def yJ3_add_2 : MethodName := ⟨RJ3, "add", "(Ljava/lang/Object;[Ljava/lang/Object;I)V"⟩
def dkwJ3_add_2_0 : List UInt8 := [29, 44, 190, 160, 0, 8, 42, 182, 0, 129, 77, 44, 29, 43, 83, 42, 29, 4, 96, 181, 0, 48, 177]
abbrev dktJ3_add_2_0 : List UInt8 := dkwJ3_add_2_0 ++ []
theorem dksJ3_add_2_0 : cJ3_add_2.data.toList.drop 0 = dktJ3_add_2_0 := by decide +kernel
theorem dJ3_add_2_0 : decode cJ3_add_2 0 = .ok (.iload_n 3, 1) := dk_29 (dk_at dksJ3_add_2_0 0 rfl rfl)
theorem dJ3_add_2_1 : decode cJ3_add_2 1 = .ok (.aload_n 2, 1) := dk_44 (dk_at dksJ3_add_2_0 1 rfl rfl)
theorem dJ3_add_2_2 : decode cJ3_add_2 2 = .ok (.arraylength, 1) := dk_190 (dk_at dksJ3_add_2_0 2 rfl rfl)
theorem dJ3_add_2_3 : decode cJ3_add_2 3 = .ok (.if_icmp .ne 8, 3) := dk_160 0 8 (dk_at dksJ3_add_2_0 3 rfl rfl)
theorem dJ3_add_2_6 : decode cJ3_add_2 6 = .ok (.aload_n 0, 1) := dk_42 (dk_at dksJ3_add_2_0 6 rfl rfl)
theorem dJ3_add_2_7 : decode cJ3_add_2 7 = .ok (.invokevirtual 129, 3) := dk_182 0 129 (dk_at dksJ3_add_2_0 7 rfl rfl)
theorem dJ3_add_2_10 : decode cJ3_add_2 10 = .ok (.astore_n 2, 1) := dk_77 (dk_at dksJ3_add_2_0 10 rfl rfl)
theorem dJ3_add_2_11 : decode cJ3_add_2 11 = .ok (.aload_n 2, 1) := dk_44 (dk_at dksJ3_add_2_0 11 rfl rfl)
theorem dJ3_add_2_12 : decode cJ3_add_2 12 = .ok (.iload_n 3, 1) := dk_29 (dk_at dksJ3_add_2_0 12 rfl rfl)
theorem dJ3_add_2_13 : decode cJ3_add_2 13 = .ok (.aload_n 1, 1) := dk_43 (dk_at dksJ3_add_2_0 13 rfl rfl)
theorem dJ3_add_2_14 : decode cJ3_add_2 14 = .ok (.aastore, 1) := dk_83 (dk_at dksJ3_add_2_0 14 rfl rfl)
theorem dJ3_add_2_15 : decode cJ3_add_2 15 = .ok (.aload_n 0, 1) := dk_42 (dk_at dksJ3_add_2_0 15 rfl rfl)
theorem dJ3_add_2_16 : decode cJ3_add_2 16 = .ok (.iload_n 3, 1) := dk_29 (dk_at dksJ3_add_2_0 16 rfl rfl)
theorem dJ3_add_2_17 : decode cJ3_add_2 17 = .ok (.iconst 1, 1) := dk_4 (dk_at dksJ3_add_2_0 17 rfl rfl)
theorem dJ3_add_2_18 : decode cJ3_add_2 18 = .ok (.iadd, 1) := dk_96 (dk_at dksJ3_add_2_0 18 rfl rfl)
theorem dJ3_add_2_19 : decode cJ3_add_2 19 = .ok (.putfield 48, 3) := dk_181 0 48 (dk_at dksJ3_add_2_0 19 rfl rfl)
theorem dJ3_add_2_22 : decode cJ3_add_2 22 = .ok (.return_, 1) := dk_177 (dk_at dksJ3_add_2_0 22 rfl rfl)
abbrev cJ3_grow : ByteArray := prog_29_method_7_code
def yJ3_grow : MethodName := ⟨RJ3, "grow", "()[Ljava/lang/Object;"⟩
def dkwJ3_grow_0 : List UInt8 := [42, 42, 180, 0, 48, 4, 96, 182, 0, 69, 176]
abbrev dktJ3_grow_0 : List UInt8 := dkwJ3_grow_0 ++ []
theorem dksJ3_grow_0 : cJ3_grow.data.toList.drop 0 = dktJ3_grow_0 := by decide +kernel
theorem dJ3_grow_0 : decode cJ3_grow 0 = .ok (.aload_n 0, 1) := dk_42 (dk_at dksJ3_grow_0 0 rfl rfl)
theorem dJ3_grow_1 : decode cJ3_grow 1 = .ok (.aload_n 0, 1) := dk_42 (dk_at dksJ3_grow_0 1 rfl rfl)
theorem dJ3_grow_2 : decode cJ3_grow 2 = .ok (.getfield 48, 3) := dk_180 0 48 (dk_at dksJ3_grow_0 2 rfl rfl)
theorem dJ3_grow_5 : decode cJ3_grow 5 = .ok (.iconst 1, 1) := dk_4 (dk_at dksJ3_grow_0 5 rfl rfl)
theorem dJ3_grow_6 : decode cJ3_grow 6 = .ok (.iadd, 1) := dk_96 (dk_at dksJ3_grow_0 6 rfl rfl)
theorem dJ3_grow_7 : decode cJ3_grow 7 = .ok (.invokevirtual 69, 3) := dk_182 0 69 (dk_at dksJ3_grow_0 7 rfl rfl)
theorem dJ3_grow_10 : decode cJ3_grow 10 = .ok (.areturn, 1) := dk_176 (dk_at dksJ3_grow_0 10 rfl rfl)
abbrev cJ3_grow_2 : ByteArray := prog_29_method_6_code
def yJ3_grow_2 : MethodName := ⟨RJ3, "grow", "(I)[Ljava/lang/Object;"⟩
def dkwJ3_grow_2_2 : List UInt8 := [27, 184, 0, 79, 189, 0, 7, 90, 181, 0, 9, 176]
abbrev dktJ3_grow_2_2 : List UInt8 := dkwJ3_grow_2_2 ++ []
def dkwJ3_grow_2_1 : List UInt8 := [28, 4, 122, 184, 0, 73, 62, 42, 42, 180, 0, 9, 29, 184, 0, 66, 90, 181, 0, 9, 176, 42, 16, 10]
abbrev dktJ3_grow_2_1 : List UInt8 := dkwJ3_grow_2_1 ++ dktJ3_grow_2_2
def dkwJ3_grow_2_0 : List UInt8 := [42, 180, 0, 9, 190, 61, 28, 157, 0, 13, 42, 180, 0, 9, 178, 0, 39, 165, 0, 28, 28, 27, 28, 100]
abbrev dktJ3_grow_2_0 : List UInt8 := dkwJ3_grow_2_0 ++ dktJ3_grow_2_1
theorem dksJ3_grow_2_0 : cJ3_grow_2.data.toList.drop 0 = dktJ3_grow_2_0 := by decide +kernel
theorem dksJ3_grow_2_1 : cJ3_grow_2.data.toList.drop 24 = dktJ3_grow_2_1 := dk_seg dksJ3_grow_2_0 24 rfl rfl
theorem dksJ3_grow_2_2 : cJ3_grow_2.data.toList.drop 48 = dktJ3_grow_2_2 := dk_seg dksJ3_grow_2_1 24 rfl rfl
theorem dJ3_grow_2_0 : decode cJ3_grow_2 0 = .ok (.aload_n 0, 1) := dk_42 (dk_at dksJ3_grow_2_0 0 rfl rfl)
theorem dJ3_grow_2_1 : decode cJ3_grow_2 1 = .ok (.getfield 9, 3) := dk_180 0 9 (dk_at dksJ3_grow_2_0 1 rfl rfl)
theorem dJ3_grow_2_4 : decode cJ3_grow_2 4 = .ok (.arraylength, 1) := dk_190 (dk_at dksJ3_grow_2_0 4 rfl rfl)
theorem dJ3_grow_2_5 : decode cJ3_grow_2 5 = .ok (.istore_n 2, 1) := dk_61 (dk_at dksJ3_grow_2_0 5 rfl rfl)
theorem dJ3_grow_2_6 : decode cJ3_grow_2 6 = .ok (.iload_n 2, 1) := dk_28 (dk_at dksJ3_grow_2_0 6 rfl rfl)
theorem dJ3_grow_2_7 : decode cJ3_grow_2 7 = .ok (.ifCond .gt 13, 3) := dk_157 0 13 (dk_at dksJ3_grow_2_0 7 rfl rfl)
theorem dJ3_grow_2_10 : decode cJ3_grow_2 10 = .ok (.aload_n 0, 1) := dk_42 (dk_at dksJ3_grow_2_0 10 rfl rfl)
theorem dJ3_grow_2_11 : decode cJ3_grow_2 11 = .ok (.getfield 9, 3) := dk_180 0 9 (dk_at dksJ3_grow_2_0 11 rfl rfl)
theorem dJ3_grow_2_14 : decode cJ3_grow_2 14 = .ok (.getstatic 39, 3) := dk_178 0 39 (dk_at dksJ3_grow_2_0 14 rfl rfl)
theorem dJ3_grow_2_17 : decode cJ3_grow_2 17 = .ok (.if_acmp .eq 28, 3) := dk_165 0 28 (dk_at dksJ3_grow_2_0 17 rfl rfl)
theorem dJ3_grow_2_20 : decode cJ3_grow_2 20 = .ok (.iload_n 2, 1) := dk_28 (dk_at dksJ3_grow_2_0 20 rfl rfl)
theorem dJ3_grow_2_21 : decode cJ3_grow_2 21 = .ok (.iload_n 1, 1) := dk_27 (dk_at dksJ3_grow_2_0 21 rfl rfl)
theorem dJ3_grow_2_22 : decode cJ3_grow_2 22 = .ok (.iload_n 2, 1) := dk_28 (dk_at dksJ3_grow_2_0 22 rfl rfl)
theorem dJ3_grow_2_23 : decode cJ3_grow_2 23 = .ok (.isub, 1) := dk_100 (dk_at dksJ3_grow_2_0 23 rfl rfl)
theorem dJ3_grow_2_24 : decode cJ3_grow_2 24 = .ok (.iload_n 2, 1) := dk_28 (dk_at dksJ3_grow_2_1 0 rfl rfl)
theorem dJ3_grow_2_25 : decode cJ3_grow_2 25 = .ok (.iconst 1, 1) := dk_4 (dk_at dksJ3_grow_2_1 1 rfl rfl)
theorem dJ3_grow_2_26 : decode cJ3_grow_2 26 = .ok (.ishr, 1) := dk_122 (dk_at dksJ3_grow_2_1 2 rfl rfl)
theorem dJ3_grow_2_27 : decode cJ3_grow_2 27 = .ok (.invokestatic 73, 3) := dk_184 0 73 (dk_at dksJ3_grow_2_1 3 rfl rfl)
theorem dJ3_grow_2_30 : decode cJ3_grow_2 30 = .ok (.istore_n 3, 1) := dk_62 (dk_at dksJ3_grow_2_1 6 rfl rfl)
theorem dJ3_grow_2_31 : decode cJ3_grow_2 31 = .ok (.aload_n 0, 1) := dk_42 (dk_at dksJ3_grow_2_1 7 rfl rfl)
theorem dJ3_grow_2_32 : decode cJ3_grow_2 32 = .ok (.aload_n 0, 1) := dk_42 (dk_at dksJ3_grow_2_1 8 rfl rfl)
theorem dJ3_grow_2_33 : decode cJ3_grow_2 33 = .ok (.getfield 9, 3) := dk_180 0 9 (dk_at dksJ3_grow_2_1 9 rfl rfl)
theorem dJ3_grow_2_36 : decode cJ3_grow_2 36 = .ok (.iload_n 3, 1) := dk_29 (dk_at dksJ3_grow_2_1 12 rfl rfl)
theorem dJ3_grow_2_37 : decode cJ3_grow_2 37 = .ok (.invokestatic 66, 3) := dk_184 0 66 (dk_at dksJ3_grow_2_1 13 rfl rfl)
theorem dJ3_grow_2_40 : decode cJ3_grow_2 40 = .ok (.dup_x1, 1) := dk_90 (dk_at dksJ3_grow_2_1 16 rfl rfl)
theorem dJ3_grow_2_41 : decode cJ3_grow_2 41 = .ok (.putfield 9, 3) := dk_181 0 9 (dk_at dksJ3_grow_2_1 17 rfl rfl)
theorem dJ3_grow_2_44 : decode cJ3_grow_2 44 = .ok (.areturn, 1) := dk_176 (dk_at dksJ3_grow_2_1 20 rfl rfl)
theorem dJ3_grow_2_45 : decode cJ3_grow_2 45 = .ok (.aload_n 0, 1) := dk_42 (dk_at dksJ3_grow_2_1 21 rfl rfl)
theorem dJ3_grow_2_46 : decode cJ3_grow_2 46 = .ok (.bipush 10, 2) := dk_16 10 (dk_at dksJ3_grow_2_1 22 rfl rfl)
theorem dJ3_grow_2_48 : decode cJ3_grow_2 48 = .ok (.iload_n 1, 1) := dk_27 (dk_at dksJ3_grow_2_2 0 rfl rfl)
theorem dJ3_grow_2_49 : decode cJ3_grow_2 49 = .ok (.invokestatic 79, 3) := dk_184 0 79 (dk_at dksJ3_grow_2_2 1 rfl rfl)
theorem dJ3_grow_2_52 : decode cJ3_grow_2 52 = .ok (.anewarray 7, 3) := dk_189 0 7 (dk_at dksJ3_grow_2_2 4 rfl rfl)
theorem dJ3_grow_2_55 : decode cJ3_grow_2 55 = .ok (.dup_x1, 1) := dk_90 (dk_at dksJ3_grow_2_2 7 rfl rfl)
theorem dJ3_grow_2_56 : decode cJ3_grow_2 56 = .ok (.putfield 9, 3) := dk_181 0 9 (dk_at dksJ3_grow_2_2 8 rfl rfl)
theorem dJ3_grow_2_59 : decode cJ3_grow_2 59 = .ok (.areturn, 1) := dk_176 (dk_at dksJ3_grow_2_2 11 rfl rfl)
abbrev cJ3_clear : ByteArray := prog_29_method_40_code
def yJ3_clear : MethodName := ⟨RJ3, "clear", "()V"⟩
def dkwJ3_clear_1 : List UInt8 := [181, 0, 48, 62, 29, 28, 162, 0, 13, 43, 29, 1, 83, 132, 3, 1, 167, 255, 244, 177]
abbrev dktJ3_clear_1 : List UInt8 := dkwJ3_clear_1 ++ []
def dkwJ3_clear_0 : List UInt8 := [42, 89, 180, 0, 63, 4, 96, 181, 0, 63, 42, 180, 0, 9, 76, 42, 180, 0, 48, 61, 42, 3, 90]
abbrev dktJ3_clear_0 : List UInt8 := dkwJ3_clear_0 ++ dktJ3_clear_1
theorem dksJ3_clear_0 : cJ3_clear.data.toList.drop 0 = dktJ3_clear_0 := by decide +kernel
theorem dksJ3_clear_1 : cJ3_clear.data.toList.drop 23 = dktJ3_clear_1 := dk_seg dksJ3_clear_0 23 rfl rfl
theorem dJ3_clear_0 : decode cJ3_clear 0 = .ok (.aload_n 0, 1) := dk_42 (dk_at dksJ3_clear_0 0 rfl rfl)
theorem dJ3_clear_1 : decode cJ3_clear 1 = .ok (.dup, 1) := dk_89 (dk_at dksJ3_clear_0 1 rfl rfl)
theorem dJ3_clear_2 : decode cJ3_clear 2 = .ok (.getfield 63, 3) := dk_180 0 63 (dk_at dksJ3_clear_0 2 rfl rfl)
theorem dJ3_clear_5 : decode cJ3_clear 5 = .ok (.iconst 1, 1) := dk_4 (dk_at dksJ3_clear_0 5 rfl rfl)
theorem dJ3_clear_6 : decode cJ3_clear 6 = .ok (.iadd, 1) := dk_96 (dk_at dksJ3_clear_0 6 rfl rfl)
theorem dJ3_clear_7 : decode cJ3_clear 7 = .ok (.putfield 63, 3) := dk_181 0 63 (dk_at dksJ3_clear_0 7 rfl rfl)
theorem dJ3_clear_10 : decode cJ3_clear 10 = .ok (.aload_n 0, 1) := dk_42 (dk_at dksJ3_clear_0 10 rfl rfl)
theorem dJ3_clear_11 : decode cJ3_clear 11 = .ok (.getfield 9, 3) := dk_180 0 9 (dk_at dksJ3_clear_0 11 rfl rfl)
theorem dJ3_clear_14 : decode cJ3_clear 14 = .ok (.astore_n 1, 1) := dk_76 (dk_at dksJ3_clear_0 14 rfl rfl)
theorem dJ3_clear_15 : decode cJ3_clear 15 = .ok (.aload_n 0, 1) := dk_42 (dk_at dksJ3_clear_0 15 rfl rfl)
theorem dJ3_clear_16 : decode cJ3_clear 16 = .ok (.getfield 48, 3) := dk_180 0 48 (dk_at dksJ3_clear_0 16 rfl rfl)
theorem dJ3_clear_19 : decode cJ3_clear 19 = .ok (.istore_n 2, 1) := dk_61 (dk_at dksJ3_clear_0 19 rfl rfl)
theorem dJ3_clear_20 : decode cJ3_clear 20 = .ok (.aload_n 0, 1) := dk_42 (dk_at dksJ3_clear_0 20 rfl rfl)
theorem dJ3_clear_21 : decode cJ3_clear 21 = .ok (.iconst 0, 1) := dk_3 (dk_at dksJ3_clear_0 21 rfl rfl)
theorem dJ3_clear_22 : decode cJ3_clear 22 = .ok (.dup_x1, 1) := dk_90 (dk_at dksJ3_clear_0 22 rfl rfl)
theorem dJ3_clear_23 : decode cJ3_clear 23 = .ok (.putfield 48, 3) := dk_181 0 48 (dk_at dksJ3_clear_1 0 rfl rfl)
theorem dJ3_clear_26 : decode cJ3_clear 26 = .ok (.istore_n 3, 1) := dk_62 (dk_at dksJ3_clear_1 3 rfl rfl)
theorem dJ3_clear_27 : decode cJ3_clear 27 = .ok (.iload_n 3, 1) := dk_29 (dk_at dksJ3_clear_1 4 rfl rfl)
theorem dJ3_clear_28 : decode cJ3_clear 28 = .ok (.iload_n 2, 1) := dk_28 (dk_at dksJ3_clear_1 5 rfl rfl)
theorem dJ3_clear_29 : decode cJ3_clear 29 = .ok (.if_icmp .ge 13, 3) := dk_162 0 13 (dk_at dksJ3_clear_1 6 rfl rfl)
theorem dJ3_clear_32 : decode cJ3_clear 32 = .ok (.aload_n 1, 1) := dk_43 (dk_at dksJ3_clear_1 9 rfl rfl)
theorem dJ3_clear_33 : decode cJ3_clear 33 = .ok (.iload_n 3, 1) := dk_29 (dk_at dksJ3_clear_1 10 rfl rfl)
theorem dJ3_clear_34 : decode cJ3_clear 34 = .ok (.aconst_null, 1) := dk_1 (dk_at dksJ3_clear_1 11 rfl rfl)
theorem dJ3_clear_35 : decode cJ3_clear 35 = .ok (.aastore, 1) := dk_83 (dk_at dksJ3_clear_1 12 rfl rfl)
theorem dJ3_clear_36 : decode cJ3_clear 36 = .ok (.iinc 3 1, 3) := dk_132 3 1 (dk_at dksJ3_clear_1 13 rfl rfl)
theorem dJ3_clear_39 : decode cJ3_clear 39 = .ok (.goto (-12), 3) := dk_167 255 244 (dk_at dksJ3_clear_1 16 rfl rfl)
theorem dJ3_clear_42 : decode cJ3_clear 42 = .ok (.return_, 1) := dk_177 (dk_at dksJ3_clear_1 19 rfl rfl)
theorem q70 : (Jvm.Cond.initialized "java/util/ArrayList") ∈ lw_all := lw_g (lw_at lw_m1 11 rfl) rfl
theorem q212 : (Jvm.Cond.instantiable "java/util/ArrayList" (3 : Nat)) ∈ lw_all := lw_g (lw_at lw_m1 153 rfl) rfl
theorem q214 : (Jvm.Cond.instanceMethod ({ cls := "java/util/ArrayList", name := "<init>", desc := "()V" } : Jvm.MethodName)) ∈ lw_all := lw_g (lw_at lw_m1 155 rfl) rfl
theorem q215 : (Jvm.Cond.code ({ cls := "java/util/ArrayList", name := "<init>", desc := "()V" } : Jvm.MethodName) prog_29_method_2_code (1 : Nat) (Option.none : Option Jvm.ClassFile.FieldType)) ∈ lw_all := lw_g (lw_at lw_m1 156 rfl) rfl
theorem q216 : (Jvm.Cond.methodLink "java/util/ArrayList" (1 : Nat) ({ cls := "java/util/AbstractList", name := "<init>", desc := "()V" } : Jvm.MethodName)) ∈ lw_all := lw_g (lw_at lw_m1 157 rfl) rfl
theorem q223 : (Jvm.Cond.fieldLink "java/util/ArrayList" (39 : Nat) "java/util/ArrayList" "DEFAULTCAPACITY_EMPTY_ELEMENTDATA" "[Ljava/lang/Object;") ∈ lw_all := lw_g (lw_at lw_m1 164 rfl) rfl
theorem q224 : (Jvm.Cond.laysStatic "java/util/ArrayList" "DEFAULTCAPACITY_EMPTY_ELEMENTDATA" "[Ljava/lang/Object;") ∈ lw_tbl := lw_at lw_m1 165 rfl
theorem q225 : (Jvm.Cond.fieldLink "java/util/ArrayList" (9 : Nat) "java/util/ArrayList" "elementData" "[Ljava/lang/Object;") ∈ lw_all := lw_g (lw_at lw_m1 166 rfl) rfl
theorem q226 : (Jvm.Cond.fieldLink "java/util/ArrayList" (48 : Nat) "java/util/ArrayList" "size" "I") ∈ lw_all := lw_g (lw_at lw_m1 167 rfl) rfl
theorem q228 : (Jvm.Cond.fieldLink "java/util/ArrayList" (63 : Nat) "java/util/ArrayList" "modCount" "I") ∈ lw_all := lw_g (lw_at lw_m1 169 rfl) rfl
theorem q229 : (Jvm.Cond.sameField "java/util/ArrayList" "java/util/AbstractList" "modCount" "I") ∈ lw_all := lw_g (lw_at lw_m1 170 rfl) rfl
theorem q230 : (Jvm.Cond.lays "java/util/ArrayList" "java/util/ArrayList" "elementData" "[Ljava/lang/Object;") ∈ lw_all := lw_g (lw_at lw_m1 171 rfl) rfl
theorem q231 : (Jvm.Cond.soleField "java/util/ArrayList" "elementData") ∈ lw_all := lw_g (lw_at lw_m1 172 rfl) rfl
theorem q232 : (Jvm.Cond.lays "java/util/ArrayList" "java/util/ArrayList" "size" "I") ∈ lw_all := lw_g (lw_at lw_m1 173 rfl) rfl
theorem q233 : (Jvm.Cond.soleField "java/util/ArrayList" "size") ∈ lw_all := lw_g (lw_at lw_m1 174 rfl) rfl
theorem q234 : (Jvm.Cond.lays "java/util/ArrayList" "java/util/AbstractList" "modCount" "I") ∈ lw_all := lw_g (lw_at lw_m1 175 rfl) rfl
theorem q236 : (Jvm.Cond.superclass "java/util/ArrayList" "java/util/AbstractList") ∈ lw_all := lw_g (lw_at lw_m1 177 rfl) rfl
theorem q480 : (Jvm.Cond.instanceMethod ({ cls := "java/util/ArrayList", name := "size", desc := "()I" } : Jvm.MethodName)) ∈ lw_all := lw_g (lw_at lw_m2 181 rfl) rfl
theorem q481 : (Jvm.Cond.selects "java/util/ArrayList" ({ cls := "java/util/ArrayList", name := "size", desc := "()I" } : Jvm.MethodName) ({ cls := "java/util/ArrayList", name := "size", desc := "()I" } : Jvm.MethodName)) ∈ lw_all := lw_g (lw_at lw_m2 182 rfl) rfl
theorem q482 : (Jvm.Cond.code ({ cls := "java/util/ArrayList", name := "size", desc := "()I" } : Jvm.MethodName) prog_29_method_8_code (1 : Nat) (Option.some Jvm.ClassFile.FieldType.int)) ∈ lw_all := lw_g (lw_at lw_m2 183 rfl) rfl
theorem q484 : (Jvm.Cond.instanceMethod ({ cls := "java/util/ArrayList", name := "get", desc := "(I)Ljava/lang/Object;" } : Jvm.MethodName)) ∈ lw_all := lw_g (lw_at lw_m2 185 rfl) rfl
theorem q485 : (Jvm.Cond.selects "java/util/ArrayList" ({ cls := "java/util/ArrayList", name := "get", desc := "(I)Ljava/lang/Object;" } : Jvm.MethodName) ({ cls := "java/util/ArrayList", name := "get", desc := "(I)Ljava/lang/Object;" } : Jvm.MethodName)) ∈ lw_all := lw_g (lw_at lw_m2 186 rfl) rfl
theorem q486 : (Jvm.Cond.code ({ cls := "java/util/ArrayList", name := "get", desc := "(I)Ljava/lang/Object;" } : Jvm.MethodName) prog_29_method_20_code (2 : Nat) (Option.some (Jvm.ClassFile.FieldType.object "java/lang/Object"))) ∈ lw_all := lw_g (lw_at lw_m2 187 rfl) rfl
theorem q487 : (Jvm.Cond.methodLink "java/util/ArrayList" (118 : Nat) ({ cls := "java/util/Objects", name := "checkIndex", desc := "(II)I" } : Jvm.MethodName)) ∈ lw_all := lw_g (lw_at lw_m2 188 rfl) rfl
theorem q493 : (Jvm.Cond.methodLink "java/util/ArrayList" (123 : Nat) ({ cls := "java/util/ArrayList", name := "elementData", desc := "(I)Ljava/lang/Object;" } : Jvm.MethodName)) ∈ lw_all := lw_g (lw_at lw_m2 194 rfl) rfl
theorem q494 : (Jvm.Cond.instanceMethod ({ cls := "java/util/ArrayList", name := "elementData", desc := "(I)Ljava/lang/Object;" } : Jvm.MethodName)) ∈ lw_all := lw_g (lw_at lw_m2 195 rfl) rfl
theorem q495 : (Jvm.Cond.selects "java/util/ArrayList" ({ cls := "java/util/ArrayList", name := "elementData", desc := "(I)Ljava/lang/Object;" } : Jvm.MethodName) ({ cls := "java/util/ArrayList", name := "elementData", desc := "(I)Ljava/lang/Object;" } : Jvm.MethodName)) ∈ lw_all := lw_g (lw_at lw_m2 196 rfl) rfl
theorem q496 : (Jvm.Cond.code ({ cls := "java/util/ArrayList", name := "elementData", desc := "(I)Ljava/lang/Object;" } : Jvm.MethodName) prog_29_method_18_code (2 : Nat) (Option.some (Jvm.ClassFile.FieldType.object "java/lang/Object"))) ∈ lw_all := lw_g (lw_at lw_m2 197 rfl) rfl
theorem q785 : (Jvm.Cond.instanceMethod ({ cls := "java/util/ArrayList", name := "add", desc := "(Ljava/lang/Object;)Z" } : Jvm.MethodName)) ∈ lw_all := lw_g (lw_at lw_m4 6 rfl) rfl
theorem q786 : (Jvm.Cond.selects "java/util/ArrayList" ({ cls := "java/util/ArrayList", name := "add", desc := "(Ljava/lang/Object;)Z" } : Jvm.MethodName) ({ cls := "java/util/ArrayList", name := "add", desc := "(Ljava/lang/Object;)Z" } : Jvm.MethodName)) ∈ lw_all := lw_g (lw_at lw_m4 7 rfl) rfl
theorem q787 : (Jvm.Cond.code ({ cls := "java/util/ArrayList", name := "add", desc := "(Ljava/lang/Object;)Z" } : Jvm.MethodName) prog_29_method_25_code (2 : Nat) (Option.some Jvm.ClassFile.FieldType.boolean)) ∈ lw_all := lw_g (lw_at lw_m4 8 rfl) rfl
theorem q788 : (Jvm.Cond.methodLink "java/util/ArrayList" (131 : Nat) ({ cls := "java/util/ArrayList", name := "add", desc := "(Ljava/lang/Object;[Ljava/lang/Object;I)V" } : Jvm.MethodName)) ∈ lw_all := lw_g (lw_at lw_m4 9 rfl) rfl
theorem q789 : (Jvm.Cond.privateMethod ({ cls := "java/util/ArrayList", name := "add", desc := "(Ljava/lang/Object;[Ljava/lang/Object;I)V" } : Jvm.MethodName)) ∈ lw_tbl := lw_at lw_m4 10 rfl
theorem q790 : (Jvm.Cond.instanceMethod ({ cls := "java/util/ArrayList", name := "add", desc := "(Ljava/lang/Object;[Ljava/lang/Object;I)V" } : Jvm.MethodName)) ∈ lw_all := lw_g (lw_at lw_m4 11 rfl) rfl
theorem q791 : (Jvm.Cond.code ({ cls := "java/util/ArrayList", name := "add", desc := "(Ljava/lang/Object;[Ljava/lang/Object;I)V" } : Jvm.MethodName) prog_29_method_24_code (4 : Nat) (Option.none : Option Jvm.ClassFile.FieldType)) ∈ lw_all := lw_g (lw_at lw_m4 12 rfl) rfl
theorem q792 : (Jvm.Cond.methodLink "java/util/ArrayList" (129 : Nat) ({ cls := "java/util/ArrayList", name := "grow", desc := "()[Ljava/lang/Object;" } : Jvm.MethodName)) ∈ lw_all := lw_g (lw_at lw_m4 13 rfl) rfl
theorem q793 : (Jvm.Cond.privateMethod ({ cls := "java/util/ArrayList", name := "grow", desc := "()[Ljava/lang/Object;" } : Jvm.MethodName)) ∈ lw_tbl := lw_at lw_m4 14 rfl
theorem q794 : (Jvm.Cond.instanceMethod ({ cls := "java/util/ArrayList", name := "grow", desc := "()[Ljava/lang/Object;" } : Jvm.MethodName)) ∈ lw_all := lw_g (lw_at lw_m4 15 rfl) rfl
theorem q795 : (Jvm.Cond.code ({ cls := "java/util/ArrayList", name := "grow", desc := "()[Ljava/lang/Object;" } : Jvm.MethodName) prog_29_method_7_code (1 : Nat) (Option.some (Jvm.ClassFile.FieldType.array (Jvm.ClassFile.FieldType.object "java/lang/Object")))) ∈ lw_all := lw_g (lw_at lw_m4 16 rfl) rfl
theorem q796 : (Jvm.Cond.methodLink "java/util/ArrayList" (69 : Nat) ({ cls := "java/util/ArrayList", name := "grow", desc := "(I)[Ljava/lang/Object;" } : Jvm.MethodName)) ∈ lw_all := lw_g (lw_at lw_m4 17 rfl) rfl
theorem q797 : (Jvm.Cond.privateMethod ({ cls := "java/util/ArrayList", name := "grow", desc := "(I)[Ljava/lang/Object;" } : Jvm.MethodName)) ∈ lw_tbl := lw_at lw_m4 18 rfl
theorem q798 : (Jvm.Cond.instanceMethod ({ cls := "java/util/ArrayList", name := "grow", desc := "(I)[Ljava/lang/Object;" } : Jvm.MethodName)) ∈ lw_all := lw_g (lw_at lw_m4 19 rfl) rfl
theorem q799 : (Jvm.Cond.code ({ cls := "java/util/ArrayList", name := "grow", desc := "(I)[Ljava/lang/Object;" } : Jvm.MethodName) prog_29_method_6_code (4 : Nat) (Option.some (Jvm.ClassFile.FieldType.array (Jvm.ClassFile.FieldType.object "java/lang/Object")))) ∈ lw_all := lw_g (lw_at lw_m4 20 rfl) rfl
theorem q800 : (Jvm.Cond.methodLink "java/util/ArrayList" (73 : Nat) ({ cls := "jdk/internal/util/ArraysSupport", name := "newLength", desc := "(III)I" } : Jvm.MethodName)) ∈ lw_all := lw_g (lw_at lw_m4 21 rfl) rfl
theorem q810 : (Jvm.Cond.methodLink "java/util/ArrayList" (66 : Nat) ({ cls := "java/util/Arrays", name := "copyOf", desc := "([Ljava/lang/Object;I)[Ljava/lang/Object;" } : Jvm.MethodName)) ∈ lw_all := lw_g (lw_at lw_m4 31 rfl) rfl
theorem q832 : (Jvm.Cond.selects "java/util/ArrayList" ({ cls := "java/lang/Object", name := "getClass", desc := "()Ljava/lang/Class;" } : Jvm.MethodName) ({ cls := "java/lang/Object", name := "getClass", desc := "()Ljava/lang/Class;" } : Jvm.MethodName)) ∈ lw_all := lw_g (lw_at lw_m4 53 rfl) rfl
theorem q842 : (Jvm.Cond.methodLink "java/util/ArrayList" (79 : Nat) ({ cls := "java/lang/Math", name := "max", desc := "(II)I" } : Jvm.MethodName)) ∈ lw_all := lw_g (lw_at lw_m4 63 rfl) rfl
theorem q843 : (Jvm.Cond.classLink "java/util/ArrayList" (7 : Nat) "java/lang/Object") ∈ lw_all := lw_g (lw_at lw_m4 64 rfl) rfl
theorem q983 : (Jvm.Cond.instanceMethod ({ cls := "java/util/ArrayList", name := "clear", desc := "()V" } : Jvm.MethodName)) ∈ lw_all := lw_g (lw_at lw_m4 204 rfl) rfl
theorem q984 : (Jvm.Cond.selects "java/util/ArrayList" ({ cls := "java/util/ArrayList", name := "clear", desc := "()V" } : Jvm.MethodName) ({ cls := "java/util/ArrayList", name := "clear", desc := "()V" } : Jvm.MethodName)) ∈ lw_all := lw_g (lw_at lw_m4 205 rfl) rfl
theorem q985 : (Jvm.Cond.code ({ cls := "java/util/ArrayList", name := "clear", desc := "()V" } : Jvm.MethodName) prog_29_method_40_code (4 : Nat) (Option.none : Option Jvm.ClassFile.FieldType)) ∈ lw_all := lw_g (lw_at lw_m4 206 rfl) rfl
theorem q1494 : (Jvm.Cond.castable "java/util/ArrayList" "java/lang/Object") ∈ lw_tbl := lw_at lw_m6 235 rfl
theorem in_J3 : ∀ w ∈ wsJ30, w ∈ lw_all := lw_in wsJ30 [234, 230, 232] (by decide +kernel) (by decide +kernel)
/-! java/util/Objects -/
set_option maxRecDepth 100000
def RJ4 : String := "java/util/Objects"
abbrev cJ4_checkIndex : ByteArray := prog_33_method_17_code
def yJ4_checkIndex : MethodName := ⟨RJ4, "checkIndex", "(II)I"⟩
def dkwJ4_checkIndex_0 : List UInt8 := [26, 27, 1, 184, 0, 105, 172]
abbrev dktJ4_checkIndex_0 : List UInt8 := dkwJ4_checkIndex_0 ++ []
theorem dksJ4_checkIndex_0 : cJ4_checkIndex.data.toList.drop 0 = dktJ4_checkIndex_0 := by decide +kernel
theorem dJ4_checkIndex_0 : decode cJ4_checkIndex 0 = .ok (.iload_n 0, 1) := dk_26 (dk_at dksJ4_checkIndex_0 0 rfl rfl)
theorem dJ4_checkIndex_1 : decode cJ4_checkIndex 1 = .ok (.iload_n 1, 1) := dk_27 (dk_at dksJ4_checkIndex_0 1 rfl rfl)
theorem dJ4_checkIndex_2 : decode cJ4_checkIndex 2 = .ok (.aconst_null, 1) := dk_1 (dk_at dksJ4_checkIndex_0 2 rfl rfl)
theorem dJ4_checkIndex_3 : decode cJ4_checkIndex 3 = .ok (.invokestatic 105, 3) := dk_184 0 105 (dk_at dksJ4_checkIndex_0 3 rfl rfl)
theorem dJ4_checkIndex_6 : decode cJ4_checkIndex 6 = .ok (.ireturn, 1) := dk_172 (dk_at dksJ4_checkIndex_0 6 rfl rfl)
theorem q73 : (Jvm.Cond.initialized "java/util/Objects") ∈ lw_all := lw_g (lw_at lw_m1 14 rfl) rfl
theorem q488 : (Jvm.Cond.static ({ cls := "java/util/Objects", name := "checkIndex", desc := "(II)I" } : Jvm.MethodName)) ∈ lw_all := lw_g (lw_at lw_m2 189 rfl) rfl
theorem q489 : (Jvm.Cond.code ({ cls := "java/util/Objects", name := "checkIndex", desc := "(II)I" } : Jvm.MethodName) prog_33_method_17_code (2 : Nat) (Option.some Jvm.ClassFile.FieldType.int)) ∈ lw_all := lw_g (lw_at lw_m2 190 rfl) rfl
theorem q490 : (Jvm.Cond.methodLink "java/util/Objects" (105 : Nat) ({ cls := "jdk/internal/util/Preconditions", name := "checkIndex", desc := "(IILjava/util/function/BiFunction;)I" } : Jvm.MethodName)) ∈ lw_all := lw_g (lw_at lw_m2 191 rfl) rfl
/-! jdk/internal/util/Preconditions -/
set_option maxRecDepth 100000
def RJ5 : String := "jdk/internal/util/Preconditions"
abbrev cJ5_checkIndex : ByteArray := prog_37_method_11_code
def yJ5_checkIndex : MethodName := ⟨RJ5, "checkIndex", "(IILjava/util/function/BiFunction;)I"⟩
def dkwJ5_checkIndex_0 : List UInt8 := [26, 155, 0, 8, 26, 27, 161, 0, 10, 44, 26, 27, 184, 0, 95, 191, 26, 172]
abbrev dktJ5_checkIndex_0 : List UInt8 := dkwJ5_checkIndex_0 ++ []
theorem dksJ5_checkIndex_0 : cJ5_checkIndex.data.toList.drop 0 = dktJ5_checkIndex_0 := by decide +kernel
theorem dJ5_checkIndex_0 : decode cJ5_checkIndex 0 = .ok (.iload_n 0, 1) := dk_26 (dk_at dksJ5_checkIndex_0 0 rfl rfl)
theorem dJ5_checkIndex_1 : decode cJ5_checkIndex 1 = .ok (.ifCond .lt 8, 3) := dk_155 0 8 (dk_at dksJ5_checkIndex_0 1 rfl rfl)
theorem dJ5_checkIndex_4 : decode cJ5_checkIndex 4 = .ok (.iload_n 0, 1) := dk_26 (dk_at dksJ5_checkIndex_0 4 rfl rfl)
theorem dJ5_checkIndex_5 : decode cJ5_checkIndex 5 = .ok (.iload_n 1, 1) := dk_27 (dk_at dksJ5_checkIndex_0 5 rfl rfl)
theorem dJ5_checkIndex_6 : decode cJ5_checkIndex 6 = .ok (.if_icmp .lt 10, 3) := dk_161 0 10 (dk_at dksJ5_checkIndex_0 6 rfl rfl)
theorem dJ5_checkIndex_9 : decode cJ5_checkIndex 9 = .ok (.aload_n 2, 1) := dk_44 (dk_at dksJ5_checkIndex_0 9 rfl rfl)
theorem dJ5_checkIndex_10 : decode cJ5_checkIndex 10 = .ok (.iload_n 0, 1) := dk_26 (dk_at dksJ5_checkIndex_0 10 rfl rfl)
theorem dJ5_checkIndex_11 : decode cJ5_checkIndex 11 = .ok (.iload_n 1, 1) := dk_27 (dk_at dksJ5_checkIndex_0 11 rfl rfl)
theorem dJ5_checkIndex_12 : decode cJ5_checkIndex 12 = .ok (.invokestatic 95, 3) := dk_184 0 95 (dk_at dksJ5_checkIndex_0 12 rfl rfl)
theorem dJ5_checkIndex_15 : decode cJ5_checkIndex 15 = .ok (.athrow, 1) := dk_191 (dk_at dksJ5_checkIndex_0 15 rfl rfl)
theorem dJ5_checkIndex_16 : decode cJ5_checkIndex 16 = .ok (.iload_n 0, 1) := dk_26 (dk_at dksJ5_checkIndex_0 16 rfl rfl)
theorem dJ5_checkIndex_17 : decode cJ5_checkIndex 17 = .ok (.ireturn, 1) := dk_172 (dk_at dksJ5_checkIndex_0 17 rfl rfl)
theorem q74 : (Jvm.Cond.initialized "jdk/internal/util/Preconditions") ∈ lw_all := lw_g (lw_at lw_m1 15 rfl) rfl
theorem q491 : (Jvm.Cond.static ({ cls := "jdk/internal/util/Preconditions", name := "checkIndex", desc := "(IILjava/util/function/BiFunction;)I" } : Jvm.MethodName)) ∈ lw_all := lw_g (lw_at lw_m2 192 rfl) rfl
theorem q492 : (Jvm.Cond.code ({ cls := "jdk/internal/util/Preconditions", name := "checkIndex", desc := "(IILjava/util/function/BiFunction;)I" } : Jvm.MethodName) prog_37_method_11_code (3 : Nat) (Option.some Jvm.ClassFile.FieldType.int)) ∈ lw_all := lw_g (lw_at lw_m2 193 rfl) rfl
/-! java/lang/Throwable -/
set_option maxRecDepth 100000
def RJ6 : String := "java/lang/Throwable"
def TJ6 : u_T := fun k => match k with
  | 0 => ("java/lang/Throwable", "cause", "Ljava/lang/Throwable;", false)
  | 1 => ("java/lang/Throwable", "stackTrace", "[Ljava/lang/StackTraceElement;", false)
  | 2 => ("java/lang/Throwable", "suppressedExceptions", "Ljava/util/List;", false)
  | 3 => ("java/lang/Throwable", "detailMessage", "Ljava/lang/String;", false)
  | _ => ("java/lang/Throwable", "backtrace", "Ljava/lang/Object;", false)
def tyJ6 : Nat → FieldType := fun k => match k with
  | 0 => .object "java/lang/Throwable"
  | 1 => .array (.object "java/lang/StackTraceElement")
  | 2 => .object "java/util/List"
  | 3 => .object "java/lang/String"
  | _ => .object "java/lang/Object"
abbrev wsJ60 : List Cond := u_ws RJ6 TJ6 5
theorem nmJ6 : ∀ a, a < 5 → ∀ b, b < 5 → a ≠ b → (TJ6 a).2.1 ≠ (TJ6 b).2.1 := by decide +kernel
theorem tyJ6_ok : ∀ k, k < 5 → parseFieldDescriptor (TJ6 k).2.2.1 = some (tyJ6 k) := by decide +kernel
abbrev cJ6_init : ByteArray := prog_26_method_1_code
def yJ6_init : MethodName := ⟨RJ6, "<init>", "()V"⟩
def dkwJ6_init_1 : List UInt8 := [182, 0, 27, 87, 177]
abbrev dktJ6_init_1 : List UInt8 := dkwJ6_init_1 ++ []
def dkwJ6_init_0 : List UInt8 := [42, 183, 0, 1, 42, 42, 181, 0, 7, 42, 178, 0, 13, 181, 0, 17, 42, 178, 0, 20, 181, 0, 24, 42]
abbrev dktJ6_init_0 : List UInt8 := dkwJ6_init_0 ++ dktJ6_init_1
theorem dksJ6_init_0 : cJ6_init.data.toList.drop 0 = dktJ6_init_0 := by decide +kernel
theorem dksJ6_init_1 : cJ6_init.data.toList.drop 24 = dktJ6_init_1 := dk_seg dksJ6_init_0 24 rfl rfl
theorem dJ6_init_0 : decode cJ6_init 0 = .ok (.aload_n 0, 1) := dk_42 (dk_at dksJ6_init_0 0 rfl rfl)
theorem dJ6_init_1 : decode cJ6_init 1 = .ok (.invokespecial 1, 3) := dk_183 0 1 (dk_at dksJ6_init_0 1 rfl rfl)
theorem dJ6_init_4 : decode cJ6_init 4 = .ok (.aload_n 0, 1) := dk_42 (dk_at dksJ6_init_0 4 rfl rfl)
theorem dJ6_init_5 : decode cJ6_init 5 = .ok (.aload_n 0, 1) := dk_42 (dk_at dksJ6_init_0 5 rfl rfl)
theorem dJ6_init_6 : decode cJ6_init 6 = .ok (.putfield 7, 3) := dk_181 0 7 (dk_at dksJ6_init_0 6 rfl rfl)
theorem dJ6_init_9 : decode cJ6_init 9 = .ok (.aload_n 0, 1) := dk_42 (dk_at dksJ6_init_0 9 rfl rfl)
theorem dJ6_init_10 : decode cJ6_init 10 = .ok (.getstatic 13, 3) := dk_178 0 13 (dk_at dksJ6_init_0 10 rfl rfl)
theorem dJ6_init_13 : decode cJ6_init 13 = .ok (.putfield 17, 3) := dk_181 0 17 (dk_at dksJ6_init_0 13 rfl rfl)
theorem dJ6_init_16 : decode cJ6_init 16 = .ok (.aload_n 0, 1) := dk_42 (dk_at dksJ6_init_0 16 rfl rfl)
theorem dJ6_init_17 : decode cJ6_init 17 = .ok (.getstatic 20, 3) := dk_178 0 20 (dk_at dksJ6_init_0 17 rfl rfl)
theorem dJ6_init_20 : decode cJ6_init 20 = .ok (.putfield 24, 3) := dk_181 0 24 (dk_at dksJ6_init_0 20 rfl rfl)
theorem dJ6_init_23 : decode cJ6_init 23 = .ok (.aload_n 0, 1) := dk_42 (dk_at dksJ6_init_0 23 rfl rfl)
theorem dJ6_init_24 : decode cJ6_init 24 = .ok (.invokevirtual 27, 3) := dk_182 0 27 (dk_at dksJ6_init_1 0 rfl rfl)
theorem dJ6_init_27 : decode cJ6_init 27 = .ok (.pop, 1) := dk_87 (dk_at dksJ6_init_1 3 rfl rfl)
theorem dJ6_init_28 : decode cJ6_init 28 = .ok (.return_, 1) := dk_177 (dk_at dksJ6_init_1 4 rfl rfl)
abbrev cJ6_init_2 : ByteArray := prog_26_method_5_code
def yJ6_init_2 : MethodName := ⟨RJ6, "<init>", "(Ljava/lang/String;Ljava/lang/Throwable;ZZ)V"⟩
def dkwJ6_init_2_2 : List UInt8 := [44, 181, 0, 7, 29, 154, 0, 8, 42, 1, 181, 0, 24, 177]
abbrev dktJ6_init_2_2 : List UInt8 := dkwJ6_init_2_2 ++ []
def dkwJ6_init_2_1 : List UInt8 := [21, 4, 153, 0, 11, 42, 182, 0, 27, 87, 167, 0, 8, 42, 1, 181, 0, 17, 42, 43, 181, 0, 31, 42]
abbrev dktJ6_init_2_1 : List UInt8 := dkwJ6_init_2_1 ++ dktJ6_init_2_2
def dkwJ6_init_2_0 : List UInt8 := [42, 183, 0, 1, 42, 42, 181, 0, 7, 42, 178, 0, 13, 181, 0, 17, 42, 178, 0, 20, 181, 0, 24]
abbrev dktJ6_init_2_0 : List UInt8 := dkwJ6_init_2_0 ++ dktJ6_init_2_1
theorem dksJ6_init_2_0 : cJ6_init_2.data.toList.drop 0 = dktJ6_init_2_0 := by decide +kernel
theorem dksJ6_init_2_1 : cJ6_init_2.data.toList.drop 23 = dktJ6_init_2_1 := dk_seg dksJ6_init_2_0 23 rfl rfl
theorem dksJ6_init_2_2 : cJ6_init_2.data.toList.drop 47 = dktJ6_init_2_2 := dk_seg dksJ6_init_2_1 24 rfl rfl
theorem dJ6_init_2_0 : decode cJ6_init_2 0 = .ok (.aload_n 0, 1) := dk_42 (dk_at dksJ6_init_2_0 0 rfl rfl)
theorem dJ6_init_2_1 : decode cJ6_init_2 1 = .ok (.invokespecial 1, 3) := dk_183 0 1 (dk_at dksJ6_init_2_0 1 rfl rfl)
theorem dJ6_init_2_4 : decode cJ6_init_2 4 = .ok (.aload_n 0, 1) := dk_42 (dk_at dksJ6_init_2_0 4 rfl rfl)
theorem dJ6_init_2_5 : decode cJ6_init_2 5 = .ok (.aload_n 0, 1) := dk_42 (dk_at dksJ6_init_2_0 5 rfl rfl)
theorem dJ6_init_2_6 : decode cJ6_init_2 6 = .ok (.putfield 7, 3) := dk_181 0 7 (dk_at dksJ6_init_2_0 6 rfl rfl)
theorem dJ6_init_2_9 : decode cJ6_init_2 9 = .ok (.aload_n 0, 1) := dk_42 (dk_at dksJ6_init_2_0 9 rfl rfl)
theorem dJ6_init_2_10 : decode cJ6_init_2 10 = .ok (.getstatic 13, 3) := dk_178 0 13 (dk_at dksJ6_init_2_0 10 rfl rfl)
theorem dJ6_init_2_13 : decode cJ6_init_2 13 = .ok (.putfield 17, 3) := dk_181 0 17 (dk_at dksJ6_init_2_0 13 rfl rfl)
theorem dJ6_init_2_16 : decode cJ6_init_2 16 = .ok (.aload_n 0, 1) := dk_42 (dk_at dksJ6_init_2_0 16 rfl rfl)
theorem dJ6_init_2_17 : decode cJ6_init_2 17 = .ok (.getstatic 20, 3) := dk_178 0 20 (dk_at dksJ6_init_2_0 17 rfl rfl)
theorem dJ6_init_2_20 : decode cJ6_init_2 20 = .ok (.putfield 24, 3) := dk_181 0 24 (dk_at dksJ6_init_2_0 20 rfl rfl)
theorem dJ6_init_2_23 : decode cJ6_init_2 23 = .ok (.iload 4, 2) := dk_21 4 (dk_at dksJ6_init_2_1 0 rfl rfl)
theorem dJ6_init_2_25 : decode cJ6_init_2 25 = .ok (.ifCond .eq 11, 3) := dk_153 0 11 (dk_at dksJ6_init_2_1 2 rfl rfl)
theorem dJ6_init_2_28 : decode cJ6_init_2 28 = .ok (.aload_n 0, 1) := dk_42 (dk_at dksJ6_init_2_1 5 rfl rfl)
theorem dJ6_init_2_29 : decode cJ6_init_2 29 = .ok (.invokevirtual 27, 3) := dk_182 0 27 (dk_at dksJ6_init_2_1 6 rfl rfl)
theorem dJ6_init_2_32 : decode cJ6_init_2 32 = .ok (.pop, 1) := dk_87 (dk_at dksJ6_init_2_1 9 rfl rfl)
theorem dJ6_init_2_33 : decode cJ6_init_2 33 = .ok (.goto 8, 3) := dk_167 0 8 (dk_at dksJ6_init_2_1 10 rfl rfl)
theorem dJ6_init_2_36 : decode cJ6_init_2 36 = .ok (.aload_n 0, 1) := dk_42 (dk_at dksJ6_init_2_1 13 rfl rfl)
theorem dJ6_init_2_37 : decode cJ6_init_2 37 = .ok (.aconst_null, 1) := dk_1 (dk_at dksJ6_init_2_1 14 rfl rfl)
theorem dJ6_init_2_38 : decode cJ6_init_2 38 = .ok (.putfield 17, 3) := dk_181 0 17 (dk_at dksJ6_init_2_1 15 rfl rfl)
theorem dJ6_init_2_41 : decode cJ6_init_2 41 = .ok (.aload_n 0, 1) := dk_42 (dk_at dksJ6_init_2_1 18 rfl rfl)
theorem dJ6_init_2_42 : decode cJ6_init_2 42 = .ok (.aload_n 1, 1) := dk_43 (dk_at dksJ6_init_2_1 19 rfl rfl)
theorem dJ6_init_2_43 : decode cJ6_init_2 43 = .ok (.putfield 31, 3) := dk_181 0 31 (dk_at dksJ6_init_2_1 20 rfl rfl)
theorem dJ6_init_2_46 : decode cJ6_init_2 46 = .ok (.aload_n 0, 1) := dk_42 (dk_at dksJ6_init_2_1 23 rfl rfl)
theorem dJ6_init_2_47 : decode cJ6_init_2 47 = .ok (.aload_n 2, 1) := dk_44 (dk_at dksJ6_init_2_2 0 rfl rfl)
theorem dJ6_init_2_48 : decode cJ6_init_2 48 = .ok (.putfield 7, 3) := dk_181 0 7 (dk_at dksJ6_init_2_2 1 rfl rfl)
theorem dJ6_init_2_51 : decode cJ6_init_2 51 = .ok (.iload_n 3, 1) := dk_29 (dk_at dksJ6_init_2_2 4 rfl rfl)
theorem dJ6_init_2_52 : decode cJ6_init_2 52 = .ok (.ifCond .ne 8, 3) := dk_154 0 8 (dk_at dksJ6_init_2_2 5 rfl rfl)
theorem dJ6_init_2_55 : decode cJ6_init_2 55 = .ok (.aload_n 0, 1) := dk_42 (dk_at dksJ6_init_2_2 8 rfl rfl)
theorem dJ6_init_2_56 : decode cJ6_init_2 56 = .ok (.aconst_null, 1) := dk_1 (dk_at dksJ6_init_2_2 9 rfl rfl)
theorem dJ6_init_2_57 : decode cJ6_init_2 57 = .ok (.putfield 24, 3) := dk_181 0 24 (dk_at dksJ6_init_2_2 10 rfl rfl)
theorem dJ6_init_2_60 : decode cJ6_init_2 60 = .ok (.return_, 1) := dk_177 (dk_at dksJ6_init_2_2 13 rfl rfl)
theorem q78 : (Jvm.Cond.initialized "java/lang/Throwable") ∈ lw_all := lw_g (lw_at lw_m1 19 rfl) rfl
theorem q636 : (Jvm.Cond.declares ({ cls := "java/lang/Throwable", name := "<init>", desc := "()V" } : Jvm.MethodName)) ∈ lw_tbl := lw_at lw_m3 97 rfl
theorem q637 : (Jvm.Cond.declares ({ cls := "java/lang/Throwable", name := "<init>", desc := "(Ljava/lang/String;)V" } : Jvm.MethodName)) ∈ lw_tbl := lw_at lw_m3 98 rfl
theorem q641 : (Jvm.Cond.lays "java/lang/Throwable" "java/lang/Throwable" "cause" "Ljava/lang/Throwable;") ∈ lw_all := lw_g (lw_at lw_m3 102 rfl) rfl
theorem q643 : (Jvm.Cond.lays "java/lang/Throwable" "java/lang/Throwable" "stackTrace" "[Ljava/lang/StackTraceElement;") ∈ lw_all := lw_g (lw_at lw_m3 104 rfl) rfl
theorem q645 : (Jvm.Cond.lays "java/lang/Throwable" "java/lang/Throwable" "suppressedExceptions" "Ljava/util/List;") ∈ lw_all := lw_g (lw_at lw_m3 106 rfl) rfl
theorem q647 : (Jvm.Cond.lays "java/lang/Throwable" "java/lang/Throwable" "detailMessage" "Ljava/lang/String;") ∈ lw_all := lw_g (lw_at lw_m3 108 rfl) rfl
theorem q649 : (Jvm.Cond.lays "java/lang/Throwable" "java/lang/Throwable" "backtrace" "Ljava/lang/Object;") ∈ lw_all := lw_g (lw_at lw_m3 110 rfl) rfl
theorem q650 : (Jvm.Cond.fieldLink "java/lang/Throwable" (198 : Nat) "java/lang/Throwable" "backtrace" "Ljava/lang/Object;") ∈ lw_all := lw_g (lw_at lw_m3 111 rfl) rfl
theorem q651 : (Jvm.Cond.superclass "java/lang/Throwable" "java/lang/Object") ∈ lw_all := lw_g (lw_at lw_m3 112 rfl) rfl
theorem q652 : (Jvm.Cond.instanceMethod ({ cls := "java/lang/Throwable", name := "<init>", desc := "()V" } : Jvm.MethodName)) ∈ lw_all := lw_g (lw_at lw_m3 113 rfl) rfl
theorem q653 : (Jvm.Cond.code ({ cls := "java/lang/Throwable", name := "<init>", desc := "()V" } : Jvm.MethodName) prog_26_method_1_code (1 : Nat) (Option.none : Option Jvm.ClassFile.FieldType)) ∈ lw_all := lw_g (lw_at lw_m3 114 rfl) rfl
theorem q654 : (Jvm.Cond.methodLink "java/lang/Throwable" (1 : Nat) ({ cls := "java/lang/Object", name := "<init>", desc := "()V" } : Jvm.MethodName)) ∈ lw_all := lw_g (lw_at lw_m3 115 rfl) rfl
theorem q655 : (Jvm.Cond.fieldLink "java/lang/Throwable" (13 : Nat) "java/lang/Throwable" "UNASSIGNED_STACK" "[Ljava/lang/StackTraceElement;") ∈ lw_all := lw_g (lw_at lw_m3 116 rfl) rfl
theorem q656 : (Jvm.Cond.laysStatic "java/lang/Throwable" "UNASSIGNED_STACK" "[Ljava/lang/StackTraceElement;") ∈ lw_tbl := lw_at lw_m3 117 rfl
theorem q657 : (Jvm.Cond.fieldLink "java/lang/Throwable" (20 : Nat) "java/lang/Throwable" "SUPPRESSED_SENTINEL" "Ljava/util/List;") ∈ lw_all := lw_g (lw_at lw_m3 118 rfl) rfl
theorem q658 : (Jvm.Cond.laysStatic "java/lang/Throwable" "SUPPRESSED_SENTINEL" "Ljava/util/List;") ∈ lw_tbl := lw_at lw_m3 119 rfl
theorem q659 : (Jvm.Cond.methodLink "java/lang/Throwable" (27 : Nat) ({ cls := "java/lang/Throwable", name := "fillInStackTrace", desc := "()Ljava/lang/Throwable;" } : Jvm.MethodName)) ∈ lw_all := lw_g (lw_at lw_m3 120 rfl) rfl
theorem q660 : (Jvm.Cond.instanceMethod ({ cls := "java/lang/Throwable", name := "fillInStackTrace", desc := "()Ljava/lang/Throwable;" } : Jvm.MethodName)) ∈ lw_all := lw_g (lw_at lw_m3 121 rfl) rfl
theorem q661 : (Jvm.Cond.sameMethod "java/lang/Throwable" "java/lang/Throwable" "fillInStackTrace" "()Ljava/lang/Throwable;") ∈ lw_all := lw_g (lw_at lw_m3 122 rfl) rfl
theorem q662 : (Jvm.Cond.codeSync ({ cls := "java/lang/Throwable", name := "fillInStackTrace", desc := "()Ljava/lang/Throwable;" } : Jvm.MethodName) prog_26_method_18_code (1 : Nat) (Option.some (Jvm.ClassFile.FieldType.object "java/lang/Throwable"))) ∈ lw_all := lw_g (lw_at lw_m3 123 rfl) rfl
theorem q663 : (Jvm.Cond.methodLink "java/lang/Throwable" (202 : Nat) ({ cls := "java/lang/Throwable", name := "fillInStackTrace", desc := "(I)Ljava/lang/Throwable;" } : Jvm.MethodName)) ∈ lw_all := lw_g (lw_at lw_m3 124 rfl) rfl
theorem q664 : (Jvm.Cond.privateMethod ({ cls := "java/lang/Throwable", name := "fillInStackTrace", desc := "(I)Ljava/lang/Throwable;" } : Jvm.MethodName)) ∈ lw_tbl := lw_at lw_m3 125 rfl
theorem q665 : (Jvm.Cond.instanceMethod ({ cls := "java/lang/Throwable", name := "fillInStackTrace", desc := "(I)Ljava/lang/Throwable;" } : Jvm.MethodName)) ∈ lw_all := lw_g (lw_at lw_m3 126 rfl) rfl
theorem q666 : (Jvm.Cond.instantiable "java/lang/Throwable" (6 : Nat)) ∈ lw_all := lw_g (lw_at lw_m3 127 rfl) rfl
theorem q667 : (Jvm.Cond.native ({ cls := "java/lang/Throwable", name := "fillInStackTrace", desc := "(I)Ljava/lang/Throwable;" } : Jvm.MethodName)) ∈ lw_all := lw_g (lw_at lw_m3 128 rfl) rfl
theorem q675 : (Jvm.Cond.instanceMethod ({ cls := "java/lang/Throwable", name := "<init>", desc := "(Ljava/lang/String;Ljava/lang/Throwable;ZZ)V" } : Jvm.MethodName)) ∈ lw_all := lw_g (lw_at lw_m3 136 rfl) rfl
theorem q676 : (Jvm.Cond.code ({ cls := "java/lang/Throwable", name := "<init>", desc := "(Ljava/lang/String;Ljava/lang/Throwable;ZZ)V" } : Jvm.MethodName) prog_26_method_5_code (5 : Nat) (Option.none : Option Jvm.ClassFile.FieldType)) ∈ lw_all := lw_g (lw_at lw_m3 137 rfl) rfl
theorem q681 : (Jvm.Cond.fieldLink "java/lang/Throwable" (198 : Nat) "java/lang/Throwable" "backtrace" "Ljava/lang/Object;") ∈ lw_all := lw_g (lw_at lw_m3 142 rfl) rfl
theorem q682 : (Jvm.Cond.fieldLink "java/lang/Throwable" (31 : Nat) "java/lang/Throwable" "detailMessage" "Ljava/lang/String;") ∈ lw_all := lw_g (lw_at lw_m3 143 rfl) rfl
theorem q683 : (Jvm.Cond.fieldLink "java/lang/Throwable" (7 : Nat) "java/lang/Throwable" "cause" "Ljava/lang/Throwable;") ∈ lw_all := lw_g (lw_at lw_m3 144 rfl) rfl
theorem q684 : (Jvm.Cond.fieldLink "java/lang/Throwable" (17 : Nat) "java/lang/Throwable" "stackTrace" "[Ljava/lang/StackTraceElement;") ∈ lw_all := lw_g (lw_at lw_m3 145 rfl) rfl
theorem q685 : (Jvm.Cond.fieldLink "java/lang/Throwable" (24 : Nat) "java/lang/Throwable" "suppressedExceptions" "Ljava/util/List;") ∈ lw_all := lw_g (lw_at lw_m3 146 rfl) rfl
theorem q690 : (Jvm.Cond.soleField "java/lang/Throwable" "backtrace") ∈ lw_all := lw_g (lw_at lw_m3 151 rfl) rfl
theorem q691 : (Jvm.Cond.soleField "java/lang/Throwable" "detailMessage") ∈ lw_all := lw_g (lw_at lw_m3 152 rfl) rfl
theorem q692 : (Jvm.Cond.soleField "java/lang/Throwable" "cause") ∈ lw_all := lw_g (lw_at lw_m3 153 rfl) rfl
theorem q693 : (Jvm.Cond.soleField "java/lang/Throwable" "stackTrace") ∈ lw_all := lw_g (lw_at lw_m3 154 rfl) rfl
theorem q695 : (Jvm.Cond.soleField "java/lang/Throwable" "depth") ∈ lw_all := lw_g (lw_at lw_m3 156 rfl) rfl
theorem q696 : (Jvm.Cond.soleField "java/lang/Throwable" "suppressedExceptions") ∈ lw_all := lw_g (lw_at lw_m3 157 rfl) rfl
theorem q1480 : (Jvm.Cond.sameMethod "java/lang/Throwable" "java/lang/Throwable" "fillInStackTrace" "(I)Ljava/lang/Throwable;") ∈ lw_all := lw_g (lw_at lw_m6 221 rfl) rfl
theorem q1504 : (Jvm.Cond.castable "java/lang/Throwable" "java/lang/Object") ∈ lw_tbl := lw_at lw_m7 5 rfl
theorem in_J6 : ∀ w ∈ wsJ60, w ∈ lw_all := lw_in wsJ60 [641, 643, 645, 647, 649] (by decide +kernel) (by decide +kernel)
/-! java/lang/Exception -/
set_option maxRecDepth 100000
def RJ7 : String := "java/lang/Exception"
abbrev cJ7_init : ByteArray := prog_22_method_5_code
def yJ7_init : MethodName := ⟨RJ7, "<init>", "(Ljava/lang/String;Ljava/lang/Throwable;ZZ)V"⟩
def dkwJ7_init_0 : List UInt8 := [42, 43, 44, 29, 21, 4, 183, 0, 16, 177]
abbrev dktJ7_init_0 : List UInt8 := dkwJ7_init_0 ++ []
theorem dksJ7_init_0 : cJ7_init.data.toList.drop 0 = dktJ7_init_0 := by decide +kernel
theorem dJ7_init_0 : decode cJ7_init 0 = .ok (.aload_n 0, 1) := dk_42 (dk_at dksJ7_init_0 0 rfl rfl)
theorem dJ7_init_1 : decode cJ7_init 1 = .ok (.aload_n 1, 1) := dk_43 (dk_at dksJ7_init_0 1 rfl rfl)
theorem dJ7_init_2 : decode cJ7_init 2 = .ok (.aload_n 2, 1) := dk_44 (dk_at dksJ7_init_0 2 rfl rfl)
theorem dJ7_init_3 : decode cJ7_init 3 = .ok (.iload_n 3, 1) := dk_29 (dk_at dksJ7_init_0 3 rfl rfl)
theorem dJ7_init_4 : decode cJ7_init 4 = .ok (.iload 4, 2) := dk_21 4 (dk_at dksJ7_init_0 4 rfl rfl)
theorem dJ7_init_6 : decode cJ7_init 6 = .ok (.invokespecial 16, 3) := dk_183 0 16 (dk_at dksJ7_init_0 6 rfl rfl)
theorem dJ7_init_9 : decode cJ7_init 9 = .ok (.return_, 1) := dk_177 (dk_at dksJ7_init_0 9 rfl rfl)
theorem q79 : (Jvm.Cond.initialized "java/lang/Exception") ∈ lw_all := lw_g (lw_at lw_m1 20 rfl) rfl
theorem q634 : (Jvm.Cond.declares ({ cls := "java/lang/Exception", name := "<init>", desc := "()V" } : Jvm.MethodName)) ∈ lw_tbl := lw_at lw_m3 95 rfl
theorem q635 : (Jvm.Cond.declares ({ cls := "java/lang/Exception", name := "<init>", desc := "(Ljava/lang/String;)V" } : Jvm.MethodName)) ∈ lw_tbl := lw_at lw_m3 96 rfl
theorem q672 : (Jvm.Cond.instanceMethod ({ cls := "java/lang/Exception", name := "<init>", desc := "(Ljava/lang/String;Ljava/lang/Throwable;ZZ)V" } : Jvm.MethodName)) ∈ lw_all := lw_g (lw_at lw_m3 133 rfl) rfl
theorem q673 : (Jvm.Cond.code ({ cls := "java/lang/Exception", name := "<init>", desc := "(Ljava/lang/String;Ljava/lang/Throwable;ZZ)V" } : Jvm.MethodName) prog_22_method_5_code (5 : Nat) (Option.none : Option Jvm.ClassFile.FieldType)) ∈ lw_all := lw_g (lw_at lw_m3 134 rfl) rfl
theorem q674 : (Jvm.Cond.methodLink "java/lang/Exception" (16 : Nat) ({ cls := "java/lang/Throwable", name := "<init>", desc := "(Ljava/lang/String;Ljava/lang/Throwable;ZZ)V" } : Jvm.MethodName)) ∈ lw_all := lw_g (lw_at lw_m3 135 rfl) rfl
/-! jdk/internal/util/ArraysSupport -/
set_option maxRecDepth 100000
def RJ8 : String := "jdk/internal/util/ArraysSupport"
abbrev cJ8_newLength : ByteArray := prog_36_method_27_code
def yJ8_newLength : MethodName := ⟨RJ8, "newLength", "(III)I"⟩
def dkwJ8_newLength_1 : List UInt8 := [184, 0, 201, 172]
abbrev dktJ8_newLength_1 : List UInt8 := dkwJ8_newLength_1 ++ []
def dkwJ8_newLength_0 : List UInt8 := [26, 27, 28, 184, 0, 194, 96, 62, 3, 29, 162, 0, 11, 29, 18, 200, 163, 0, 5, 29, 172, 26, 27]
abbrev dktJ8_newLength_0 : List UInt8 := dkwJ8_newLength_0 ++ dktJ8_newLength_1
theorem dksJ8_newLength_0 : cJ8_newLength.data.toList.drop 0 = dktJ8_newLength_0 := by decide +kernel
theorem dksJ8_newLength_1 : cJ8_newLength.data.toList.drop 23 = dktJ8_newLength_1 := dk_seg dksJ8_newLength_0 23 rfl rfl
theorem dJ8_newLength_0 : decode cJ8_newLength 0 = .ok (.iload_n 0, 1) := dk_26 (dk_at dksJ8_newLength_0 0 rfl rfl)
theorem dJ8_newLength_1 : decode cJ8_newLength 1 = .ok (.iload_n 1, 1) := dk_27 (dk_at dksJ8_newLength_0 1 rfl rfl)
theorem dJ8_newLength_2 : decode cJ8_newLength 2 = .ok (.iload_n 2, 1) := dk_28 (dk_at dksJ8_newLength_0 2 rfl rfl)
theorem dJ8_newLength_3 : decode cJ8_newLength 3 = .ok (.invokestatic 194, 3) := dk_184 0 194 (dk_at dksJ8_newLength_0 3 rfl rfl)
theorem dJ8_newLength_6 : decode cJ8_newLength 6 = .ok (.iadd, 1) := dk_96 (dk_at dksJ8_newLength_0 6 rfl rfl)
theorem dJ8_newLength_7 : decode cJ8_newLength 7 = .ok (.istore_n 3, 1) := dk_62 (dk_at dksJ8_newLength_0 7 rfl rfl)
theorem dJ8_newLength_8 : decode cJ8_newLength 8 = .ok (.iconst 0, 1) := dk_3 (dk_at dksJ8_newLength_0 8 rfl rfl)
theorem dJ8_newLength_9 : decode cJ8_newLength 9 = .ok (.iload_n 3, 1) := dk_29 (dk_at dksJ8_newLength_0 9 rfl rfl)
theorem dJ8_newLength_10 : decode cJ8_newLength 10 = .ok (.if_icmp .ge 11, 3) := dk_162 0 11 (dk_at dksJ8_newLength_0 10 rfl rfl)
theorem dJ8_newLength_13 : decode cJ8_newLength 13 = .ok (.iload_n 3, 1) := dk_29 (dk_at dksJ8_newLength_0 13 rfl rfl)
theorem dJ8_newLength_14 : decode cJ8_newLength 14 = .ok (.ldc 200, 2) := dk_18 200 (dk_at dksJ8_newLength_0 14 rfl rfl)
theorem dJ8_newLength_16 : decode cJ8_newLength 16 = .ok (.if_icmp .gt 5, 3) := dk_163 0 5 (dk_at dksJ8_newLength_0 16 rfl rfl)
theorem dJ8_newLength_19 : decode cJ8_newLength 19 = .ok (.iload_n 3, 1) := dk_29 (dk_at dksJ8_newLength_0 19 rfl rfl)
theorem dJ8_newLength_20 : decode cJ8_newLength 20 = .ok (.ireturn, 1) := dk_172 (dk_at dksJ8_newLength_0 20 rfl rfl)
theorem dJ8_newLength_21 : decode cJ8_newLength 21 = .ok (.iload_n 0, 1) := dk_26 (dk_at dksJ8_newLength_0 21 rfl rfl)
theorem dJ8_newLength_22 : decode cJ8_newLength 22 = .ok (.iload_n 1, 1) := dk_27 (dk_at dksJ8_newLength_0 22 rfl rfl)
theorem dJ8_newLength_23 : decode cJ8_newLength 23 = .ok (.invokestatic 201, 3) := dk_184 0 201 (dk_at dksJ8_newLength_1 0 rfl rfl)
theorem dJ8_newLength_26 : decode cJ8_newLength 26 = .ok (.ireturn, 1) := dk_172 (dk_at dksJ8_newLength_1 3 rfl rfl)
abbrev cJ8_hugeLength : ByteArray := prog_36_method_28_code
def yJ8_hugeLength : MethodName := ⟨RJ8, "hugeLength", "(II)I"⟩
def dkwJ8_hugeLength_2 : List UInt8 := [191, 28, 18, 200, 163, 0, 6, 18, 200, 172, 28, 172]
abbrev dktJ8_hugeLength_2 : List UInt8 := dkwJ8_hugeLength_2 ++ []
def dkwJ8_hugeLength_1 : List UInt8 := [26, 182, 0, 98, 18, 208, 182, 0, 94, 27, 182, 0, 98, 18, 210, 182, 0, 94, 182, 0, 101, 183, 0, 212]
abbrev dktJ8_hugeLength_1 : List UInt8 := dkwJ8_hugeLength_1 ++ dktJ8_hugeLength_2
def dkwJ8_hugeLength_0 : List UInt8 := [26, 27, 96, 61, 28, 156, 0, 44, 187, 0, 204, 89, 187, 0, 89, 89, 183, 0, 91, 18, 206, 182, 0, 94]
abbrev dktJ8_hugeLength_0 : List UInt8 := dkwJ8_hugeLength_0 ++ dktJ8_hugeLength_1
theorem dksJ8_hugeLength_0 : cJ8_hugeLength.data.toList.drop 0 = dktJ8_hugeLength_0 := by decide +kernel
theorem dksJ8_hugeLength_1 : cJ8_hugeLength.data.toList.drop 24 = dktJ8_hugeLength_1 := dk_seg dksJ8_hugeLength_0 24 rfl rfl
theorem dksJ8_hugeLength_2 : cJ8_hugeLength.data.toList.drop 48 = dktJ8_hugeLength_2 := dk_seg dksJ8_hugeLength_1 24 rfl rfl
theorem dJ8_hugeLength_0 : decode cJ8_hugeLength 0 = .ok (.iload_n 0, 1) := dk_26 (dk_at dksJ8_hugeLength_0 0 rfl rfl)
theorem dJ8_hugeLength_1 : decode cJ8_hugeLength 1 = .ok (.iload_n 1, 1) := dk_27 (dk_at dksJ8_hugeLength_0 1 rfl rfl)
theorem dJ8_hugeLength_2 : decode cJ8_hugeLength 2 = .ok (.iadd, 1) := dk_96 (dk_at dksJ8_hugeLength_0 2 rfl rfl)
theorem dJ8_hugeLength_3 : decode cJ8_hugeLength 3 = .ok (.istore_n 2, 1) := dk_61 (dk_at dksJ8_hugeLength_0 3 rfl rfl)
theorem dJ8_hugeLength_4 : decode cJ8_hugeLength 4 = .ok (.iload_n 2, 1) := dk_28 (dk_at dksJ8_hugeLength_0 4 rfl rfl)
theorem dJ8_hugeLength_5 : decode cJ8_hugeLength 5 = .ok (.ifCond .ge 44, 3) := dk_156 0 44 (dk_at dksJ8_hugeLength_0 5 rfl rfl)
theorem dJ8_hugeLength_8 : decode cJ8_hugeLength 8 = .ok (.new 204, 3) := dk_187 0 204 (dk_at dksJ8_hugeLength_0 8 rfl rfl)
theorem dJ8_hugeLength_11 : decode cJ8_hugeLength 11 = .ok (.dup, 1) := dk_89 (dk_at dksJ8_hugeLength_0 11 rfl rfl)
theorem dJ8_hugeLength_12 : decode cJ8_hugeLength 12 = .ok (.new 89, 3) := dk_187 0 89 (dk_at dksJ8_hugeLength_0 12 rfl rfl)
theorem dJ8_hugeLength_15 : decode cJ8_hugeLength 15 = .ok (.dup, 1) := dk_89 (dk_at dksJ8_hugeLength_0 15 rfl rfl)
theorem dJ8_hugeLength_16 : decode cJ8_hugeLength 16 = .ok (.invokespecial 91, 3) := dk_183 0 91 (dk_at dksJ8_hugeLength_0 16 rfl rfl)
theorem dJ8_hugeLength_19 : decode cJ8_hugeLength 19 = .ok (.ldc 206, 2) := dk_18 206 (dk_at dksJ8_hugeLength_0 19 rfl rfl)
theorem dJ8_hugeLength_21 : decode cJ8_hugeLength 21 = .ok (.invokevirtual 94, 3) := dk_182 0 94 (dk_at dksJ8_hugeLength_0 21 rfl rfl)
theorem dJ8_hugeLength_24 : decode cJ8_hugeLength 24 = .ok (.iload_n 0, 1) := dk_26 (dk_at dksJ8_hugeLength_1 0 rfl rfl)
theorem dJ8_hugeLength_25 : decode cJ8_hugeLength 25 = .ok (.invokevirtual 98, 3) := dk_182 0 98 (dk_at dksJ8_hugeLength_1 1 rfl rfl)
theorem dJ8_hugeLength_28 : decode cJ8_hugeLength 28 = .ok (.ldc 208, 2) := dk_18 208 (dk_at dksJ8_hugeLength_1 4 rfl rfl)
theorem dJ8_hugeLength_30 : decode cJ8_hugeLength 30 = .ok (.invokevirtual 94, 3) := dk_182 0 94 (dk_at dksJ8_hugeLength_1 6 rfl rfl)
theorem dJ8_hugeLength_33 : decode cJ8_hugeLength 33 = .ok (.iload_n 1, 1) := dk_27 (dk_at dksJ8_hugeLength_1 9 rfl rfl)
theorem dJ8_hugeLength_34 : decode cJ8_hugeLength 34 = .ok (.invokevirtual 98, 3) := dk_182 0 98 (dk_at dksJ8_hugeLength_1 10 rfl rfl)
theorem dJ8_hugeLength_37 : decode cJ8_hugeLength 37 = .ok (.ldc 210, 2) := dk_18 210 (dk_at dksJ8_hugeLength_1 13 rfl rfl)
theorem dJ8_hugeLength_39 : decode cJ8_hugeLength 39 = .ok (.invokevirtual 94, 3) := dk_182 0 94 (dk_at dksJ8_hugeLength_1 15 rfl rfl)
theorem dJ8_hugeLength_42 : decode cJ8_hugeLength 42 = .ok (.invokevirtual 101, 3) := dk_182 0 101 (dk_at dksJ8_hugeLength_1 18 rfl rfl)
theorem dJ8_hugeLength_45 : decode cJ8_hugeLength 45 = .ok (.invokespecial 212, 3) := dk_183 0 212 (dk_at dksJ8_hugeLength_1 21 rfl rfl)
theorem dJ8_hugeLength_48 : decode cJ8_hugeLength 48 = .ok (.athrow, 1) := dk_191 (dk_at dksJ8_hugeLength_2 0 rfl rfl)
theorem dJ8_hugeLength_49 : decode cJ8_hugeLength 49 = .ok (.iload_n 2, 1) := dk_28 (dk_at dksJ8_hugeLength_2 1 rfl rfl)
theorem dJ8_hugeLength_50 : decode cJ8_hugeLength 50 = .ok (.ldc 200, 2) := dk_18 200 (dk_at dksJ8_hugeLength_2 2 rfl rfl)
theorem dJ8_hugeLength_52 : decode cJ8_hugeLength 52 = .ok (.if_icmp .gt 6, 3) := dk_163 0 6 (dk_at dksJ8_hugeLength_2 4 rfl rfl)
theorem dJ8_hugeLength_55 : decode cJ8_hugeLength 55 = .ok (.ldc 200, 2) := dk_18 200 (dk_at dksJ8_hugeLength_2 7 rfl rfl)
theorem dJ8_hugeLength_57 : decode cJ8_hugeLength 57 = .ok (.ireturn, 1) := dk_172 (dk_at dksJ8_hugeLength_2 9 rfl rfl)
theorem dJ8_hugeLength_58 : decode cJ8_hugeLength 58 = .ok (.iload_n 2, 1) := dk_28 (dk_at dksJ8_hugeLength_2 10 rfl rfl)
theorem dJ8_hugeLength_59 : decode cJ8_hugeLength 59 = .ok (.ireturn, 1) := dk_172 (dk_at dksJ8_hugeLength_2 11 rfl rfl)
theorem q84 : (Jvm.Cond.initialized "jdk/internal/util/ArraysSupport") ∈ lw_all := lw_g (lw_at lw_m1 25 rfl) rfl
theorem q801 : (Jvm.Cond.static ({ cls := "jdk/internal/util/ArraysSupport", name := "newLength", desc := "(III)I" } : Jvm.MethodName)) ∈ lw_all := lw_g (lw_at lw_m4 22 rfl) rfl
theorem q802 : (Jvm.Cond.code ({ cls := "jdk/internal/util/ArraysSupport", name := "newLength", desc := "(III)I" } : Jvm.MethodName) prog_36_method_27_code (4 : Nat) (Option.some Jvm.ClassFile.FieldType.int)) ∈ lw_all := lw_g (lw_at lw_m4 23 rfl) rfl
theorem q803 : (Jvm.Cond.methodLink "jdk/internal/util/ArraysSupport" (194 : Nat) ({ cls := "java/lang/Math", name := "max", desc := "(II)I" } : Jvm.MethodName)) ∈ lw_all := lw_g (lw_at lw_m4 24 rfl) rfl
theorem q806 : (Jvm.Cond.constant "jdk/internal/util/ArraysSupport" (200 : Nat) (2147483639 : Int32)) ∈ lw_all := lw_g (lw_at lw_m4 27 rfl) rfl
theorem q807 : (Jvm.Cond.methodLink "jdk/internal/util/ArraysSupport" (201 : Nat) ({ cls := "jdk/internal/util/ArraysSupport", name := "hugeLength", desc := "(II)I" } : Jvm.MethodName)) ∈ lw_all := lw_g (lw_at lw_m4 28 rfl) rfl
theorem q808 : (Jvm.Cond.static ({ cls := "jdk/internal/util/ArraysSupport", name := "hugeLength", desc := "(II)I" } : Jvm.MethodName)) ∈ lw_all := lw_g (lw_at lw_m4 29 rfl) rfl
theorem q809 : (Jvm.Cond.code ({ cls := "jdk/internal/util/ArraysSupport", name := "hugeLength", desc := "(II)I" } : Jvm.MethodName) prog_36_method_28_code (3 : Nat) (Option.some Jvm.ClassFile.FieldType.int)) ∈ lw_all := lw_g (lw_at lw_m4 30 rfl) rfl
/-! java/util/Arrays -/
set_option maxRecDepth 100000
def RJ9 : String := "java/util/Arrays"
abbrev cJ9_copyOf : ByteArray := prog_30_method_119_code
def yJ9_copyOf : MethodName := ⟨RJ9, "copyOf", "([Ljava/lang/Object;I)[Ljava/lang/Object;"⟩
def dkwJ9_copyOf_0 : List UInt8 := [42, 27, 42, 182, 0, 86, 184, 1, 44, 176]
abbrev dktJ9_copyOf_0 : List UInt8 := dkwJ9_copyOf_0 ++ []
theorem dksJ9_copyOf_0 : cJ9_copyOf.data.toList.drop 0 = dktJ9_copyOf_0 := by decide +kernel
theorem dJ9_copyOf_0 : decode cJ9_copyOf 0 = .ok (.aload_n 0, 1) := dk_42 (dk_at dksJ9_copyOf_0 0 rfl rfl)
theorem dJ9_copyOf_1 : decode cJ9_copyOf 1 = .ok (.iload_n 1, 1) := dk_27 (dk_at dksJ9_copyOf_0 1 rfl rfl)
theorem dJ9_copyOf_2 : decode cJ9_copyOf 2 = .ok (.aload_n 0, 1) := dk_42 (dk_at dksJ9_copyOf_0 2 rfl rfl)
theorem dJ9_copyOf_3 : decode cJ9_copyOf 3 = .ok (.invokevirtual 86, 3) := dk_182 0 86 (dk_at dksJ9_copyOf_0 3 rfl rfl)
theorem dJ9_copyOf_6 : decode cJ9_copyOf 6 = .ok (.invokestatic 300, 3) := dk_184 1 44 (dk_at dksJ9_copyOf_0 6 rfl rfl)
theorem dJ9_copyOf_9 : decode cJ9_copyOf 9 = .ok (.areturn, 1) := dk_176 (dk_at dksJ9_copyOf_0 9 rfl rfl)
abbrev cJ9_copyOf_2 : ByteArray := prog_30_method_120_code
def yJ9_copyOf_2 : MethodName := ⟨RJ9, "copyOf", "([Ljava/lang/Object;ILjava/lang/Class;)[Ljava/lang/Object;"⟩
def dkwJ9_copyOf_2_1 : List UInt8 := [78, 42, 3, 45, 3, 42, 190, 27, 184, 1, 48, 184, 0, 150, 45, 176]
abbrev dktJ9_copyOf_2_1 : List UInt8 := dkwJ9_copyOf_2_1 ++ []
def dkwJ9_copyOf_2_0 : List UInt8 := [44, 18, 110, 166, 0, 10, 27, 189, 0, 2, 167, 0, 14, 44, 182, 0, 90, 27, 184, 0, 95, 192, 0, 110]
abbrev dktJ9_copyOf_2_0 : List UInt8 := dkwJ9_copyOf_2_0 ++ dktJ9_copyOf_2_1
theorem dksJ9_copyOf_2_0 : cJ9_copyOf_2.data.toList.drop 0 = dktJ9_copyOf_2_0 := by decide +kernel
theorem dksJ9_copyOf_2_1 : cJ9_copyOf_2.data.toList.drop 24 = dktJ9_copyOf_2_1 := dk_seg dksJ9_copyOf_2_0 24 rfl rfl
theorem dJ9_copyOf_2_0 : decode cJ9_copyOf_2 0 = .ok (.aload_n 2, 1) := dk_44 (dk_at dksJ9_copyOf_2_0 0 rfl rfl)
theorem dJ9_copyOf_2_1 : decode cJ9_copyOf_2 1 = .ok (.ldc 110, 2) := dk_18 110 (dk_at dksJ9_copyOf_2_0 1 rfl rfl)
theorem dJ9_copyOf_2_3 : decode cJ9_copyOf_2 3 = .ok (.if_acmp .ne 10, 3) := dk_166 0 10 (dk_at dksJ9_copyOf_2_0 3 rfl rfl)
theorem dJ9_copyOf_2_6 : decode cJ9_copyOf_2 6 = .ok (.iload_n 1, 1) := dk_27 (dk_at dksJ9_copyOf_2_0 6 rfl rfl)
theorem dJ9_copyOf_2_7 : decode cJ9_copyOf_2 7 = .ok (.anewarray 2, 3) := dk_189 0 2 (dk_at dksJ9_copyOf_2_0 7 rfl rfl)
theorem dJ9_copyOf_2_10 : decode cJ9_copyOf_2 10 = .ok (.goto 14, 3) := dk_167 0 14 (dk_at dksJ9_copyOf_2_0 10 rfl rfl)
theorem dJ9_copyOf_2_13 : decode cJ9_copyOf_2 13 = .ok (.aload_n 2, 1) := dk_44 (dk_at dksJ9_copyOf_2_0 13 rfl rfl)
theorem dJ9_copyOf_2_14 : decode cJ9_copyOf_2 14 = .ok (.invokevirtual 90, 3) := dk_182 0 90 (dk_at dksJ9_copyOf_2_0 14 rfl rfl)
theorem dJ9_copyOf_2_17 : decode cJ9_copyOf_2 17 = .ok (.iload_n 1, 1) := dk_27 (dk_at dksJ9_copyOf_2_0 17 rfl rfl)
theorem dJ9_copyOf_2_18 : decode cJ9_copyOf_2 18 = .ok (.invokestatic 95, 3) := dk_184 0 95 (dk_at dksJ9_copyOf_2_0 18 rfl rfl)
theorem dJ9_copyOf_2_21 : decode cJ9_copyOf_2 21 = .ok (.checkcast 110, 3) := dk_192 0 110 (dk_at dksJ9_copyOf_2_0 21 rfl rfl)
theorem dJ9_copyOf_2_24 : decode cJ9_copyOf_2 24 = .ok (.astore_n 3, 1) := dk_78 (dk_at dksJ9_copyOf_2_1 0 rfl rfl)
theorem dJ9_copyOf_2_25 : decode cJ9_copyOf_2 25 = .ok (.aload_n 0, 1) := dk_42 (dk_at dksJ9_copyOf_2_1 1 rfl rfl)
theorem dJ9_copyOf_2_26 : decode cJ9_copyOf_2 26 = .ok (.iconst 0, 1) := dk_3 (dk_at dksJ9_copyOf_2_1 2 rfl rfl)
theorem dJ9_copyOf_2_27 : decode cJ9_copyOf_2 27 = .ok (.aload_n 3, 1) := dk_45 (dk_at dksJ9_copyOf_2_1 3 rfl rfl)
theorem dJ9_copyOf_2_28 : decode cJ9_copyOf_2 28 = .ok (.iconst 0, 1) := dk_3 (dk_at dksJ9_copyOf_2_1 4 rfl rfl)
theorem dJ9_copyOf_2_29 : decode cJ9_copyOf_2 29 = .ok (.aload_n 0, 1) := dk_42 (dk_at dksJ9_copyOf_2_1 5 rfl rfl)
theorem dJ9_copyOf_2_30 : decode cJ9_copyOf_2 30 = .ok (.arraylength, 1) := dk_190 (dk_at dksJ9_copyOf_2_1 6 rfl rfl)
theorem dJ9_copyOf_2_31 : decode cJ9_copyOf_2 31 = .ok (.iload_n 1, 1) := dk_27 (dk_at dksJ9_copyOf_2_1 7 rfl rfl)
theorem dJ9_copyOf_2_32 : decode cJ9_copyOf_2 32 = .ok (.invokestatic 304, 3) := dk_184 1 48 (dk_at dksJ9_copyOf_2_1 8 rfl rfl)
theorem dJ9_copyOf_2_35 : decode cJ9_copyOf_2 35 = .ok (.invokestatic 150, 3) := dk_184 0 150 (dk_at dksJ9_copyOf_2_1 11 rfl rfl)
theorem dJ9_copyOf_2_38 : decode cJ9_copyOf_2 38 = .ok (.aload_n 3, 1) := dk_45 (dk_at dksJ9_copyOf_2_1 14 rfl rfl)
theorem dJ9_copyOf_2_39 : decode cJ9_copyOf_2 39 = .ok (.areturn, 1) := dk_176 (dk_at dksJ9_copyOf_2_1 15 rfl rfl)
theorem q85 : (Jvm.Cond.initialized "java/util/Arrays") ∈ lw_all := lw_g (lw_at lw_m1 26 rfl) rfl
theorem q811 : (Jvm.Cond.static ({ cls := "java/util/Arrays", name := "copyOf", desc := "([Ljava/lang/Object;I)[Ljava/lang/Object;" } : Jvm.MethodName)) ∈ lw_all := lw_g (lw_at lw_m4 32 rfl) rfl
theorem q812 : (Jvm.Cond.code ({ cls := "java/util/Arrays", name := "copyOf", desc := "([Ljava/lang/Object;I)[Ljava/lang/Object;" } : Jvm.MethodName) prog_30_method_119_code (2 : Nat) (Option.some (Jvm.ClassFile.FieldType.array (Jvm.ClassFile.FieldType.object "java/lang/Object")))) ∈ lw_all := lw_g (lw_at lw_m4 33 rfl) rfl
theorem q813 : (Jvm.Cond.methodLink "java/util/Arrays" (86 : Nat) ({ cls := "java/lang/Object", name := "getClass", desc := "()Ljava/lang/Class;" } : Jvm.MethodName)) ∈ lw_all := lw_g (lw_at lw_m4 34 rfl) rfl
theorem q834 : (Jvm.Cond.methodLink "java/util/Arrays" (300 : Nat) ({ cls := "java/util/Arrays", name := "copyOf", desc := "([Ljava/lang/Object;ILjava/lang/Class;)[Ljava/lang/Object;" } : Jvm.MethodName)) ∈ lw_all := lw_g (lw_at lw_m4 55 rfl) rfl
theorem q835 : (Jvm.Cond.static ({ cls := "java/util/Arrays", name := "copyOf", desc := "([Ljava/lang/Object;ILjava/lang/Class;)[Ljava/lang/Object;" } : Jvm.MethodName)) ∈ lw_all := lw_g (lw_at lw_m4 56 rfl) rfl
theorem q836 : (Jvm.Cond.code ({ cls := "java/util/Arrays", name := "copyOf", desc := "([Ljava/lang/Object;ILjava/lang/Class;)[Ljava/lang/Object;" } : Jvm.MethodName) prog_30_method_120_code (4 : Nat) (Option.some (Jvm.ClassFile.FieldType.array (Jvm.ClassFile.FieldType.object "java/lang/Object")))) ∈ lw_all := lw_g (lw_at lw_m4 57 rfl) rfl
theorem q837 : (Jvm.Cond.classLink "java/util/Arrays" (110 : Nat) "[Ljava/lang/Object;") ∈ lw_all := lw_g (lw_at lw_m4 58 rfl) rfl
theorem q839 : (Jvm.Cond.classLink "java/util/Arrays" (2 : Nat) "java/lang/Object") ∈ lw_all := lw_g (lw_at lw_m4 60 rfl) rfl
theorem q840 : (Jvm.Cond.methodLink "java/util/Arrays" (304 : Nat) ({ cls := "java/lang/Math", name := "min", desc := "(II)I" } : Jvm.MethodName)) ∈ lw_all := lw_g (lw_at lw_m4 61 rfl) rfl
theorem q841 : (Jvm.Cond.methodLink "java/util/Arrays" (150 : Nat) ({ cls := "java/lang/System", name := "arraycopy", desc := "(Ljava/lang/Object;ILjava/lang/Object;II)V" } : Jvm.MethodName)) ∈ lw_all := lw_g (lw_at lw_m4 62 rfl) rfl
/-! LightPlateLaw -/
set_option maxRecDepth 100000
def RX0 : String := "LightPlateLaw"
abbrev cX0_cell : ByteArray := method_2_code
def yX0_cell : MethodName := ⟨RX0, "cell", "([II)I"⟩
def dkwX0_cell_0 : List UInt8 := [27, 42, 190, 162, 0, 9, 42, 27, 46, 167, 0, 4, 3, 172]
abbrev dktX0_cell_0 : List UInt8 := dkwX0_cell_0 ++ []
theorem dksX0_cell_0 : cX0_cell.data.toList.drop 0 = dktX0_cell_0 := by decide +kernel
theorem dX0_cell_0 : decode cX0_cell 0 = .ok (.iload_n 1, 1) := dk_27 (dk_at dksX0_cell_0 0 rfl rfl)
theorem dX0_cell_1 : decode cX0_cell 1 = .ok (.aload_n 0, 1) := dk_42 (dk_at dksX0_cell_0 1 rfl rfl)
theorem dX0_cell_2 : decode cX0_cell 2 = .ok (.arraylength, 1) := dk_190 (dk_at dksX0_cell_0 2 rfl rfl)
theorem dX0_cell_3 : decode cX0_cell 3 = .ok (.if_icmp .ge 9, 3) := dk_162 0 9 (dk_at dksX0_cell_0 3 rfl rfl)
theorem dX0_cell_6 : decode cX0_cell 6 = .ok (.aload_n 0, 1) := dk_42 (dk_at dksX0_cell_0 6 rfl rfl)
theorem dX0_cell_7 : decode cX0_cell 7 = .ok (.iload_n 1, 1) := dk_27 (dk_at dksX0_cell_0 7 rfl rfl)
theorem dX0_cell_8 : decode cX0_cell 8 = .ok (.iaload, 1) := dk_46 (dk_at dksX0_cell_0 8 rfl rfl)
theorem dX0_cell_9 : decode cX0_cell 9 = .ok (.goto 4, 3) := dk_167 0 4 (dk_at dksX0_cell_0 9 rfl rfl)
theorem dX0_cell_12 : decode cX0_cell 12 = .ok (.iconst 0, 1) := dk_3 (dk_at dksX0_cell_0 12 rfl rfl)
theorem dX0_cell_13 : decode cX0_cell 13 = .ok (.ireturn, 1) := dk_172 (dk_at dksX0_cell_0 13 rfl rfl)
theorem q59 : (Jvm.Cond.initialized "LightPlateLaw") ∈ lw_all := lw_g (lw_at lw_m1 0 rfl) rfl
theorem q89 : (Jvm.Cond.methodLink "LightPlateLaw" (21 : Nat) ({ cls := "LightPlate", name := "turn", desc := "(II)I" } : Jvm.MethodName)) ∈ lw_all := lw_g (lw_at lw_m1 30 rfl) rfl
theorem q102 : (Jvm.Cond.classLink "LightPlateLaw" (7 : Nat) "LightPlate") ∈ lw_all := lw_g (lw_at lw_m1 43 rfl) rfl
theorem q104 : (Jvm.Cond.methodLink "LightPlateLaw" (15 : Nat) ({ cls := "LightPlate", name := "<init>", desc := "(I)V" } : Jvm.MethodName)) ∈ lw_all := lw_g (lw_at lw_m1 45 rfl) rfl
theorem q389 : (Jvm.Cond.methodLink "LightPlateLaw" (26 : Nat) ({ cls := "LightPlate", name := "set", desc := "(III)I" } : Jvm.MethodName)) ∈ lw_all := lw_g (lw_at lw_m2 90 rfl) rfl
theorem q404 : (Jvm.Cond.methodLink "LightPlateLaw" (31 : Nat) ({ cls := "LightPlate", name := "dies", desc := "(III)I" } : Jvm.MethodName)) ∈ lw_all := lw_g (lw_at lw_m2 105 rfl) rfl
theorem q412 : (Jvm.Cond.methodLink "LightPlateLaw" (35 : Nat) ({ cls := "LightPlate", name := "mend", desc := "(II)I" } : Jvm.MethodName)) ∈ lw_all := lw_g (lw_at lw_m2 113 rfl) rfl
theorem q416 : (Jvm.Cond.methodLink "LightPlateLaw" (39 : Nat) ({ cls := "LightPlate", name := "cell", desc := "(III)I" } : Jvm.MethodName)) ∈ lw_all := lw_g (lw_at lw_m2 117 rfl) rfl
theorem q510 : (Jvm.Cond.methodLink "LightPlateLaw" (42 : Nat) ({ cls := "LightPlate", name := "table", desc := "(II)I" } : Jvm.MethodName)) ∈ lw_all := lw_g (lw_at lw_m2 211 rfl) rfl
theorem q531 : (Jvm.Cond.methodLink "LightPlateLaw" (46 : Nat) ({ cls := "LightPlate", name := "entry", desc := "(III)I" } : Jvm.MethodName)) ∈ lw_all := lw_g (lw_at lw_m2 232 rfl) rfl
theorem q535 : (Jvm.Cond.methodLink "LightPlateLaw" (50 : Nat) ({ cls := "LightPlate", name := "take", desc := "()I" } : Jvm.MethodName)) ∈ lw_all := lw_g (lw_at lw_m2 236 rfl) rfl
theorem q539 : (Jvm.Cond.methodLink "LightPlateLaw" (55 : Nat) ({ cls := "LightPlate", name := "right", desc := "()I" } : Jvm.MethodName)) ∈ lw_all := lw_g (lw_at lw_m3 0 rfl) rfl
theorem q543 : (Jvm.Cond.methodLink "LightPlateLaw" (59 : Nat) ({ cls := "LightPlate", name := "split", desc := "()I" } : Jvm.MethodName)) ∈ lw_all := lw_g (lw_at lw_m3 4 rfl) rfl
theorem q555 : (Jvm.Cond.methodLink "LightPlateLaw" (63 : Nat) ({ cls := "LightPlate", name := "step", desc := "(II)I" } : Jvm.MethodName)) ∈ lw_all := lw_g (lw_at lw_m3 16 rfl) rfl
theorem q559 : (Jvm.Cond.methodLink "LightPlateLaw" (67 : Nat) ({ cls := "LightPlate", name := "undo", desc := "()I" } : Jvm.MethodName)) ∈ lw_all := lw_g (lw_at lw_m3 20 rfl) rfl
theorem q567 : (Jvm.Cond.methodLink "LightPlateLaw" (71 : Nat) ({ cls := "LightPlate", name := "work", desc := "(II)I" } : Jvm.MethodName)) ∈ lw_all := lw_g (lw_at lw_m3 28 rfl) rfl
theorem q571 : (Jvm.Cond.methodLink "LightPlateLaw" (75 : Nat) ({ cls := "LightPlate", name := "lay", desc := "()I" } : Jvm.MethodName)) ∈ lw_all := lw_g (lw_at lw_m3 32 rfl) rfl
theorem q602 : (Jvm.Cond.methodLink "LightPlateLaw" (81 : Nat) ({ cls := "LightPlate", name := "feed", desc := "(JI)I" } : Jvm.MethodName)) ∈ lw_all := lw_g (lw_at lw_m3 63 rfl) rfl
theorem q606 : (Jvm.Cond.methodLink "LightPlateLaw" (86 : Nat) ({ cls := "LightPlate", name := "program", desc := "()I" } : Jvm.MethodName)) ∈ lw_all := lw_g (lw_at lw_m3 67 rfl) rfl
theorem q888 : (Jvm.Cond.methodLink "LightPlateLaw" (90 : Nat) ({ cls := "LightPlate", name := "creep", desc := "(I)I" } : Jvm.MethodName)) ∈ lw_all := lw_g (lw_at lw_m4 109 rfl) rfl
theorem q892 : (Jvm.Cond.methodLink "LightPlateLaw" (95 : Nat) ({ cls := "LightPlate", name := "offset", desc := "(III)I" } : Jvm.MethodName)) ∈ lw_all := lw_g (lw_at lw_m4 113 rfl) rfl
theorem q896 : (Jvm.Cond.methodLink "LightPlateLaw" (99 : Nat) ({ cls := "LightPlate", name := "run", desc := "(J)I" } : Jvm.MethodName)) ∈ lw_all := lw_g (lw_at lw_m4 117 rfl) rfl
theorem q933 : (Jvm.Cond.methodLink "LightPlateLaw" (104 : Nat) ({ cls := "LightPlate", name := "out", desc := "(II)I" } : Jvm.MethodName)) ∈ lw_all := lw_g (lw_at lw_m4 154 rfl) rfl
theorem q941 : (Jvm.Cond.methodLink "LightPlateLaw" (108 : Nat) ({ cls := "LightPlate", name := "reworked", desc := "(II)I" } : Jvm.MethodName)) ∈ lw_all := lw_g (lw_at lw_m4 162 rfl) rfl
theorem q952 : (Jvm.Cond.methodLink "LightPlateLaw" (112 : Nat) ({ cls := "LightPlate", name := "since", desc := "()I" } : Jvm.MethodName)) ∈ lw_all := lw_g (lw_at lw_m4 173 rfl) rfl
theorem q956 : (Jvm.Cond.methodLink "LightPlateLaw" (116 : Nat) ({ cls := "LightPlate", name := "found", desc := "(IIII)I" } : Jvm.MethodName)) ∈ lw_all := lw_g (lw_at lw_m4 177 rfl) rfl
theorem q978 : (Jvm.Cond.methodLink "LightPlateLaw" (121 : Nat) ({ cls := "LightPlate", name := "probing", desc := "()I" } : Jvm.MethodName)) ∈ lw_all := lw_g (lw_at lw_m4 199 rfl) rfl
theorem q1005 : (Jvm.Cond.methodLink "LightPlateLaw" (125 : Nat) ({ cls := "LightPlate", name := "probe", desc := "(II)I" } : Jvm.MethodName)) ∈ lw_all := lw_g (lw_at lw_m4 226 rfl) rfl
theorem q1013 : (Jvm.Cond.methodLink "LightPlateLaw" (129 : Nat) ({ cls := "LightPlate", name := "held", desc := "(I)I" } : Jvm.MethodName)) ∈ lw_all := lw_g (lw_at lw_m4 234 rfl) rfl
theorem q1017 : (Jvm.Cond.methodLink "LightPlateLaw" (133 : Nat) ({ cls := "LightPlate", name := "next", desc := "()I" } : Jvm.MethodName)) ∈ lw_all := lw_g (lw_at lw_m4 238 rfl) rfl
theorem q1023 : (Jvm.Cond.methodLink "LightPlateLaw" (137 : Nat) ({ cls := "LightPlate", name := "claim", desc := "(III)I" } : Jvm.MethodName)) ∈ lw_all := lw_g (lw_at lw_m5 4 rfl) rfl
theorem q1027 : (Jvm.Cond.methodLink "LightPlateLaw" (141 : Nat) ({ cls := "LightPlate", name := "meeting", desc := "()I" } : Jvm.MethodName)) ∈ lw_all := lw_g (lw_at lw_m5 8 rfl) rfl
theorem q1035 : (Jvm.Cond.methodLink "LightPlateLaw" (145 : Nat) ({ cls := "LightPlate", name := "count", desc := "(I)I" } : Jvm.MethodName)) ∈ lw_all := lw_g (lw_at lw_m5 16 rfl) rfl
theorem q1043 : (Jvm.Cond.methodLink "LightPlateLaw" (9 : Nat) ({ cls := "LightPlateLaw", name := "cell", desc := "([II)I" } : Jvm.MethodName)) ∈ lw_all := lw_g (lw_at lw_m5 24 rfl) rfl
theorem q1044 : (Jvm.Cond.static ({ cls := "LightPlateLaw", name := "cell", desc := "([II)I" } : Jvm.MethodName)) ∈ lw_all := lw_g (lw_at lw_m5 25 rfl) rfl
theorem q1045 : (Jvm.Cond.code ({ cls := "LightPlateLaw", name := "cell", desc := "([II)I" } : Jvm.MethodName) method_2_code (2 : Nat) (Option.some Jvm.ClassFile.FieldType.int)) ∈ lw_all := lw_g (lw_at lw_m5 26 rfl) rfl
theorem q1046 : (Jvm.Cond.classLink "LightPlateLaw" (18 : Nat) "LightPlateModel") ∈ lw_all := lw_g (lw_at lw_m5 27 rfl) rfl
theorem q1048 : (Jvm.Cond.methodLink "LightPlateLaw" (20 : Nat) ({ cls := "LightPlateModel", name := "<init>", desc := "(I)V" } : Jvm.MethodName)) ∈ lw_all := lw_g (lw_at lw_m5 29 rfl) rfl
theorem q1212 : (Jvm.Cond.methodLink "LightPlateLaw" (25 : Nat) ({ cls := "LightPlateModel", name := "turn", desc := "(II)I" } : Jvm.MethodName)) ∈ lw_all := lw_g (lw_at lw_m5 193 rfl) rfl
theorem q1219 : (Jvm.Cond.methodLink "LightPlateLaw" (30 : Nat) ({ cls := "LightPlateModel", name := "set", desc := "(III)I" } : Jvm.MethodName)) ∈ lw_all := lw_g (lw_at lw_m5 200 rfl) rfl
theorem q1232 : (Jvm.Cond.methodLink "LightPlateLaw" (34 : Nat) ({ cls := "LightPlateModel", name := "dies", desc := "(III)I" } : Jvm.MethodName)) ∈ lw_all := lw_g (lw_at lw_m5 213 rfl) rfl
theorem q1236 : (Jvm.Cond.methodLink "LightPlateLaw" (38 : Nat) ({ cls := "LightPlateModel", name := "mend", desc := "(II)I" } : Jvm.MethodName)) ∈ lw_all := lw_g (lw_at lw_m5 217 rfl) rfl
theorem q1240 : (Jvm.Cond.methodLink "LightPlateLaw" (41 : Nat) ({ cls := "LightPlateModel", name := "cell", desc := "(III)I" } : Jvm.MethodName)) ∈ lw_all := lw_g (lw_at lw_m5 221 rfl) rfl
theorem q1260 : (Jvm.Cond.methodLink "LightPlateLaw" (45 : Nat) ({ cls := "LightPlateModel", name := "table", desc := "(II)I" } : Jvm.MethodName)) ∈ lw_all := lw_g (lw_at lw_m6 1 rfl) rfl
theorem q1280 : (Jvm.Cond.methodLink "LightPlateLaw" (49 : Nat) ({ cls := "LightPlateModel", name := "entry", desc := "(III)I" } : Jvm.MethodName)) ∈ lw_all := lw_g (lw_at lw_m6 21 rfl) rfl
theorem q1285 : (Jvm.Cond.methodLink "LightPlateLaw" (54 : Nat) ({ cls := "LightPlateModel", name := "take", desc := "()I" } : Jvm.MethodName)) ∈ lw_all := lw_g (lw_at lw_m6 26 rfl) rfl
theorem q1290 : (Jvm.Cond.methodLink "LightPlateLaw" (58 : Nat) ({ cls := "LightPlateModel", name := "right", desc := "()I" } : Jvm.MethodName)) ∈ lw_all := lw_g (lw_at lw_m6 31 rfl) rfl
theorem q1294 : (Jvm.Cond.methodLink "LightPlateLaw" (62 : Nat) ({ cls := "LightPlateModel", name := "split", desc := "()I" } : Jvm.MethodName)) ∈ lw_all := lw_g (lw_at lw_m6 35 rfl) rfl
theorem q1302 : (Jvm.Cond.methodLink "LightPlateLaw" (66 : Nat) ({ cls := "LightPlateModel", name := "step", desc := "(II)I" } : Jvm.MethodName)) ∈ lw_all := lw_g (lw_at lw_m6 43 rfl) rfl
theorem q1307 : (Jvm.Cond.methodLink "LightPlateLaw" (70 : Nat) ({ cls := "LightPlateModel", name := "undo", desc := "()I" } : Jvm.MethodName)) ∈ lw_all := lw_g (lw_at lw_m6 48 rfl) rfl
theorem q1311 : (Jvm.Cond.methodLink "LightPlateLaw" (74 : Nat) ({ cls := "LightPlateModel", name := "work", desc := "(II)I" } : Jvm.MethodName)) ∈ lw_all := lw_g (lw_at lw_m6 52 rfl) rfl
theorem q1315 : (Jvm.Cond.methodLink "LightPlateLaw" (78 : Nat) ({ cls := "LightPlateModel", name := "lay", desc := "()I" } : Jvm.MethodName)) ∈ lw_all := lw_g (lw_at lw_m6 56 rfl) rfl
theorem q1336 : (Jvm.Cond.methodLink "LightPlateLaw" (85 : Nat) ({ cls := "LightPlateModel", name := "feed", desc := "(JI)I" } : Jvm.MethodName)) ∈ lw_all := lw_g (lw_at lw_m6 77 rfl) rfl
theorem q1342 : (Jvm.Cond.methodLink "LightPlateLaw" (89 : Nat) ({ cls := "LightPlateModel", name := "program", desc := "()I" } : Jvm.MethodName)) ∈ lw_all := lw_g (lw_at lw_m6 83 rfl) rfl
theorem q1385 : (Jvm.Cond.methodLink "LightPlateLaw" (94 : Nat) ({ cls := "LightPlateModel", name := "creep", desc := "(I)I" } : Jvm.MethodName)) ∈ lw_all := lw_g (lw_at lw_m6 126 rfl) rfl
theorem q1390 : (Jvm.Cond.methodLink "LightPlateLaw" (98 : Nat) ({ cls := "LightPlateModel", name := "offset", desc := "(III)I" } : Jvm.MethodName)) ∈ lw_all := lw_g (lw_at lw_m6 131 rfl) rfl
theorem q1395 : (Jvm.Cond.methodLink "LightPlateLaw" (103 : Nat) ({ cls := "LightPlateModel", name := "run", desc := "(J)I" } : Jvm.MethodName)) ∈ lw_all := lw_g (lw_at lw_m6 136 rfl) rfl
theorem q1400 : (Jvm.Cond.methodLink "LightPlateLaw" (107 : Nat) ({ cls := "LightPlateModel", name := "out", desc := "(II)I" } : Jvm.MethodName)) ∈ lw_all := lw_g (lw_at lw_m6 141 rfl) rfl
theorem q1408 : (Jvm.Cond.methodLink "LightPlateLaw" (111 : Nat) ({ cls := "LightPlateModel", name := "reworked", desc := "(II)I" } : Jvm.MethodName)) ∈ lw_all := lw_g (lw_at lw_m6 149 rfl) rfl
theorem q1420 : (Jvm.Cond.methodLink "LightPlateLaw" (115 : Nat) ({ cls := "LightPlateModel", name := "since", desc := "()I" } : Jvm.MethodName)) ∈ lw_all := lw_g (lw_at lw_m6 161 rfl) rfl
theorem q1424 : (Jvm.Cond.methodLink "LightPlateLaw" (120 : Nat) ({ cls := "LightPlateModel", name := "found", desc := "(IIII)I" } : Jvm.MethodName)) ∈ lw_all := lw_g (lw_at lw_m6 165 rfl) rfl
theorem q1428 : (Jvm.Cond.methodLink "LightPlateLaw" (124 : Nat) ({ cls := "LightPlateModel", name := "probing", desc := "()I" } : Jvm.MethodName)) ∈ lw_all := lw_g (lw_at lw_m6 169 rfl) rfl
theorem q1432 : (Jvm.Cond.methodLink "LightPlateLaw" (128 : Nat) ({ cls := "LightPlateModel", name := "probe", desc := "(II)I" } : Jvm.MethodName)) ∈ lw_all := lw_g (lw_at lw_m6 173 rfl) rfl
theorem q1443 : (Jvm.Cond.methodLink "LightPlateLaw" (132 : Nat) ({ cls := "LightPlateModel", name := "held", desc := "(I)I" } : Jvm.MethodName)) ∈ lw_all := lw_g (lw_at lw_m6 184 rfl) rfl
theorem q1447 : (Jvm.Cond.methodLink "LightPlateLaw" (136 : Nat) ({ cls := "LightPlateModel", name := "next", desc := "()I" } : Jvm.MethodName)) ∈ lw_all := lw_g (lw_at lw_m6 188 rfl) rfl
theorem q1452 : (Jvm.Cond.methodLink "LightPlateLaw" (140 : Nat) ({ cls := "LightPlateModel", name := "claim", desc := "(III)I" } : Jvm.MethodName)) ∈ lw_all := lw_g (lw_at lw_m6 193 rfl) rfl
theorem q1456 : (Jvm.Cond.methodLink "LightPlateLaw" (144 : Nat) ({ cls := "LightPlateModel", name := "meeting", desc := "()I" } : Jvm.MethodName)) ∈ lw_all := lw_g (lw_at lw_m6 197 rfl) rfl
theorem q1464 : (Jvm.Cond.methodLink "LightPlateLaw" (148 : Nat) ({ cls := "LightPlateModel", name := "count", desc := "(I)I" } : Jvm.MethodName)) ∈ lw_all := lw_g (lw_at lw_m6 205 rfl) rfl
theorem q1472 : (Jvm.Cond.constantLong "LightPlateLaw" (79 : Nat) (4294967295 : Int64)) ∈ lw_all := lw_g (lw_at lw_m6 213 rfl) rfl
/-! LightPlate$Node -/
set_option maxRecDepth 100000
def RX10 : String := "LightPlate$Node"
abbrev cX10_init : ByteArray := prog_9_method_1_code
def yX10_init : MethodName := ⟨RX10, "<init>", "(LLightPlate;)V"⟩
def dkwX10_init_0 : List UInt8 := [42, 43, 181, 0, 1, 42, 183, 0, 7, 177]
abbrev dktX10_init_0 : List UInt8 := dkwX10_init_0 ++ []
theorem dksX10_init_0 : cX10_init.data.toList.drop 0 = dktX10_init_0 := by decide +kernel
theorem dX10_init_0 : decode cX10_init 0 = .ok (.aload_n 0, 1) := dk_42 (dk_at dksX10_init_0 0 rfl rfl)
theorem dX10_init_1 : decode cX10_init 1 = .ok (.aload_n 1, 1) := dk_43 (dk_at dksX10_init_0 1 rfl rfl)
theorem dX10_init_2 : decode cX10_init 2 = .ok (.putfield 1, 3) := dk_181 0 1 (dk_at dksX10_init_0 2 rfl rfl)
theorem dX10_init_5 : decode cX10_init 5 = .ok (.aload_n 0, 1) := dk_42 (dk_at dksX10_init_0 5 rfl rfl)
theorem dX10_init_6 : decode cX10_init 6 = .ok (.invokespecial 7, 3) := dk_183 0 7 (dk_at dksX10_init_0 6 rfl rfl)
theorem dX10_init_9 : decode cX10_init 9 = .ok (.return_, 1) := dk_177 (dk_at dksX10_init_0 9 rfl rfl)
theorem q76 : (Jvm.Cond.initialized "LightPlate$Node") ∈ lw_all := lw_g (lw_at lw_m1 17 rfl) rfl
theorem q714 : (Jvm.Cond.instanceMethod ({ cls := "LightPlate$Node", name := "<init>", desc := "(LLightPlate;)V" } : Jvm.MethodName)) ∈ lw_all := lw_g (lw_at lw_m3 175 rfl) rfl
theorem q715 : (Jvm.Cond.code ({ cls := "LightPlate$Node", name := "<init>", desc := "(LLightPlate;)V" } : Jvm.MethodName) prog_9_method_1_code (2 : Nat) (Option.none : Option Jvm.ClassFile.FieldType)) ∈ lw_all := lw_g (lw_at lw_m3 176 rfl) rfl
theorem q716 : (Jvm.Cond.methodLink "LightPlate$Node" (7 : Nat) ({ cls := "java/lang/Object", name := "<init>", desc := "()V" } : Jvm.MethodName)) ∈ lw_all := lw_g (lw_at lw_m3 177 rfl) rfl
theorem q720 : (Jvm.Cond.fieldLink "LightPlate$Node" (1 : Nat) "LightPlate$Node" "this$0" "LLightPlate;") ∈ lw_all := lw_g (lw_at lw_m3 181 rfl) rfl
theorem q728 : (Jvm.Cond.soleField "LightPlate$Node" "this$0") ∈ lw_all := lw_g (lw_at lw_m3 189 rfl) rfl
theorem q845 : (Jvm.Cond.declares ({ cls := "LightPlate$Node", name := "many", desc := "()I" } : Jvm.MethodName)) ∈ lw_tbl := lw_at lw_m4 66 rfl
theorem q846 : (Jvm.Cond.sameMethod "LightPlate$Node" "LightPlate$Node" "many" "()I") ∈ lw_all := lw_g (lw_at lw_m4 67 rfl) rfl
theorem q862 : (Jvm.Cond.declares ({ cls := "LightPlate$Node", name := "gives", desc := "()V" } : Jvm.MethodName)) ∈ lw_tbl := lw_at lw_m4 83 rfl
theorem q863 : (Jvm.Cond.sameMethod "LightPlate$Node" "LightPlate$Node" "gives" "()V") ∈ lw_all := lw_g (lw_at lw_m4 84 rfl) rfl
theorem q1486 : (Jvm.Cond.castable "LightPlate$Node" "java/lang/Object") ∈ lw_tbl := lw_at lw_m6 227 rfl
/-! LightPlate$Times -/
set_option maxRecDepth 100000
def RX11 : String := "LightPlate$Times"
def TX11 : u_T := fun k => match k with
  | 0 => ("LightPlate$Node", "this$0", "LLightPlate;", true)
  | 1 => ("LightPlate$Times", "times", "I", true)
  | 2 => ("LightPlate$Times", "of", "Ljava/util/ArrayList;", true)
  | _ => ("LightPlate$Times", "this$0", "LLightPlate;", true)
def tyX11 : Nat → FieldType := fun k => match k with
  | 0 => .object "LightPlate"
  | 1 => .int
  | 2 => .object "java/util/ArrayList"
  | _ => .object "LightPlate"
abbrev wsX110 : List Cond := u_ws RX11 TX11 4
-- two fields of one name: no nmX11
theorem tyX11_ok : ∀ k, k < 4 → parseFieldDescriptor (TX11 k).2.2.1 = some (tyX11 k) := by decide +kernel
abbrev cX11_init : ByteArray := prog_14_method_1_code
def yX11_init : MethodName := ⟨RX11, "<init>", "(LLightPlate;ILjava/util/ArrayList;)V"⟩
def dkwX11_init_0 : List UInt8 := [42, 43, 181, 0, 3, 42, 43, 183, 0, 9, 42, 28, 181, 0, 15, 42, 45, 181, 0, 19, 177]
abbrev dktX11_init_0 : List UInt8 := dkwX11_init_0 ++ []
theorem dksX11_init_0 : cX11_init.data.toList.drop 0 = dktX11_init_0 := by decide +kernel
theorem dX11_init_0 : decode cX11_init 0 = .ok (.aload_n 0, 1) := dk_42 (dk_at dksX11_init_0 0 rfl rfl)
theorem dX11_init_1 : decode cX11_init 1 = .ok (.aload_n 1, 1) := dk_43 (dk_at dksX11_init_0 1 rfl rfl)
theorem dX11_init_2 : decode cX11_init 2 = .ok (.putfield 3, 3) := dk_181 0 3 (dk_at dksX11_init_0 2 rfl rfl)
theorem dX11_init_5 : decode cX11_init 5 = .ok (.aload_n 0, 1) := dk_42 (dk_at dksX11_init_0 5 rfl rfl)
theorem dX11_init_6 : decode cX11_init 6 = .ok (.aload_n 1, 1) := dk_43 (dk_at dksX11_init_0 6 rfl rfl)
theorem dX11_init_7 : decode cX11_init 7 = .ok (.invokespecial 9, 3) := dk_183 0 9 (dk_at dksX11_init_0 7 rfl rfl)
theorem dX11_init_10 : decode cX11_init 10 = .ok (.aload_n 0, 1) := dk_42 (dk_at dksX11_init_0 10 rfl rfl)
theorem dX11_init_11 : decode cX11_init 11 = .ok (.iload_n 2, 1) := dk_28 (dk_at dksX11_init_0 11 rfl rfl)
theorem dX11_init_12 : decode cX11_init 12 = .ok (.putfield 15, 3) := dk_181 0 15 (dk_at dksX11_init_0 12 rfl rfl)
theorem dX11_init_15 : decode cX11_init 15 = .ok (.aload_n 0, 1) := dk_42 (dk_at dksX11_init_0 15 rfl rfl)
theorem dX11_init_16 : decode cX11_init 16 = .ok (.aload_n 3, 1) := dk_45 (dk_at dksX11_init_0 16 rfl rfl)
theorem dX11_init_17 : decode cX11_init 17 = .ok (.putfield 19, 3) := dk_181 0 19 (dk_at dksX11_init_0 17 rfl rfl)
theorem dX11_init_20 : decode cX11_init 20 = .ok (.return_, 1) := dk_177 (dk_at dksX11_init_0 20 rfl rfl)
abbrev cX11_many : ByteArray := prog_14_method_2_code
def yX11_many : MethodName := ⟨RX11, "many", "()I"⟩
def dkwX11_many_2 : List UInt8 := [180, 0, 15, 27, 104, 184, 0, 36, 172]
abbrev dktX11_many_2 : List UInt8 := dkwX11_many_2 ++ []
def dkwX11_many_1 : List UInt8 := [182, 0, 29, 192, 0, 10, 182, 0, 33, 96, 184, 0, 36, 60, 132, 2, 1, 167, 255, 219, 17, 3, 232, 42]
abbrev dktX11_many_1 : List UInt8 := dkwX11_many_1 ++ dktX11_many_2
def dkwX11_many_0 : List UInt8 := [3, 60, 3, 61, 28, 42, 180, 0, 19, 182, 0, 23, 162, 0, 32, 17, 3, 232, 27, 42, 180, 0, 19, 28]
abbrev dktX11_many_0 : List UInt8 := dkwX11_many_0 ++ dktX11_many_1
theorem dksX11_many_0 : cX11_many.data.toList.drop 0 = dktX11_many_0 := by decide +kernel
theorem dksX11_many_1 : cX11_many.data.toList.drop 24 = dktX11_many_1 := dk_seg dksX11_many_0 24 rfl rfl
theorem dksX11_many_2 : cX11_many.data.toList.drop 48 = dktX11_many_2 := dk_seg dksX11_many_1 24 rfl rfl
theorem dX11_many_0 : decode cX11_many 0 = .ok (.iconst 0, 1) := dk_3 (dk_at dksX11_many_0 0 rfl rfl)
theorem dX11_many_1 : decode cX11_many 1 = .ok (.istore_n 1, 1) := dk_60 (dk_at dksX11_many_0 1 rfl rfl)
theorem dX11_many_2 : decode cX11_many 2 = .ok (.iconst 0, 1) := dk_3 (dk_at dksX11_many_0 2 rfl rfl)
theorem dX11_many_3 : decode cX11_many 3 = .ok (.istore_n 2, 1) := dk_61 (dk_at dksX11_many_0 3 rfl rfl)
theorem dX11_many_4 : decode cX11_many 4 = .ok (.iload_n 2, 1) := dk_28 (dk_at dksX11_many_0 4 rfl rfl)
theorem dX11_many_5 : decode cX11_many 5 = .ok (.aload_n 0, 1) := dk_42 (dk_at dksX11_many_0 5 rfl rfl)
theorem dX11_many_6 : decode cX11_many 6 = .ok (.getfield 19, 3) := dk_180 0 19 (dk_at dksX11_many_0 6 rfl rfl)
theorem dX11_many_9 : decode cX11_many 9 = .ok (.invokevirtual 23, 3) := dk_182 0 23 (dk_at dksX11_many_0 9 rfl rfl)
theorem dX11_many_12 : decode cX11_many 12 = .ok (.if_icmp .ge 32, 3) := dk_162 0 32 (dk_at dksX11_many_0 12 rfl rfl)
theorem dX11_many_15 : decode cX11_many 15 = .ok (.sipush 1000, 3) := dk_17 3 232 (dk_at dksX11_many_0 15 rfl rfl)
theorem dX11_many_18 : decode cX11_many 18 = .ok (.iload_n 1, 1) := dk_27 (dk_at dksX11_many_0 18 rfl rfl)
theorem dX11_many_19 : decode cX11_many 19 = .ok (.aload_n 0, 1) := dk_42 (dk_at dksX11_many_0 19 rfl rfl)
theorem dX11_many_20 : decode cX11_many 20 = .ok (.getfield 19, 3) := dk_180 0 19 (dk_at dksX11_many_0 20 rfl rfl)
theorem dX11_many_23 : decode cX11_many 23 = .ok (.iload_n 2, 1) := dk_28 (dk_at dksX11_many_0 23 rfl rfl)
theorem dX11_many_24 : decode cX11_many 24 = .ok (.invokevirtual 29, 3) := dk_182 0 29 (dk_at dksX11_many_1 0 rfl rfl)
theorem dX11_many_27 : decode cX11_many 27 = .ok (.checkcast 10, 3) := dk_192 0 10 (dk_at dksX11_many_1 3 rfl rfl)
theorem dX11_many_30 : decode cX11_many 30 = .ok (.invokevirtual 33, 3) := dk_182 0 33 (dk_at dksX11_many_1 6 rfl rfl)
theorem dX11_many_33 : decode cX11_many 33 = .ok (.iadd, 1) := dk_96 (dk_at dksX11_many_1 9 rfl rfl)
theorem dX11_many_34 : decode cX11_many 34 = .ok (.invokestatic 36, 3) := dk_184 0 36 (dk_at dksX11_many_1 10 rfl rfl)
theorem dX11_many_37 : decode cX11_many 37 = .ok (.istore_n 1, 1) := dk_60 (dk_at dksX11_many_1 13 rfl rfl)
theorem dX11_many_38 : decode cX11_many 38 = .ok (.iinc 2 1, 3) := dk_132 2 1 (dk_at dksX11_many_1 14 rfl rfl)
theorem dX11_many_41 : decode cX11_many 41 = .ok (.goto (-37), 3) := dk_167 255 219 (dk_at dksX11_many_1 17 rfl rfl)
theorem dX11_many_44 : decode cX11_many 44 = .ok (.sipush 1000, 3) := dk_17 3 232 (dk_at dksX11_many_1 20 rfl rfl)
theorem dX11_many_47 : decode cX11_many 47 = .ok (.aload_n 0, 1) := dk_42 (dk_at dksX11_many_1 23 rfl rfl)
theorem dX11_many_48 : decode cX11_many 48 = .ok (.getfield 15, 3) := dk_180 0 15 (dk_at dksX11_many_2 0 rfl rfl)
theorem dX11_many_51 : decode cX11_many 51 = .ok (.iload_n 1, 1) := dk_27 (dk_at dksX11_many_2 3 rfl rfl)
theorem dX11_many_52 : decode cX11_many 52 = .ok (.imul, 1) := dk_104 (dk_at dksX11_many_2 4 rfl rfl)
theorem dX11_many_53 : decode cX11_many 53 = .ok (.invokestatic 36, 3) := dk_184 0 36 (dk_at dksX11_many_2 5 rfl rfl)
theorem dX11_many_56 : decode cX11_many 56 = .ok (.ireturn, 1) := dk_172 (dk_at dksX11_many_2 8 rfl rfl)
abbrev cX11_gives : ByteArray := prog_14_method_3_code
def yX11_gives : MethodName := ⟨RX11, "gives", "()V"⟩
def dkwX11_gives_2 : List UInt8 := [192, 0, 10, 182, 0, 42, 132, 2, 1, 167, 255, 211, 132, 1, 1, 167, 255, 195, 177]
abbrev dktX11_gives_2 : List UInt8 := dkwX11_gives_2 ++ []
def dkwX11_gives_1 : List UInt8 := [180, 0, 19, 28, 182, 0, 29, 192, 0, 10, 182, 0, 33, 158, 0, 17, 42, 180, 0, 19, 28, 182, 0, 29]
abbrev dktX11_gives_1 : List UInt8 := dkwX11_gives_1 ++ dktX11_gives_2
def dkwX11_gives_0 : List UInt8 := [3, 60, 27, 42, 180, 0, 15, 162, 0, 59, 3, 61, 28, 42, 180, 0, 19, 182, 0, 23, 162, 0, 40, 42]
abbrev dktX11_gives_0 : List UInt8 := dkwX11_gives_0 ++ dktX11_gives_1
theorem dksX11_gives_0 : cX11_gives.data.toList.drop 0 = dktX11_gives_0 := by decide +kernel
theorem dksX11_gives_1 : cX11_gives.data.toList.drop 24 = dktX11_gives_1 := dk_seg dksX11_gives_0 24 rfl rfl
theorem dksX11_gives_2 : cX11_gives.data.toList.drop 48 = dktX11_gives_2 := dk_seg dksX11_gives_1 24 rfl rfl
theorem dX11_gives_0 : decode cX11_gives 0 = .ok (.iconst 0, 1) := dk_3 (dk_at dksX11_gives_0 0 rfl rfl)
theorem dX11_gives_1 : decode cX11_gives 1 = .ok (.istore_n 1, 1) := dk_60 (dk_at dksX11_gives_0 1 rfl rfl)
theorem dX11_gives_2 : decode cX11_gives 2 = .ok (.iload_n 1, 1) := dk_27 (dk_at dksX11_gives_0 2 rfl rfl)
theorem dX11_gives_3 : decode cX11_gives 3 = .ok (.aload_n 0, 1) := dk_42 (dk_at dksX11_gives_0 3 rfl rfl)
theorem dX11_gives_4 : decode cX11_gives 4 = .ok (.getfield 15, 3) := dk_180 0 15 (dk_at dksX11_gives_0 4 rfl rfl)
theorem dX11_gives_7 : decode cX11_gives 7 = .ok (.if_icmp .ge 59, 3) := dk_162 0 59 (dk_at dksX11_gives_0 7 rfl rfl)
theorem dX11_gives_10 : decode cX11_gives 10 = .ok (.iconst 0, 1) := dk_3 (dk_at dksX11_gives_0 10 rfl rfl)
theorem dX11_gives_11 : decode cX11_gives 11 = .ok (.istore_n 2, 1) := dk_61 (dk_at dksX11_gives_0 11 rfl rfl)
theorem dX11_gives_12 : decode cX11_gives 12 = .ok (.iload_n 2, 1) := dk_28 (dk_at dksX11_gives_0 12 rfl rfl)
theorem dX11_gives_13 : decode cX11_gives 13 = .ok (.aload_n 0, 1) := dk_42 (dk_at dksX11_gives_0 13 rfl rfl)
theorem dX11_gives_14 : decode cX11_gives 14 = .ok (.getfield 19, 3) := dk_180 0 19 (dk_at dksX11_gives_0 14 rfl rfl)
theorem dX11_gives_17 : decode cX11_gives 17 = .ok (.invokevirtual 23, 3) := dk_182 0 23 (dk_at dksX11_gives_0 17 rfl rfl)
theorem dX11_gives_20 : decode cX11_gives 20 = .ok (.if_icmp .ge 40, 3) := dk_162 0 40 (dk_at dksX11_gives_0 20 rfl rfl)
theorem dX11_gives_23 : decode cX11_gives 23 = .ok (.aload_n 0, 1) := dk_42 (dk_at dksX11_gives_0 23 rfl rfl)
theorem dX11_gives_24 : decode cX11_gives 24 = .ok (.getfield 19, 3) := dk_180 0 19 (dk_at dksX11_gives_1 0 rfl rfl)
theorem dX11_gives_27 : decode cX11_gives 27 = .ok (.iload_n 2, 1) := dk_28 (dk_at dksX11_gives_1 3 rfl rfl)
theorem dX11_gives_28 : decode cX11_gives 28 = .ok (.invokevirtual 29, 3) := dk_182 0 29 (dk_at dksX11_gives_1 4 rfl rfl)
theorem dX11_gives_31 : decode cX11_gives 31 = .ok (.checkcast 10, 3) := dk_192 0 10 (dk_at dksX11_gives_1 7 rfl rfl)
theorem dX11_gives_34 : decode cX11_gives 34 = .ok (.invokevirtual 33, 3) := dk_182 0 33 (dk_at dksX11_gives_1 10 rfl rfl)
theorem dX11_gives_37 : decode cX11_gives 37 = .ok (.ifCond .le 17, 3) := dk_158 0 17 (dk_at dksX11_gives_1 13 rfl rfl)
theorem dX11_gives_40 : decode cX11_gives 40 = .ok (.aload_n 0, 1) := dk_42 (dk_at dksX11_gives_1 16 rfl rfl)
theorem dX11_gives_41 : decode cX11_gives 41 = .ok (.getfield 19, 3) := dk_180 0 19 (dk_at dksX11_gives_1 17 rfl rfl)
theorem dX11_gives_44 : decode cX11_gives 44 = .ok (.iload_n 2, 1) := dk_28 (dk_at dksX11_gives_1 20 rfl rfl)
theorem dX11_gives_45 : decode cX11_gives 45 = .ok (.invokevirtual 29, 3) := dk_182 0 29 (dk_at dksX11_gives_1 21 rfl rfl)
theorem dX11_gives_48 : decode cX11_gives 48 = .ok (.checkcast 10, 3) := dk_192 0 10 (dk_at dksX11_gives_2 0 rfl rfl)
theorem dX11_gives_51 : decode cX11_gives 51 = .ok (.invokevirtual 42, 3) := dk_182 0 42 (dk_at dksX11_gives_2 3 rfl rfl)
theorem dX11_gives_54 : decode cX11_gives 54 = .ok (.iinc 2 1, 3) := dk_132 2 1 (dk_at dksX11_gives_2 6 rfl rfl)
theorem dX11_gives_57 : decode cX11_gives 57 = .ok (.goto (-45), 3) := dk_167 255 211 (dk_at dksX11_gives_2 9 rfl rfl)
theorem dX11_gives_60 : decode cX11_gives 60 = .ok (.iinc 1 1, 3) := dk_132 1 1 (dk_at dksX11_gives_2 12 rfl rfl)
theorem dX11_gives_63 : decode cX11_gives 63 = .ok (.goto (-61), 3) := dk_167 255 195 (dk_at dksX11_gives_2 15 rfl rfl)
theorem dX11_gives_66 : decode cX11_gives 66 = .ok (.return_, 1) := dk_177 (dk_at dksX11_gives_2 18 rfl rfl)
theorem q77 : (Jvm.Cond.initialized "LightPlate$Times") ∈ lw_all := lw_g (lw_at lw_m1 18 rfl) rfl
theorem q616 : (Jvm.Cond.instantiable "LightPlate$Times" (4 : Nat)) ∈ lw_all := lw_g (lw_at lw_m3 77 rfl) rfl
theorem q711 : (Jvm.Cond.instanceMethod ({ cls := "LightPlate$Times", name := "<init>", desc := "(LLightPlate;ILjava/util/ArrayList;)V" } : Jvm.MethodName)) ∈ lw_all := lw_g (lw_at lw_m3 172 rfl) rfl
theorem q712 : (Jvm.Cond.code ({ cls := "LightPlate$Times", name := "<init>", desc := "(LLightPlate;ILjava/util/ArrayList;)V" } : Jvm.MethodName) prog_14_method_1_code (4 : Nat) (Option.none : Option Jvm.ClassFile.FieldType)) ∈ lw_all := lw_g (lw_at lw_m3 173 rfl) rfl
theorem q713 : (Jvm.Cond.methodLinkNest "LightPlate$Times" (9 : Nat) ({ cls := "LightPlate$Node", name := "<init>", desc := "(LLightPlate;)V" } : Jvm.MethodName) "LightPlate") ∈ lw_tbl := lw_at lw_m3 174 rfl
theorem q717 : (Jvm.Cond.fieldLink "LightPlate$Times" (15 : Nat) "LightPlate$Times" "times" "I") ∈ lw_all := lw_g (lw_at lw_m3 178 rfl) rfl
theorem q718 : (Jvm.Cond.fieldLink "LightPlate$Times" (19 : Nat) "LightPlate$Times" "of" "Ljava/util/ArrayList;") ∈ lw_all := lw_g (lw_at lw_m3 179 rfl) rfl
theorem q719 : (Jvm.Cond.fieldLink "LightPlate$Times" (3 : Nat) "LightPlate$Times" "this$0" "LLightPlate;") ∈ lw_all := lw_g (lw_at lw_m3 180 rfl) rfl
theorem q721 : (Jvm.Cond.laysFinal "LightPlate$Times" "LightPlate$Times" "times" "I") ∈ lw_all := lw_g (lw_at lw_m3 182 rfl) rfl
theorem q722 : (Jvm.Cond.soleField "LightPlate$Times" "times") ∈ lw_all := lw_g (lw_at lw_m3 183 rfl) rfl
theorem q723 : (Jvm.Cond.laysFinal "LightPlate$Times" "LightPlate$Times" "of" "Ljava/util/ArrayList;") ∈ lw_all := lw_g (lw_at lw_m3 184 rfl) rfl
theorem q724 : (Jvm.Cond.soleField "LightPlate$Times" "of") ∈ lw_all := lw_g (lw_at lw_m3 185 rfl) rfl
theorem q725 : (Jvm.Cond.laysFinal "LightPlate$Times" "LightPlate$Times" "this$0" "LLightPlate;") ∈ lw_all := lw_g (lw_at lw_m3 186 rfl) rfl
theorem q726 : (Jvm.Cond.soleField "LightPlate$Times" "this$0") ∈ lw_all := lw_g (lw_at lw_m3 187 rfl) rfl
theorem q727 : (Jvm.Cond.laysFinal "LightPlate$Times" "LightPlate$Node" "this$0" "LLightPlate;") ∈ lw_all := lw_g (lw_at lw_m3 188 rfl) rfl
theorem q729 : (Jvm.Cond.superclass "LightPlate$Times" "LightPlate$Node") ∈ lw_all := lw_g (lw_at lw_m3 190 rfl) rfl
theorem q827 : (Jvm.Cond.selects "LightPlate$Times" ({ cls := "java/lang/Object", name := "getClass", desc := "()Ljava/lang/Class;" } : Jvm.MethodName) ({ cls := "java/lang/Object", name := "getClass", desc := "()Ljava/lang/Class;" } : Jvm.MethodName)) ∈ lw_all := lw_g (lw_at lw_m4 48 rfl) rfl
theorem q851 : (Jvm.Cond.selects "LightPlate$Times" ({ cls := "LightPlate$Node", name := "many", desc := "()I" } : Jvm.MethodName) ({ cls := "LightPlate$Times", name := "many", desc := "()I" } : Jvm.MethodName)) ∈ lw_all := lw_g (lw_at lw_m4 72 rfl) rfl
theorem q852 : (Jvm.Cond.instanceMethod ({ cls := "LightPlate$Times", name := "many", desc := "()I" } : Jvm.MethodName)) ∈ lw_all := lw_g (lw_at lw_m4 73 rfl) rfl
theorem q853 : (Jvm.Cond.code ({ cls := "LightPlate$Times", name := "many", desc := "()I" } : Jvm.MethodName) prog_14_method_2_code (3 : Nat) (Option.some Jvm.ClassFile.FieldType.int)) ∈ lw_all := lw_g (lw_at lw_m4 74 rfl) rfl
theorem q854 : (Jvm.Cond.methodLink "LightPlate$Times" (23 : Nat) ({ cls := "java/util/ArrayList", name := "size", desc := "()I" } : Jvm.MethodName)) ∈ lw_all := lw_g (lw_at lw_m4 75 rfl) rfl
theorem q855 : (Jvm.Cond.methodLink "LightPlate$Times" (29 : Nat) ({ cls := "java/util/ArrayList", name := "get", desc := "(I)Ljava/lang/Object;" } : Jvm.MethodName)) ∈ lw_all := lw_g (lw_at lw_m4 76 rfl) rfl
theorem q856 : (Jvm.Cond.classLink "LightPlate$Times" (10 : Nat) "LightPlate$Node") ∈ lw_all := lw_g (lw_at lw_m4 77 rfl) rfl
theorem q857 : (Jvm.Cond.methodLink "LightPlate$Times" (33 : Nat) ({ cls := "LightPlate$Node", name := "many", desc := "()I" } : Jvm.MethodName)) ∈ lw_all := lw_g (lw_at lw_m4 78 rfl) rfl
theorem q858 : (Jvm.Cond.methodLink "LightPlate$Times" (36 : Nat) ({ cls := "java/lang/Math", name := "min", desc := "(II)I" } : Jvm.MethodName)) ∈ lw_all := lw_g (lw_at lw_m4 79 rfl) rfl
theorem q883 : (Jvm.Cond.selects "LightPlate$Times" ({ cls := "LightPlate$Node", name := "gives", desc := "()V" } : Jvm.MethodName) ({ cls := "LightPlate$Times", name := "gives", desc := "()V" } : Jvm.MethodName)) ∈ lw_all := lw_g (lw_at lw_m4 104 rfl) rfl
theorem q884 : (Jvm.Cond.instanceMethod ({ cls := "LightPlate$Times", name := "gives", desc := "()V" } : Jvm.MethodName)) ∈ lw_all := lw_g (lw_at lw_m4 105 rfl) rfl
theorem q885 : (Jvm.Cond.code ({ cls := "LightPlate$Times", name := "gives", desc := "()V" } : Jvm.MethodName) prog_14_method_3_code (3 : Nat) (Option.none : Option Jvm.ClassFile.FieldType)) ∈ lw_all := lw_g (lw_at lw_m4 106 rfl) rfl
theorem q886 : (Jvm.Cond.methodLink "LightPlate$Times" (42 : Nat) ({ cls := "LightPlate$Node", name := "gives", desc := "()V" } : Jvm.MethodName)) ∈ lw_all := lw_g (lw_at lw_m4 107 rfl) rfl
theorem q1484 : (Jvm.Cond.castable "LightPlate$Times" "LightPlate$Node") ∈ lw_tbl := lw_at lw_m6 225 rfl
theorem q1496 : (Jvm.Cond.castable "LightPlate$Times" "java/lang/Object") ∈ lw_tbl := lw_at lw_m6 237 rfl
theorem in_X11 : ∀ w ∈ wsX110, w ∈ lw_all := lw_in wsX110 [727, 721, 723, 725] (by decide +kernel) (by decide +kernel)
/-! LightPlate$Wrong -/
set_option maxRecDepth 100000
def RX12 : String := "LightPlate$Wrong"
def TX12 : u_T := fun k => match k with
  | 0 => ("java/lang/Throwable", "cause", "Ljava/lang/Throwable;", false)
  | 1 => ("java/lang/Throwable", "stackTrace", "[Ljava/lang/StackTraceElement;", false)
  | 2 => ("java/lang/Throwable", "suppressedExceptions", "Ljava/util/List;", false)
  | 3 => ("java/lang/Throwable", "detailMessage", "Ljava/lang/String;", false)
  | 4 => ("java/lang/Throwable", "backtrace", "Ljava/lang/Object;", false)
  | 5 => ("java/lang/Throwable", "depth", "I", false)
  | 6 => ("LightPlate$Wrong", "kind", "I", true)
  | _ => ("LightPlate$Wrong", "place", "I", true)
def tyX12 : Nat → FieldType := fun k => match k with
  | 0 => .object "java/lang/Throwable"
  | 1 => .array (.object "java/lang/StackTraceElement")
  | 2 => .object "java/util/List"
  | 3 => .object "java/lang/String"
  | 4 => .object "java/lang/Object"
  | 5 => .int
  | 6 => .int
  | _ => .int
abbrev wsX120 : List Cond := u_ws RX12 TX12 8
theorem nmX12 : ∀ a, a < 8 → ∀ b, b < 8 → a ≠ b → (TX12 a).2.1 ≠ (TX12 b).2.1 := by decide +kernel
theorem tyX12_ok : ∀ k, k < 8 → parseFieldDescriptor (TX12 k).2.2.1 = some (tyX12 k) := by decide +kernel
abbrev cX12_init : ByteArray := prog_17_method_1_code
def yX12_init : MethodName := ⟨RX12, "<init>", "(II)V"⟩
def dkwX12_init_0 : List UInt8 := [42, 1, 1, 3, 3, 183, 0, 1, 42, 27, 181, 0, 7, 42, 28, 181, 0, 13, 177]
abbrev dktX12_init_0 : List UInt8 := dkwX12_init_0 ++ []
theorem dksX12_init_0 : cX12_init.data.toList.drop 0 = dktX12_init_0 := by decide +kernel
theorem dX12_init_0 : decode cX12_init 0 = .ok (.aload_n 0, 1) := dk_42 (dk_at dksX12_init_0 0 rfl rfl)
theorem dX12_init_1 : decode cX12_init 1 = .ok (.aconst_null, 1) := dk_1 (dk_at dksX12_init_0 1 rfl rfl)
theorem dX12_init_2 : decode cX12_init 2 = .ok (.aconst_null, 1) := dk_1 (dk_at dksX12_init_0 2 rfl rfl)
theorem dX12_init_3 : decode cX12_init 3 = .ok (.iconst 0, 1) := dk_3 (dk_at dksX12_init_0 3 rfl rfl)
theorem dX12_init_4 : decode cX12_init 4 = .ok (.iconst 0, 1) := dk_3 (dk_at dksX12_init_0 4 rfl rfl)
theorem dX12_init_5 : decode cX12_init 5 = .ok (.invokespecial 1, 3) := dk_183 0 1 (dk_at dksX12_init_0 5 rfl rfl)
theorem dX12_init_8 : decode cX12_init 8 = .ok (.aload_n 0, 1) := dk_42 (dk_at dksX12_init_0 8 rfl rfl)
theorem dX12_init_9 : decode cX12_init 9 = .ok (.iload_n 1, 1) := dk_27 (dk_at dksX12_init_0 9 rfl rfl)
theorem dX12_init_10 : decode cX12_init 10 = .ok (.putfield 7, 3) := dk_181 0 7 (dk_at dksX12_init_0 10 rfl rfl)
theorem dX12_init_13 : decode cX12_init 13 = .ok (.aload_n 0, 1) := dk_42 (dk_at dksX12_init_0 13 rfl rfl)
theorem dX12_init_14 : decode cX12_init 14 = .ok (.iload_n 2, 1) := dk_28 (dk_at dksX12_init_0 14 rfl rfl)
theorem dX12_init_15 : decode cX12_init 15 = .ok (.putfield 13, 3) := dk_181 0 13 (dk_at dksX12_init_0 15 rfl rfl)
theorem dX12_init_18 : decode cX12_init 18 = .ok (.return_, 1) := dk_177 (dk_at dksX12_init_0 18 rfl rfl)
theorem q80 : (Jvm.Cond.initialized "LightPlate$Wrong") ∈ lw_all := lw_g (lw_at lw_m1 21 rfl) rfl
theorem q632 : (Jvm.Cond.instantiable "LightPlate$Wrong" (8 : Nat)) ∈ lw_all := lw_g (lw_at lw_m3 93 rfl) rfl
theorem q633 : (Jvm.Cond.castable "LightPlate$Wrong" "LightPlate$Wrong") ∈ lw_tbl := lw_at lw_m3 94 rfl
theorem q638 : (Jvm.Cond.selects "LightPlate$Wrong" ({ cls := "java/lang/Throwable", name := "fillInStackTrace", desc := "(I)Ljava/lang/Throwable;" } : Jvm.MethodName) ({ cls := "java/lang/Throwable", name := "fillInStackTrace", desc := "(I)Ljava/lang/Throwable;" } : Jvm.MethodName)) ∈ lw_all := lw_g (lw_at lw_m3 99 rfl) rfl
theorem q639 : (Jvm.Cond.selects "LightPlate$Wrong" ({ cls := "java/lang/Throwable", name := "fillInStackTrace", desc := "()Ljava/lang/Throwable;" } : Jvm.MethodName) ({ cls := "java/lang/Throwable", name := "fillInStackTrace", desc := "()Ljava/lang/Throwable;" } : Jvm.MethodName)) ∈ lw_all := lw_g (lw_at lw_m3 100 rfl) rfl
theorem q640 : (Jvm.Cond.lays "LightPlate$Wrong" "java/lang/Throwable" "cause" "Ljava/lang/Throwable;") ∈ lw_all := lw_g (lw_at lw_m3 101 rfl) rfl
theorem q642 : (Jvm.Cond.lays "LightPlate$Wrong" "java/lang/Throwable" "stackTrace" "[Ljava/lang/StackTraceElement;") ∈ lw_all := lw_g (lw_at lw_m3 103 rfl) rfl
theorem q644 : (Jvm.Cond.lays "LightPlate$Wrong" "java/lang/Throwable" "suppressedExceptions" "Ljava/util/List;") ∈ lw_all := lw_g (lw_at lw_m3 105 rfl) rfl
theorem q646 : (Jvm.Cond.lays "LightPlate$Wrong" "java/lang/Throwable" "detailMessage" "Ljava/lang/String;") ∈ lw_all := lw_g (lw_at lw_m3 107 rfl) rfl
theorem q648 : (Jvm.Cond.lays "LightPlate$Wrong" "java/lang/Throwable" "backtrace" "Ljava/lang/Object;") ∈ lw_all := lw_g (lw_at lw_m3 109 rfl) rfl
theorem q669 : (Jvm.Cond.instanceMethod ({ cls := "LightPlate$Wrong", name := "<init>", desc := "(II)V" } : Jvm.MethodName)) ∈ lw_all := lw_g (lw_at lw_m3 130 rfl) rfl
theorem q670 : (Jvm.Cond.code ({ cls := "LightPlate$Wrong", name := "<init>", desc := "(II)V" } : Jvm.MethodName) prog_17_method_1_code (3 : Nat) (Option.none : Option Jvm.ClassFile.FieldType)) ∈ lw_all := lw_g (lw_at lw_m3 131 rfl) rfl
theorem q671 : (Jvm.Cond.methodLink "LightPlate$Wrong" (1 : Nat) ({ cls := "java/lang/Exception", name := "<init>", desc := "(Ljava/lang/String;Ljava/lang/Throwable;ZZ)V" } : Jvm.MethodName)) ∈ lw_all := lw_g (lw_at lw_m3 132 rfl) rfl
theorem q677 : (Jvm.Cond.fieldLink "LightPlate$Wrong" (7 : Nat) "LightPlate$Wrong" "kind" "I") ∈ lw_all := lw_g (lw_at lw_m3 138 rfl) rfl
theorem q679 : (Jvm.Cond.fieldLink "LightPlate$Wrong" (13 : Nat) "LightPlate$Wrong" "place" "I") ∈ lw_all := lw_g (lw_at lw_m3 140 rfl) rfl
theorem q686 : (Jvm.Cond.laysFinal "LightPlate$Wrong" "LightPlate$Wrong" "kind" "I") ∈ lw_all := lw_g (lw_at lw_m3 147 rfl) rfl
theorem q687 : (Jvm.Cond.soleField "LightPlate$Wrong" "kind") ∈ lw_all := lw_g (lw_at lw_m3 148 rfl) rfl
theorem q688 : (Jvm.Cond.laysFinal "LightPlate$Wrong" "LightPlate$Wrong" "place" "I") ∈ lw_all := lw_g (lw_at lw_m3 149 rfl) rfl
theorem q689 : (Jvm.Cond.soleField "LightPlate$Wrong" "place") ∈ lw_all := lw_g (lw_at lw_m3 150 rfl) rfl
theorem q694 : (Jvm.Cond.lays "LightPlate$Wrong" "java/lang/Throwable" "depth" "I") ∈ lw_all := lw_g (lw_at lw_m3 155 rfl) rfl
theorem q697 : (Jvm.Cond.superclass "LightPlate$Wrong" "java/lang/Exception") ∈ lw_all := lw_g (lw_at lw_m3 158 rfl) rfl
theorem q830 : (Jvm.Cond.selects "LightPlate$Wrong" ({ cls := "java/lang/Object", name := "getClass", desc := "()Ljava/lang/Class;" } : Jvm.MethodName) ({ cls := "java/lang/Object", name := "getClass", desc := "()Ljava/lang/Class;" } : Jvm.MethodName)) ∈ lw_all := lw_g (lw_at lw_m4 51 rfl) rfl
theorem q1497 : (Jvm.Cond.castable "LightPlate$Wrong" "java/lang/Object") ∈ lw_tbl := lw_at lw_m6 238 rfl
theorem in_X12 : ∀ w ∈ wsX120, w ∈ lw_all := lw_in wsX120 [640, 642, 644, 646, 648, 694, 686, 688] (by decide +kernel) (by decide +kernel)
/-! LightPlate$Turning -/
set_option maxRecDepth 100000
def RX13 : String := "LightPlate$Turning"
def TX13 : u_T := fun k => match k with
  | 0 => ("LightPlate$Node", "this$0", "LLightPlate;", true)
  | 1 => ("LightPlate$Turning", "lane", "I", true)
  | 2 => ("LightPlate$Turning", "by", "I", true)
  | _ => ("LightPlate$Turning", "this$0", "LLightPlate;", true)
def tyX13 : Nat → FieldType := fun k => match k with
  | 0 => .object "LightPlate"
  | 1 => .int
  | 2 => .int
  | _ => .object "LightPlate"
abbrev wsX130 : List Cond := u_ws RX13 TX13 4
-- two fields of one name: no nmX13
theorem tyX13_ok : ∀ k, k < 4 → parseFieldDescriptor (TX13 k).2.2.1 = some (tyX13 k) := by decide +kernel
abbrev cX13_init : ByteArray := prog_16_method_1_code
def yX13_init : MethodName := ⟨RX13, "<init>", "(LLightPlate;II)V"⟩
def dkwX13_init_0 : List UInt8 := [42, 43, 181, 0, 1, 42, 43, 183, 0, 7, 42, 28, 181, 0, 13, 42, 29, 181, 0, 17, 177]
abbrev dktX13_init_0 : List UInt8 := dkwX13_init_0 ++ []
theorem dksX13_init_0 : cX13_init.data.toList.drop 0 = dktX13_init_0 := by decide +kernel
theorem dX13_init_0 : decode cX13_init 0 = .ok (.aload_n 0, 1) := dk_42 (dk_at dksX13_init_0 0 rfl rfl)
theorem dX13_init_1 : decode cX13_init 1 = .ok (.aload_n 1, 1) := dk_43 (dk_at dksX13_init_0 1 rfl rfl)
theorem dX13_init_2 : decode cX13_init 2 = .ok (.putfield 1, 3) := dk_181 0 1 (dk_at dksX13_init_0 2 rfl rfl)
theorem dX13_init_5 : decode cX13_init 5 = .ok (.aload_n 0, 1) := dk_42 (dk_at dksX13_init_0 5 rfl rfl)
theorem dX13_init_6 : decode cX13_init 6 = .ok (.aload_n 1, 1) := dk_43 (dk_at dksX13_init_0 6 rfl rfl)
theorem dX13_init_7 : decode cX13_init 7 = .ok (.invokespecial 7, 3) := dk_183 0 7 (dk_at dksX13_init_0 7 rfl rfl)
theorem dX13_init_10 : decode cX13_init 10 = .ok (.aload_n 0, 1) := dk_42 (dk_at dksX13_init_0 10 rfl rfl)
theorem dX13_init_11 : decode cX13_init 11 = .ok (.iload_n 2, 1) := dk_28 (dk_at dksX13_init_0 11 rfl rfl)
theorem dX13_init_12 : decode cX13_init 12 = .ok (.putfield 13, 3) := dk_181 0 13 (dk_at dksX13_init_0 12 rfl rfl)
theorem dX13_init_15 : decode cX13_init 15 = .ok (.aload_n 0, 1) := dk_42 (dk_at dksX13_init_0 15 rfl rfl)
theorem dX13_init_16 : decode cX13_init 16 = .ok (.iload_n 3, 1) := dk_29 (dk_at dksX13_init_0 16 rfl rfl)
theorem dX13_init_17 : decode cX13_init 17 = .ok (.putfield 17, 3) := dk_181 0 17 (dk_at dksX13_init_0 17 rfl rfl)
theorem dX13_init_20 : decode cX13_init 20 = .ok (.return_, 1) := dk_177 (dk_at dksX13_init_0 20 rfl rfl)
abbrev cX13_many : ByteArray := prog_16_method_3_code
def yX13_many : MethodName := ⟨RX13, "many", "()I"⟩
theorem dX13_many_0 : decode cX13_many 0 = .ok (.iconst 1, 1) := by decide +kernel
theorem dX13_many_1 : decode cX13_many 1 = .ok (.ireturn, 1) := by decide +kernel
abbrev cX13_gives : ByteArray := prog_16_method_4_code
def yX13_gives : MethodName := ⟨RX13, "gives", "()V"⟩
def dkwX13_gives_0 : List UInt8 := [42, 180, 0, 1, 42, 180, 0, 13, 42, 182, 0, 20, 182, 0, 24, 177]
abbrev dktX13_gives_0 : List UInt8 := dkwX13_gives_0 ++ []
theorem dksX13_gives_0 : cX13_gives.data.toList.drop 0 = dktX13_gives_0 := by decide +kernel
theorem dX13_gives_0 : decode cX13_gives 0 = .ok (.aload_n 0, 1) := dk_42 (dk_at dksX13_gives_0 0 rfl rfl)
theorem dX13_gives_1 : decode cX13_gives 1 = .ok (.getfield 1, 3) := dk_180 0 1 (dk_at dksX13_gives_0 1 rfl rfl)
theorem dX13_gives_4 : decode cX13_gives 4 = .ok (.aload_n 0, 1) := dk_42 (dk_at dksX13_gives_0 4 rfl rfl)
theorem dX13_gives_5 : decode cX13_gives 5 = .ok (.getfield 13, 3) := dk_180 0 13 (dk_at dksX13_gives_0 5 rfl rfl)
theorem dX13_gives_8 : decode cX13_gives 8 = .ok (.aload_n 0, 1) := dk_42 (dk_at dksX13_gives_0 8 rfl rfl)
theorem dX13_gives_9 : decode cX13_gives 9 = .ok (.invokevirtual 20, 3) := dk_182 0 20 (dk_at dksX13_gives_0 9 rfl rfl)
theorem dX13_gives_12 : decode cX13_gives 12 = .ok (.invokevirtual 24, 3) := dk_182 0 24 (dk_at dksX13_gives_0 12 rfl rfl)
theorem dX13_gives_15 : decode cX13_gives 15 = .ok (.return_, 1) := dk_177 (dk_at dksX13_gives_0 15 rfl rfl)
abbrev cX13_turn : ByteArray := prog_16_method_2_code
def yX13_turn : MethodName := ⟨RX13, "turn", "()I"⟩
theorem dX13_turn_0 : decode cX13_turn 0 = .ok (.aload_n 0, 1) := by decide +kernel
theorem dX13_turn_1 : decode cX13_turn 1 = .ok (.getfield 17, 3) := by decide +kernel
theorem dX13_turn_4 : decode cX13_turn 4 = .ok (.ireturn, 1) := by decide +kernel
theorem q81 : (Jvm.Cond.initialized "LightPlate$Turning") ∈ lw_all := lw_g (lw_at lw_m1 22 rfl) rfl
theorem q747 : (Jvm.Cond.instanceMethod ({ cls := "LightPlate$Turning", name := "<init>", desc := "(LLightPlate;II)V" } : Jvm.MethodName)) ∈ lw_all := lw_g (lw_at lw_m3 208 rfl) rfl
theorem q748 : (Jvm.Cond.code ({ cls := "LightPlate$Turning", name := "<init>", desc := "(LLightPlate;II)V" } : Jvm.MethodName) prog_16_method_1_code (4 : Nat) (Option.none : Option Jvm.ClassFile.FieldType)) ∈ lw_all := lw_g (lw_at lw_m3 209 rfl) rfl
theorem q749 : (Jvm.Cond.methodLinkNest "LightPlate$Turning" (7 : Nat) ({ cls := "LightPlate$Node", name := "<init>", desc := "(LLightPlate;)V" } : Jvm.MethodName) "LightPlate") ∈ lw_tbl := lw_at lw_m3 210 rfl
theorem q752 : (Jvm.Cond.fieldLink "LightPlate$Turning" (13 : Nat) "LightPlate$Turning" "lane" "I") ∈ lw_all := lw_g (lw_at lw_m3 213 rfl) rfl
theorem q753 : (Jvm.Cond.fieldLink "LightPlate$Turning" (17 : Nat) "LightPlate$Turning" "by" "I") ∈ lw_all := lw_g (lw_at lw_m3 214 rfl) rfl
theorem q754 : (Jvm.Cond.fieldLink "LightPlate$Turning" (1 : Nat) "LightPlate$Turning" "this$0" "LLightPlate;") ∈ lw_all := lw_g (lw_at lw_m3 215 rfl) rfl
theorem q760 : (Jvm.Cond.soleField "LightPlate$Turning" "lane") ∈ lw_all := lw_g (lw_at lw_m3 221 rfl) rfl
theorem q762 : (Jvm.Cond.soleField "LightPlate$Turning" "by") ∈ lw_all := lw_g (lw_at lw_m3 223 rfl) rfl
theorem q764 : (Jvm.Cond.soleField "LightPlate$Turning" "this$0") ∈ lw_all := lw_g (lw_at lw_m3 225 rfl) rfl
theorem q768 : (Jvm.Cond.instantiable "LightPlate$Turning" (4 : Nat)) ∈ lw_all := lw_g (lw_at lw_m3 229 rfl) rfl
theorem q770 : (Jvm.Cond.laysFinal "LightPlate$Turning" "LightPlate$Turning" "lane" "I") ∈ lw_all := lw_g (lw_at lw_m3 231 rfl) rfl
theorem q771 : (Jvm.Cond.laysFinal "LightPlate$Turning" "LightPlate$Turning" "by" "I") ∈ lw_all := lw_g (lw_at lw_m3 232 rfl) rfl
theorem q772 : (Jvm.Cond.laysFinal "LightPlate$Turning" "LightPlate$Turning" "this$0" "LLightPlate;") ∈ lw_all := lw_g (lw_at lw_m3 233 rfl) rfl
theorem q773 : (Jvm.Cond.laysFinal "LightPlate$Turning" "LightPlate$Node" "this$0" "LLightPlate;") ∈ lw_all := lw_g (lw_at lw_m3 234 rfl) rfl
theorem q774 : (Jvm.Cond.superclass "LightPlate$Turning" "LightPlate$Node") ∈ lw_all := lw_g (lw_at lw_m3 235 rfl) rfl
theorem q829 : (Jvm.Cond.selects "LightPlate$Turning" ({ cls := "java/lang/Object", name := "getClass", desc := "()Ljava/lang/Class;" } : Jvm.MethodName) ({ cls := "java/lang/Object", name := "getClass", desc := "()Ljava/lang/Class;" } : Jvm.MethodName)) ∈ lw_all := lw_g (lw_at lw_m4 50 rfl) rfl
theorem q848 : (Jvm.Cond.instanceMethod ({ cls := "LightPlate$Turning", name := "many", desc := "()I" } : Jvm.MethodName)) ∈ lw_all := lw_g (lw_at lw_m4 69 rfl) rfl
theorem q849 : (Jvm.Cond.code ({ cls := "LightPlate$Turning", name := "many", desc := "()I" } : Jvm.MethodName) prog_16_method_3_code (1 : Nat) (Option.some Jvm.ClassFile.FieldType.int)) ∈ lw_all := lw_g (lw_at lw_m4 70 rfl) rfl
theorem q859 : (Jvm.Cond.selects "LightPlate$Turning" ({ cls := "LightPlate$Node", name := "many", desc := "()I" } : Jvm.MethodName) ({ cls := "LightPlate$Turning", name := "many", desc := "()I" } : Jvm.MethodName)) ∈ lw_all := lw_g (lw_at lw_m4 80 rfl) rfl
theorem q865 : (Jvm.Cond.instanceMethod ({ cls := "LightPlate$Turning", name := "gives", desc := "()V" } : Jvm.MethodName)) ∈ lw_all := lw_g (lw_at lw_m4 86 rfl) rfl
theorem q866 : (Jvm.Cond.code ({ cls := "LightPlate$Turning", name := "gives", desc := "()V" } : Jvm.MethodName) prog_16_method_4_code (1 : Nat) (Option.none : Option Jvm.ClassFile.FieldType)) ∈ lw_all := lw_g (lw_at lw_m4 87 rfl) rfl
theorem q867 : (Jvm.Cond.methodLink "LightPlate$Turning" (20 : Nat) ({ cls := "LightPlate$Turning", name := "turn", desc := "()I" } : Jvm.MethodName)) ∈ lw_all := lw_g (lw_at lw_m4 88 rfl) rfl
theorem q868 : (Jvm.Cond.instanceMethod ({ cls := "LightPlate$Turning", name := "turn", desc := "()I" } : Jvm.MethodName)) ∈ lw_all := lw_g (lw_at lw_m4 89 rfl) rfl
theorem q869 : (Jvm.Cond.selects "LightPlate$Turning" ({ cls := "LightPlate$Turning", name := "turn", desc := "()I" } : Jvm.MethodName) ({ cls := "LightPlate$Turning", name := "turn", desc := "()I" } : Jvm.MethodName)) ∈ lw_all := lw_g (lw_at lw_m4 90 rfl) rfl
theorem q870 : (Jvm.Cond.sameMethod "LightPlate$Turning" "LightPlate$Turning" "turn" "()I") ∈ lw_all := lw_g (lw_at lw_m4 91 rfl) rfl
theorem q880 : (Jvm.Cond.code ({ cls := "LightPlate$Turning", name := "turn", desc := "()I" } : Jvm.MethodName) prog_16_method_2_code (1 : Nat) (Option.some Jvm.ClassFile.FieldType.int)) ∈ lw_all := lw_g (lw_at lw_m4 101 rfl) rfl
theorem q881 : (Jvm.Cond.methodLinkNest "LightPlate$Turning" (24 : Nat) ({ cls := "LightPlate", name := "adds", desc := "(II)V" } : Jvm.MethodName) "LightPlate") ∈ lw_tbl := lw_at lw_m4 102 rfl
theorem q887 : (Jvm.Cond.selects "LightPlate$Turning" ({ cls := "LightPlate$Node", name := "gives", desc := "()V" } : Jvm.MethodName) ({ cls := "LightPlate$Turning", name := "gives", desc := "()V" } : Jvm.MethodName)) ∈ lw_all := lw_g (lw_at lw_m4 108 rfl) rfl
theorem q1485 : (Jvm.Cond.castable "LightPlate$Turning" "LightPlate$Node") ∈ lw_tbl := lw_at lw_m6 226 rfl
theorem q1499 : (Jvm.Cond.castable "LightPlate$Turning" "java/lang/Object") ∈ lw_tbl := lw_at lw_m7 0 rfl
theorem in_X13 : ∀ w ∈ wsX130, w ∈ lw_all := lw_in wsX130 [773, 770, 771, 772] (by decide +kernel) (by decide +kernel)
/-! LightPlate$Back -/
set_option maxRecDepth 100000
def RX14 : String := "LightPlate$Back"
def TX14 : u_T := fun k => match k with
  | 0 => ("LightPlate$Node", "this$0", "LLightPlate;", true)
  | 1 => ("LightPlate$Turning", "lane", "I", true)
  | 2 => ("LightPlate$Turning", "by", "I", true)
  | 3 => ("LightPlate$Turning", "this$0", "LLightPlate;", true)
  | _ => ("LightPlate$Back", "this$0", "LLightPlate;", true)
def tyX14 : Nat → FieldType := fun k => match k with
  | 0 => .object "LightPlate"
  | 1 => .int
  | 2 => .int
  | 3 => .object "LightPlate"
  | _ => .object "LightPlate"
abbrev wsX140 : List Cond := u_ws RX14 TX14 5
-- two fields of one name: no nmX14
theorem tyX14_ok : ∀ k, k < 5 → parseFieldDescriptor (TX14 k).2.2.1 = some (tyX14 k) := by decide +kernel
abbrev cX14_init : ByteArray := prog_3_method_1_code
def yX14_init : MethodName := ⟨RX14, "<init>", "(LLightPlate;II)V"⟩
def dkwX14_init_0 : List UInt8 := [42, 43, 181, 0, 3, 42, 43, 28, 29, 183, 0, 9, 177]
abbrev dktX14_init_0 : List UInt8 := dkwX14_init_0 ++ []
theorem dksX14_init_0 : cX14_init.data.toList.drop 0 = dktX14_init_0 := by decide +kernel
theorem dX14_init_0 : decode cX14_init 0 = .ok (.aload_n 0, 1) := dk_42 (dk_at dksX14_init_0 0 rfl rfl)
theorem dX14_init_1 : decode cX14_init 1 = .ok (.aload_n 1, 1) := dk_43 (dk_at dksX14_init_0 1 rfl rfl)
theorem dX14_init_2 : decode cX14_init 2 = .ok (.putfield 3, 3) := dk_181 0 3 (dk_at dksX14_init_0 2 rfl rfl)
theorem dX14_init_5 : decode cX14_init 5 = .ok (.aload_n 0, 1) := dk_42 (dk_at dksX14_init_0 5 rfl rfl)
theorem dX14_init_6 : decode cX14_init 6 = .ok (.aload_n 1, 1) := dk_43 (dk_at dksX14_init_0 6 rfl rfl)
theorem dX14_init_7 : decode cX14_init 7 = .ok (.iload_n 2, 1) := dk_28 (dk_at dksX14_init_0 7 rfl rfl)
theorem dX14_init_8 : decode cX14_init 8 = .ok (.iload_n 3, 1) := dk_29 (dk_at dksX14_init_0 8 rfl rfl)
theorem dX14_init_9 : decode cX14_init 9 = .ok (.invokespecial 9, 3) := dk_183 0 9 (dk_at dksX14_init_0 9 rfl rfl)
theorem dX14_init_12 : decode cX14_init 12 = .ok (.return_, 1) := dk_177 (dk_at dksX14_init_0 12 rfl rfl)
abbrev cX14_turn : ByteArray := prog_3_method_2_code
def yX14_turn : MethodName := ⟨RX14, "turn", "()I"⟩
def dkwX14_turn_0 : List UInt8 := [16, 96, 42, 183, 0, 15, 100, 172]
abbrev dktX14_turn_0 : List UInt8 := dkwX14_turn_0 ++ []
theorem dksX14_turn_0 : cX14_turn.data.toList.drop 0 = dktX14_turn_0 := by decide +kernel
theorem dX14_turn_0 : decode cX14_turn 0 = .ok (.bipush 96, 2) := dk_16 96 (dk_at dksX14_turn_0 0 rfl rfl)
theorem dX14_turn_2 : decode cX14_turn 2 = .ok (.aload_n 0, 1) := dk_42 (dk_at dksX14_turn_0 2 rfl rfl)
theorem dX14_turn_3 : decode cX14_turn 3 = .ok (.invokespecial 15, 3) := dk_183 0 15 (dk_at dksX14_turn_0 3 rfl rfl)
theorem dX14_turn_6 : decode cX14_turn 6 = .ok (.isub, 1) := dk_100 (dk_at dksX14_turn_0 6 rfl rfl)
theorem dX14_turn_7 : decode cX14_turn 7 = .ok (.ireturn, 1) := dk_172 (dk_at dksX14_turn_0 7 rfl rfl)
theorem q82 : (Jvm.Cond.initialized "LightPlate$Back") ∈ lw_all := lw_g (lw_at lw_m1 23 rfl) rfl
theorem q744 : (Jvm.Cond.instanceMethod ({ cls := "LightPlate$Back", name := "<init>", desc := "(LLightPlate;II)V" } : Jvm.MethodName)) ∈ lw_all := lw_g (lw_at lw_m3 205 rfl) rfl
theorem q745 : (Jvm.Cond.code ({ cls := "LightPlate$Back", name := "<init>", desc := "(LLightPlate;II)V" } : Jvm.MethodName) prog_3_method_1_code (4 : Nat) (Option.none : Option Jvm.ClassFile.FieldType)) ∈ lw_all := lw_g (lw_at lw_m3 206 rfl) rfl
theorem q746 : (Jvm.Cond.methodLink "LightPlate$Back" (9 : Nat) ({ cls := "LightPlate$Turning", name := "<init>", desc := "(LLightPlate;II)V" } : Jvm.MethodName)) ∈ lw_all := lw_g (lw_at lw_m3 207 rfl) rfl
theorem q751 : (Jvm.Cond.fieldLink "LightPlate$Back" (3 : Nat) "LightPlate$Back" "this$0" "LLightPlate;") ∈ lw_all := lw_g (lw_at lw_m3 212 rfl) rfl
theorem q758 : (Jvm.Cond.soleField "LightPlate$Back" "this$0") ∈ lw_all := lw_g (lw_at lw_m3 219 rfl) rfl
theorem q776 : (Jvm.Cond.instantiable "LightPlate$Back" (5 : Nat)) ∈ lw_all := lw_g (lw_at lw_m3 237 rfl) rfl
theorem q778 : (Jvm.Cond.laysFinal "LightPlate$Back" "LightPlate$Back" "this$0" "LLightPlate;") ∈ lw_all := lw_g (lw_at lw_m3 239 rfl) rfl
theorem q779 : (Jvm.Cond.laysFinal "LightPlate$Back" "LightPlate$Turning" "lane" "I") ∈ lw_all := lw_g (lw_at lw_m4 0 rfl) rfl
theorem q780 : (Jvm.Cond.laysFinal "LightPlate$Back" "LightPlate$Turning" "by" "I") ∈ lw_all := lw_g (lw_at lw_m4 1 rfl) rfl
theorem q781 : (Jvm.Cond.laysFinal "LightPlate$Back" "LightPlate$Turning" "this$0" "LLightPlate;") ∈ lw_all := lw_g (lw_at lw_m4 2 rfl) rfl
theorem q782 : (Jvm.Cond.laysFinal "LightPlate$Back" "LightPlate$Node" "this$0" "LLightPlate;") ∈ lw_all := lw_g (lw_at lw_m4 3 rfl) rfl
theorem q783 : (Jvm.Cond.superclass "LightPlate$Back" "LightPlate$Turning") ∈ lw_all := lw_g (lw_at lw_m4 4 rfl) rfl
theorem q818 : (Jvm.Cond.selects "LightPlate$Back" ({ cls := "java/lang/Object", name := "getClass", desc := "()Ljava/lang/Class;" } : Jvm.MethodName) ({ cls := "java/lang/Object", name := "getClass", desc := "()Ljava/lang/Class;" } : Jvm.MethodName)) ∈ lw_all := lw_g (lw_at lw_m4 39 rfl) rfl
theorem q847 : (Jvm.Cond.selects "LightPlate$Back" ({ cls := "LightPlate$Node", name := "many", desc := "()I" } : Jvm.MethodName) ({ cls := "LightPlate$Turning", name := "many", desc := "()I" } : Jvm.MethodName)) ∈ lw_all := lw_g (lw_at lw_m4 68 rfl) rfl
theorem q864 : (Jvm.Cond.selects "LightPlate$Back" ({ cls := "LightPlate$Node", name := "gives", desc := "()V" } : Jvm.MethodName) ({ cls := "LightPlate$Turning", name := "gives", desc := "()V" } : Jvm.MethodName)) ∈ lw_all := lw_g (lw_at lw_m4 85 rfl) rfl
theorem q871 : (Jvm.Cond.selects "LightPlate$Back" ({ cls := "LightPlate$Turning", name := "turn", desc := "()I" } : Jvm.MethodName) ({ cls := "LightPlate$Back", name := "turn", desc := "()I" } : Jvm.MethodName)) ∈ lw_all := lw_g (lw_at lw_m4 92 rfl) rfl
theorem q872 : (Jvm.Cond.instanceMethod ({ cls := "LightPlate$Back", name := "turn", desc := "()I" } : Jvm.MethodName)) ∈ lw_all := lw_g (lw_at lw_m4 93 rfl) rfl
theorem q873 : (Jvm.Cond.code ({ cls := "LightPlate$Back", name := "turn", desc := "()I" } : Jvm.MethodName) prog_3_method_2_code (1 : Nat) (Option.some Jvm.ClassFile.FieldType.int)) ∈ lw_all := lw_g (lw_at lw_m4 94 rfl) rfl
theorem q874 : (Jvm.Cond.methodLink "LightPlate$Back" (15 : Nat) ({ cls := "LightPlate$Turning", name := "turn", desc := "()I" } : Jvm.MethodName)) ∈ lw_all := lw_g (lw_at lw_m4 95 rfl) rfl
theorem q1481 : (Jvm.Cond.sameMethod "LightPlate$Back" "LightPlate$Back" "turn" "()I") ∈ lw_all := lw_g (lw_at lw_m6 222 rfl) rfl
theorem q1482 : (Jvm.Cond.castable "LightPlate$Back" "LightPlate$Node") ∈ lw_tbl := lw_at lw_m6 223 rfl
theorem q1500 : (Jvm.Cond.castable "LightPlate$Back" "java/lang/Object") ∈ lw_tbl := lw_at lw_m7 1 rfl
theorem in_X14 : ∀ w ∈ wsX140, w ∈ lw_all := lw_in wsX140 [782, 779, 780, 781, 778] (by decide +kernel) (by decide +kernel)
/-! LightPlate$Swap -/
set_option maxRecDepth 100000
def RX15 : String := "LightPlate$Swap"
def TX15 : u_T := fun k => match k with
  | 0 => ("LightPlate$Node", "this$0", "LLightPlate;", true)
  | 1 => ("LightPlate$Turning", "lane", "I", true)
  | 2 => ("LightPlate$Turning", "by", "I", true)
  | 3 => ("LightPlate$Turning", "this$0", "LLightPlate;", true)
  | 4 => ("LightPlate$Back", "this$0", "LLightPlate;", true)
  | _ => ("LightPlate$Swap", "this$0", "LLightPlate;", true)
def tyX15 : Nat → FieldType := fun k => match k with
  | 0 => .object "LightPlate"
  | 1 => .int
  | 2 => .int
  | 3 => .object "LightPlate"
  | 4 => .object "LightPlate"
  | _ => .object "LightPlate"
abbrev wsX150 : List Cond := u_ws RX15 TX15 6
-- two fields of one name: no nmX15
theorem tyX15_ok : ∀ k, k < 6 → parseFieldDescriptor (TX15 k).2.2.1 = some (tyX15 k) := by decide +kernel
abbrev cX15_init : ByteArray := prog_13_method_1_code
def yX15_init : MethodName := ⟨RX15, "<init>", "(LLightPlate;I)V"⟩
def dkwX15_init_0 : List UInt8 := [42, 43, 181, 0, 3, 42, 43, 28, 16, 24, 183, 0, 9, 177]
abbrev dktX15_init_0 : List UInt8 := dkwX15_init_0 ++ []
theorem dksX15_init_0 : cX15_init.data.toList.drop 0 = dktX15_init_0 := by decide +kernel
theorem dX15_init_0 : decode cX15_init 0 = .ok (.aload_n 0, 1) := dk_42 (dk_at dksX15_init_0 0 rfl rfl)
theorem dX15_init_1 : decode cX15_init 1 = .ok (.aload_n 1, 1) := dk_43 (dk_at dksX15_init_0 1 rfl rfl)
theorem dX15_init_2 : decode cX15_init 2 = .ok (.putfield 3, 3) := dk_181 0 3 (dk_at dksX15_init_0 2 rfl rfl)
theorem dX15_init_5 : decode cX15_init 5 = .ok (.aload_n 0, 1) := dk_42 (dk_at dksX15_init_0 5 rfl rfl)
theorem dX15_init_6 : decode cX15_init 6 = .ok (.aload_n 1, 1) := dk_43 (dk_at dksX15_init_0 6 rfl rfl)
theorem dX15_init_7 : decode cX15_init 7 = .ok (.iload_n 2, 1) := dk_28 (dk_at dksX15_init_0 7 rfl rfl)
theorem dX15_init_8 : decode cX15_init 8 = .ok (.bipush 24, 2) := dk_16 24 (dk_at dksX15_init_0 8 rfl rfl)
theorem dX15_init_10 : decode cX15_init 10 = .ok (.invokespecial 9, 3) := dk_183 0 9 (dk_at dksX15_init_0 10 rfl rfl)
theorem dX15_init_13 : decode cX15_init 13 = .ok (.return_, 1) := dk_177 (dk_at dksX15_init_0 13 rfl rfl)
abbrev cX15_turn : ByteArray := prog_13_method_2_code
def yX15_turn : MethodName := ⟨RX15, "turn", "()I"⟩
def dkwX15_turn_0 : List UInt8 := [42, 183, 0, 15, 116, 184, 0, 19, 172]
abbrev dktX15_turn_0 : List UInt8 := dkwX15_turn_0 ++ []
theorem dksX15_turn_0 : cX15_turn.data.toList.drop 0 = dktX15_turn_0 := by decide +kernel
theorem dX15_turn_0 : decode cX15_turn 0 = .ok (.aload_n 0, 1) := dk_42 (dk_at dksX15_turn_0 0 rfl rfl)
theorem dX15_turn_1 : decode cX15_turn 1 = .ok (.invokespecial 15, 3) := dk_183 0 15 (dk_at dksX15_turn_0 1 rfl rfl)
theorem dX15_turn_4 : decode cX15_turn 4 = .ok (.ineg, 1) := dk_116 (dk_at dksX15_turn_0 4 rfl rfl)
theorem dX15_turn_5 : decode cX15_turn 5 = .ok (.invokestatic 19, 3) := dk_184 0 19 (dk_at dksX15_turn_0 5 rfl rfl)
theorem dX15_turn_8 : decode cX15_turn 8 = .ok (.ireturn, 1) := dk_172 (dk_at dksX15_turn_0 8 rfl rfl)
theorem q83 : (Jvm.Cond.initialized "LightPlate$Swap") ∈ lw_all := lw_g (lw_at lw_m1 24 rfl) rfl
theorem q739 : (Jvm.Cond.instantiable "LightPlate$Swap" (6 : Nat)) ∈ lw_all := lw_g (lw_at lw_m3 200 rfl) rfl
theorem q741 : (Jvm.Cond.instanceMethod ({ cls := "LightPlate$Swap", name := "<init>", desc := "(LLightPlate;I)V" } : Jvm.MethodName)) ∈ lw_all := lw_g (lw_at lw_m3 202 rfl) rfl
theorem q742 : (Jvm.Cond.code ({ cls := "LightPlate$Swap", name := "<init>", desc := "(LLightPlate;I)V" } : Jvm.MethodName) prog_13_method_1_code (3 : Nat) (Option.none : Option Jvm.ClassFile.FieldType)) ∈ lw_all := lw_g (lw_at lw_m3 203 rfl) rfl
theorem q743 : (Jvm.Cond.methodLink "LightPlate$Swap" (9 : Nat) ({ cls := "LightPlate$Back", name := "<init>", desc := "(LLightPlate;II)V" } : Jvm.MethodName)) ∈ lw_all := lw_g (lw_at lw_m3 204 rfl) rfl
theorem q750 : (Jvm.Cond.fieldLink "LightPlate$Swap" (3 : Nat) "LightPlate$Swap" "this$0" "LLightPlate;") ∈ lw_all := lw_g (lw_at lw_m3 211 rfl) rfl
theorem q755 : (Jvm.Cond.laysFinal "LightPlate$Swap" "LightPlate$Swap" "this$0" "LLightPlate;") ∈ lw_all := lw_g (lw_at lw_m3 216 rfl) rfl
theorem q756 : (Jvm.Cond.soleField "LightPlate$Swap" "this$0") ∈ lw_all := lw_g (lw_at lw_m3 217 rfl) rfl
theorem q757 : (Jvm.Cond.laysFinal "LightPlate$Swap" "LightPlate$Back" "this$0" "LLightPlate;") ∈ lw_all := lw_g (lw_at lw_m3 218 rfl) rfl
theorem q759 : (Jvm.Cond.laysFinal "LightPlate$Swap" "LightPlate$Turning" "lane" "I") ∈ lw_all := lw_g (lw_at lw_m3 220 rfl) rfl
theorem q761 : (Jvm.Cond.laysFinal "LightPlate$Swap" "LightPlate$Turning" "by" "I") ∈ lw_all := lw_g (lw_at lw_m3 222 rfl) rfl
theorem q763 : (Jvm.Cond.laysFinal "LightPlate$Swap" "LightPlate$Turning" "this$0" "LLightPlate;") ∈ lw_all := lw_g (lw_at lw_m3 224 rfl) rfl
theorem q765 : (Jvm.Cond.laysFinal "LightPlate$Swap" "LightPlate$Node" "this$0" "LLightPlate;") ∈ lw_all := lw_g (lw_at lw_m3 226 rfl) rfl
theorem q766 : (Jvm.Cond.superclass "LightPlate$Swap" "LightPlate$Back") ∈ lw_all := lw_g (lw_at lw_m3 227 rfl) rfl
theorem q826 : (Jvm.Cond.selects "LightPlate$Swap" ({ cls := "java/lang/Object", name := "getClass", desc := "()Ljava/lang/Class;" } : Jvm.MethodName) ({ cls := "java/lang/Object", name := "getClass", desc := "()Ljava/lang/Class;" } : Jvm.MethodName)) ∈ lw_all := lw_g (lw_at lw_m4 47 rfl) rfl
theorem q850 : (Jvm.Cond.selects "LightPlate$Swap" ({ cls := "LightPlate$Node", name := "many", desc := "()I" } : Jvm.MethodName) ({ cls := "LightPlate$Turning", name := "many", desc := "()I" } : Jvm.MethodName)) ∈ lw_all := lw_g (lw_at lw_m4 71 rfl) rfl
theorem q875 : (Jvm.Cond.selects "LightPlate$Swap" ({ cls := "LightPlate$Turning", name := "turn", desc := "()I" } : Jvm.MethodName) ({ cls := "LightPlate$Swap", name := "turn", desc := "()I" } : Jvm.MethodName)) ∈ lw_all := lw_g (lw_at lw_m4 96 rfl) rfl
theorem q876 : (Jvm.Cond.instanceMethod ({ cls := "LightPlate$Swap", name := "turn", desc := "()I" } : Jvm.MethodName)) ∈ lw_all := lw_g (lw_at lw_m4 97 rfl) rfl
theorem q877 : (Jvm.Cond.code ({ cls := "LightPlate$Swap", name := "turn", desc := "()I" } : Jvm.MethodName) prog_13_method_2_code (1 : Nat) (Option.some Jvm.ClassFile.FieldType.int)) ∈ lw_all := lw_g (lw_at lw_m4 98 rfl) rfl
theorem q878 : (Jvm.Cond.methodLink "LightPlate$Swap" (15 : Nat) ({ cls := "LightPlate$Back", name := "turn", desc := "()I" } : Jvm.MethodName)) ∈ lw_all := lw_g (lw_at lw_m4 99 rfl) rfl
theorem q879 : (Jvm.Cond.methodLinkNest "LightPlate$Swap" (19 : Nat) ({ cls := "LightPlate", name := "whole", desc := "(I)I" } : Jvm.MethodName) "LightPlate") ∈ lw_tbl := lw_at lw_m4 100 rfl
theorem q882 : (Jvm.Cond.selects "LightPlate$Swap" ({ cls := "LightPlate$Node", name := "gives", desc := "()V" } : Jvm.MethodName) ({ cls := "LightPlate$Turning", name := "gives", desc := "()V" } : Jvm.MethodName)) ∈ lw_all := lw_g (lw_at lw_m4 103 rfl) rfl
theorem q1483 : (Jvm.Cond.castable "LightPlate$Swap" "LightPlate$Node") ∈ lw_tbl := lw_at lw_m6 224 rfl
theorem q1498 : (Jvm.Cond.castable "LightPlate$Swap" "java/lang/Object") ∈ lw_tbl := lw_at lw_m6 239 rfl
theorem in_X15 : ∀ w ∈ wsX150, w ∈ lw_all := lw_in wsX150 [765, 759, 761, 763, 757, 755] (by decide +kernel) (by decide +kernel)
/-! LightPlate$Run -/
set_option maxRecDepth 100000
def RX16 : String := "LightPlate$Run"
def TX16 : u_T := fun k => match k with
  | 0 => ("LightPlate$Run", "tick", "I", true)
  | 1 => ("LightPlate$Run", "went", "[I", true)
  | 2 => ("LightPlate$Run", "came", "[I", true)
  | 3 => ("LightPlate$Run", "settings", "[I", true)
  | _ => ("LightPlate$Run", "this$0", "LLightPlate;", true)
def tyX16 : Nat → FieldType := fun k => match k with
  | 0 => .int
  | 1 => .array .int
  | 2 => .array .int
  | 3 => .array .int
  | _ => .object "LightPlate"
abbrev wsX160 : List Cond := u_ws RX16 TX16 5
theorem nmX16 : ∀ a, a < 5 → ∀ b, b < 5 → a ≠ b → (TX16 a).2.1 ≠ (TX16 b).2.1 := by decide +kernel
theorem tyX16_ok : ∀ k, k < 5 → parseFieldDescriptor (TX16 k).2.2.1 = some (tyX16 k) := by decide +kernel
abbrev cX16_init : ByteArray := prog_12_method_1_code
def yX16_init : MethodName := ⟨RX16, "<init>", "(LLightPlate;I)V"⟩
def dkwX16_init_4 : List UInt8 := [96, 25, 6, 180, 0, 44, 79, 132, 5, 1, 167, 255, 209, 177]
abbrev dktX16_init_4 : List UInt8 := dkwX16_init_4 ++ []
def dkwX16_init_3 : List UInt8 := [25, 6, 198, 0, 29, 42, 180, 0, 26, 25, 6, 180, 0, 33, 43, 180, 0, 38, 104, 25, 6, 180, 0, 41]
abbrev dktX16_init_3 : List UInt8 := dkwX16_init_3 ++ dktX16_init_4
def dkwX16_init_2 : List UInt8 := [180, 0, 20, 78, 45, 190, 54, 4, 3, 54, 5, 21, 5, 21, 4, 162, 0, 46, 45, 21, 5, 50, 58, 6]
abbrev dktX16_init_2 : List UInt8 := dkwX16_init_2 ++ dktX16_init_3
def dkwX16_init_1 : List UInt8 := [181, 0, 17, 42, 42, 180, 0, 1, 180, 0, 20, 190, 188, 10, 181, 0, 26, 42, 28, 181, 0, 29, 43]
abbrev dktX16_init_1 : List UInt8 := dkwX16_init_1 ++ dktX16_init_2
def dkwX16_init_0 : List UInt8 := [42, 43, 181, 0, 1, 42, 183, 0, 7, 42, 16, 6, 188, 10, 181, 0, 13, 42, 16, 6, 188, 10]
abbrev dktX16_init_0 : List UInt8 := dkwX16_init_0 ++ dktX16_init_1
theorem dksX16_init_0 : cX16_init.data.toList.drop 0 = dktX16_init_0 := by decide +kernel
theorem dksX16_init_1 : cX16_init.data.toList.drop 22 = dktX16_init_1 := dk_seg dksX16_init_0 22 rfl rfl
theorem dksX16_init_2 : cX16_init.data.toList.drop 45 = dktX16_init_2 := dk_seg dksX16_init_1 23 rfl rfl
theorem dksX16_init_3 : cX16_init.data.toList.drop 69 = dktX16_init_3 := dk_seg dksX16_init_2 24 rfl rfl
theorem dksX16_init_4 : cX16_init.data.toList.drop 93 = dktX16_init_4 := dk_seg dksX16_init_3 24 rfl rfl
theorem dX16_init_0 : decode cX16_init 0 = .ok (.aload_n 0, 1) := dk_42 (dk_at dksX16_init_0 0 rfl rfl)
theorem dX16_init_1 : decode cX16_init 1 = .ok (.aload_n 1, 1) := dk_43 (dk_at dksX16_init_0 1 rfl rfl)
theorem dX16_init_2 : decode cX16_init 2 = .ok (.putfield 1, 3) := dk_181 0 1 (dk_at dksX16_init_0 2 rfl rfl)
theorem dX16_init_5 : decode cX16_init 5 = .ok (.aload_n 0, 1) := dk_42 (dk_at dksX16_init_0 5 rfl rfl)
theorem dX16_init_6 : decode cX16_init 6 = .ok (.invokespecial 7, 3) := dk_183 0 7 (dk_at dksX16_init_0 6 rfl rfl)
theorem dX16_init_9 : decode cX16_init 9 = .ok (.aload_n 0, 1) := dk_42 (dk_at dksX16_init_0 9 rfl rfl)
theorem dX16_init_10 : decode cX16_init 10 = .ok (.bipush 6, 2) := dk_16 6 (dk_at dksX16_init_0 10 rfl rfl)
theorem dX16_init_12 : decode cX16_init 12 = .ok (.newarray .int, 2) := dk_188_10 (dk_at dksX16_init_0 12 rfl rfl)
theorem dX16_init_14 : decode cX16_init 14 = .ok (.putfield 13, 3) := dk_181 0 13 (dk_at dksX16_init_0 14 rfl rfl)
theorem dX16_init_17 : decode cX16_init 17 = .ok (.aload_n 0, 1) := dk_42 (dk_at dksX16_init_0 17 rfl rfl)
theorem dX16_init_18 : decode cX16_init 18 = .ok (.bipush 6, 2) := dk_16 6 (dk_at dksX16_init_0 18 rfl rfl)
theorem dX16_init_20 : decode cX16_init 20 = .ok (.newarray .int, 2) := dk_188_10 (dk_at dksX16_init_0 20 rfl rfl)
theorem dX16_init_22 : decode cX16_init 22 = .ok (.putfield 17, 3) := dk_181 0 17 (dk_at dksX16_init_1 0 rfl rfl)
theorem dX16_init_25 : decode cX16_init 25 = .ok (.aload_n 0, 1) := dk_42 (dk_at dksX16_init_1 3 rfl rfl)
theorem dX16_init_26 : decode cX16_init 26 = .ok (.aload_n 0, 1) := dk_42 (dk_at dksX16_init_1 4 rfl rfl)
theorem dX16_init_27 : decode cX16_init 27 = .ok (.getfield 1, 3) := dk_180 0 1 (dk_at dksX16_init_1 5 rfl rfl)
theorem dX16_init_30 : decode cX16_init 30 = .ok (.getfield 20, 3) := dk_180 0 20 (dk_at dksX16_init_1 8 rfl rfl)
theorem dX16_init_33 : decode cX16_init 33 = .ok (.arraylength, 1) := dk_190 (dk_at dksX16_init_1 11 rfl rfl)
theorem dX16_init_34 : decode cX16_init 34 = .ok (.newarray .int, 2) := dk_188_10 (dk_at dksX16_init_1 12 rfl rfl)
theorem dX16_init_36 : decode cX16_init 36 = .ok (.putfield 26, 3) := dk_181 0 26 (dk_at dksX16_init_1 14 rfl rfl)
theorem dX16_init_39 : decode cX16_init 39 = .ok (.aload_n 0, 1) := dk_42 (dk_at dksX16_init_1 17 rfl rfl)
theorem dX16_init_40 : decode cX16_init 40 = .ok (.iload_n 2, 1) := dk_28 (dk_at dksX16_init_1 18 rfl rfl)
theorem dX16_init_41 : decode cX16_init 41 = .ok (.putfield 29, 3) := dk_181 0 29 (dk_at dksX16_init_1 19 rfl rfl)
theorem dX16_init_44 : decode cX16_init 44 = .ok (.aload_n 1, 1) := dk_43 (dk_at dksX16_init_1 22 rfl rfl)
theorem dX16_init_45 : decode cX16_init 45 = .ok (.getfield 20, 3) := dk_180 0 20 (dk_at dksX16_init_2 0 rfl rfl)
theorem dX16_init_48 : decode cX16_init 48 = .ok (.astore_n 3, 1) := dk_78 (dk_at dksX16_init_2 3 rfl rfl)
theorem dX16_init_49 : decode cX16_init 49 = .ok (.aload_n 3, 1) := dk_45 (dk_at dksX16_init_2 4 rfl rfl)
theorem dX16_init_50 : decode cX16_init 50 = .ok (.arraylength, 1) := dk_190 (dk_at dksX16_init_2 5 rfl rfl)
theorem dX16_init_51 : decode cX16_init 51 = .ok (.istore 4, 2) := dk_54 4 (dk_at dksX16_init_2 6 rfl rfl)
theorem dX16_init_53 : decode cX16_init 53 = .ok (.iconst 0, 1) := dk_3 (dk_at dksX16_init_2 8 rfl rfl)
theorem dX16_init_54 : decode cX16_init 54 = .ok (.istore 5, 2) := dk_54 5 (dk_at dksX16_init_2 9 rfl rfl)
theorem dX16_init_56 : decode cX16_init 56 = .ok (.iload 5, 2) := dk_21 5 (dk_at dksX16_init_2 11 rfl rfl)
theorem dX16_init_58 : decode cX16_init 58 = .ok (.iload 4, 2) := dk_21 4 (dk_at dksX16_init_2 13 rfl rfl)
theorem dX16_init_60 : decode cX16_init 60 = .ok (.if_icmp .ge 46, 3) := dk_162 0 46 (dk_at dksX16_init_2 15 rfl rfl)
theorem dX16_init_63 : decode cX16_init 63 = .ok (.aload_n 3, 1) := dk_45 (dk_at dksX16_init_2 18 rfl rfl)
theorem dX16_init_64 : decode cX16_init 64 = .ok (.iload 5, 2) := dk_21 5 (dk_at dksX16_init_2 19 rfl rfl)
theorem dX16_init_66 : decode cX16_init 66 = .ok (.aaload, 1) := dk_50 (dk_at dksX16_init_2 21 rfl rfl)
theorem dX16_init_67 : decode cX16_init 67 = .ok (.astore 6, 2) := dk_58 6 (dk_at dksX16_init_2 22 rfl rfl)
theorem dX16_init_69 : decode cX16_init 69 = .ok (.aload 6, 2) := dk_25 6 (dk_at dksX16_init_3 0 rfl rfl)
theorem dX16_init_71 : decode cX16_init 71 = .ok (.ifnull 29, 3) := dk_198 0 29 (dk_at dksX16_init_3 2 rfl rfl)
theorem dX16_init_74 : decode cX16_init 74 = .ok (.aload_n 0, 1) := dk_42 (dk_at dksX16_init_3 5 rfl rfl)
theorem dX16_init_75 : decode cX16_init 75 = .ok (.getfield 26, 3) := dk_180 0 26 (dk_at dksX16_init_3 6 rfl rfl)
theorem dX16_init_78 : decode cX16_init 78 = .ok (.aload 6, 2) := dk_25 6 (dk_at dksX16_init_3 9 rfl rfl)
theorem dX16_init_80 : decode cX16_init 80 = .ok (.getfield 33, 3) := dk_180 0 33 (dk_at dksX16_init_3 11 rfl rfl)
theorem dX16_init_83 : decode cX16_init 83 = .ok (.aload_n 1, 1) := dk_43 (dk_at dksX16_init_3 14 rfl rfl)
theorem dX16_init_84 : decode cX16_init 84 = .ok (.getfield 38, 3) := dk_180 0 38 (dk_at dksX16_init_3 15 rfl rfl)
theorem dX16_init_87 : decode cX16_init 87 = .ok (.imul, 1) := dk_104 (dk_at dksX16_init_3 18 rfl rfl)
theorem dX16_init_88 : decode cX16_init 88 = .ok (.aload 6, 2) := dk_25 6 (dk_at dksX16_init_3 19 rfl rfl)
theorem dX16_init_90 : decode cX16_init 90 = .ok (.getfield 41, 3) := dk_180 0 41 (dk_at dksX16_init_3 21 rfl rfl)
theorem dX16_init_93 : decode cX16_init 93 = .ok (.iadd, 1) := dk_96 (dk_at dksX16_init_4 0 rfl rfl)
theorem dX16_init_94 : decode cX16_init 94 = .ok (.aload 6, 2) := dk_25 6 (dk_at dksX16_init_4 1 rfl rfl)
theorem dX16_init_96 : decode cX16_init 96 = .ok (.getfield 44, 3) := dk_180 0 44 (dk_at dksX16_init_4 3 rfl rfl)
theorem dX16_init_99 : decode cX16_init 99 = .ok (.iastore, 1) := dk_79 (dk_at dksX16_init_4 6 rfl rfl)
theorem dX16_init_100 : decode cX16_init 100 = .ok (.iinc 5 1, 3) := dk_132 5 1 (dk_at dksX16_init_4 7 rfl rfl)
theorem dX16_init_103 : decode cX16_init 103 = .ok (.goto (-47), 3) := dk_167 255 209 (dk_at dksX16_init_4 10 rfl rfl)
theorem dX16_init_106 : decode cX16_init 106 = .ok (.return_, 1) := dk_177 (dk_at dksX16_init_4 13 rfl rfl)
theorem q86 : (Jvm.Cond.initialized "LightPlate$Run") ∈ lw_all := lw_g (lw_at lw_m1 27 rfl) rfl
theorem q245 : (Jvm.Cond.fieldLinkNest "LightPlate$Run" (33 : Nat) "LightPlate$Cell" "layer" "I" "LightPlate") ∈ lw_tbl := lw_at lw_m1 186 rfl
theorem q249 : (Jvm.Cond.fieldLinkNest "LightPlate$Run" (41 : Nat) "LightPlate$Cell" "lane" "I" "LightPlate") ∈ lw_tbl := lw_at lw_m1 190 rfl
theorem q253 : (Jvm.Cond.fieldLinkNest "LightPlate$Run" (44 : Nat) "LightPlate$Cell" "setting" "I" "LightPlate") ∈ lw_tbl := lw_at lw_m1 194 rfl
theorem q282 : (Jvm.Cond.fieldLinkNest "LightPlate$Run" (38 : Nat) "LightPlate" "lanes" "I" "LightPlate") ∈ lw_tbl := lw_at lw_m1 223 rfl
theorem q286 : (Jvm.Cond.fieldLinkNest "LightPlate$Run" (20 : Nat) "LightPlate" "cells" "[LLightPlate$Cell;" "LightPlate") ∈ lw_tbl := lw_at lw_m1 227 rfl
theorem q825 : (Jvm.Cond.selects "LightPlate$Run" ({ cls := "java/lang/Object", name := "getClass", desc := "()Ljava/lang/Class;" } : Jvm.MethodName) ({ cls := "java/lang/Object", name := "getClass", desc := "()Ljava/lang/Class;" } : Jvm.MethodName)) ∈ lw_all := lw_g (lw_at lw_m4 46 rfl) rfl
theorem q901 : (Jvm.Cond.instantiable "LightPlate$Run" (5 : Nat)) ∈ lw_all := lw_g (lw_at lw_m4 122 rfl) rfl
theorem q903 : (Jvm.Cond.instanceMethod ({ cls := "LightPlate$Run", name := "<init>", desc := "(LLightPlate;I)V" } : Jvm.MethodName)) ∈ lw_all := lw_g (lw_at lw_m4 124 rfl) rfl
theorem q904 : (Jvm.Cond.code ({ cls := "LightPlate$Run", name := "<init>", desc := "(LLightPlate;I)V" } : Jvm.MethodName) prog_12_method_1_code (7 : Nat) (Option.none : Option Jvm.ClassFile.FieldType)) ∈ lw_all := lw_g (lw_at lw_m4 125 rfl) rfl
theorem q905 : (Jvm.Cond.methodLink "LightPlate$Run" (7 : Nat) ({ cls := "java/lang/Object", name := "<init>", desc := "()V" } : Jvm.MethodName)) ∈ lw_all := lw_g (lw_at lw_m4 126 rfl) rfl
theorem q906 : (Jvm.Cond.fieldLink "LightPlate$Run" (29 : Nat) "LightPlate$Run" "tick" "I") ∈ lw_all := lw_g (lw_at lw_m4 127 rfl) rfl
theorem q909 : (Jvm.Cond.fieldLink "LightPlate$Run" (13 : Nat) "LightPlate$Run" "went" "[I") ∈ lw_all := lw_g (lw_at lw_m4 130 rfl) rfl
theorem q911 : (Jvm.Cond.fieldLink "LightPlate$Run" (17 : Nat) "LightPlate$Run" "came" "[I") ∈ lw_all := lw_g (lw_at lw_m4 132 rfl) rfl
theorem q913 : (Jvm.Cond.fieldLink "LightPlate$Run" (26 : Nat) "LightPlate$Run" "settings" "[I") ∈ lw_all := lw_g (lw_at lw_m4 134 rfl) rfl
theorem q915 : (Jvm.Cond.fieldLink "LightPlate$Run" (1 : Nat) "LightPlate$Run" "this$0" "LLightPlate;") ∈ lw_all := lw_g (lw_at lw_m4 136 rfl) rfl
theorem q916 : (Jvm.Cond.laysFinal "LightPlate$Run" "LightPlate$Run" "tick" "I") ∈ lw_all := lw_g (lw_at lw_m4 137 rfl) rfl
theorem q917 : (Jvm.Cond.soleField "LightPlate$Run" "tick") ∈ lw_all := lw_g (lw_at lw_m4 138 rfl) rfl
theorem q918 : (Jvm.Cond.laysFinal "LightPlate$Run" "LightPlate$Run" "went" "[I") ∈ lw_all := lw_g (lw_at lw_m4 139 rfl) rfl
theorem q919 : (Jvm.Cond.soleField "LightPlate$Run" "went") ∈ lw_all := lw_g (lw_at lw_m4 140 rfl) rfl
theorem q920 : (Jvm.Cond.laysFinal "LightPlate$Run" "LightPlate$Run" "came" "[I") ∈ lw_all := lw_g (lw_at lw_m4 141 rfl) rfl
theorem q921 : (Jvm.Cond.soleField "LightPlate$Run" "came") ∈ lw_all := lw_g (lw_at lw_m4 142 rfl) rfl
theorem q922 : (Jvm.Cond.laysFinal "LightPlate$Run" "LightPlate$Run" "settings" "[I") ∈ lw_all := lw_g (lw_at lw_m4 143 rfl) rfl
theorem q923 : (Jvm.Cond.soleField "LightPlate$Run" "settings") ∈ lw_all := lw_g (lw_at lw_m4 144 rfl) rfl
theorem q924 : (Jvm.Cond.laysFinal "LightPlate$Run" "LightPlate$Run" "this$0" "LLightPlate;") ∈ lw_all := lw_g (lw_at lw_m4 145 rfl) rfl
theorem q925 : (Jvm.Cond.soleField "LightPlate$Run" "this$0") ∈ lw_all := lw_g (lw_at lw_m4 146 rfl) rfl
theorem q926 : (Jvm.Cond.superclass "LightPlate$Run" "java/lang/Object") ∈ lw_all := lw_g (lw_at lw_m4 147 rfl) rfl
theorem q1501 : (Jvm.Cond.castable "LightPlate$Run" "java/lang/Object") ∈ lw_tbl := lw_at lw_m7 2 rfl
theorem in_X16 : ∀ w ∈ wsX160, w ∈ lw_all := lw_in wsX160 [916, 918, 920, 922, 924] (by decide +kernel) (by decide +kernel)
/-! LightPlate$Finding -/
set_option maxRecDepth 100000
def RX17 : String := "LightPlate$Finding"
def TX17 : u_T := fun k => match k with
  | 0 => ("LightPlate$Finding", "cell", "LLightPlate$Cell;", true)
  | 1 => ("LightPlate$Finding", "offset", "I", true)
  | _ => ("LightPlate$Finding", "tick", "I", true)
def tyX17 : Nat → FieldType := fun k => match k with
  | 0 => .object "LightPlate$Cell"
  | 1 => .int
  | _ => .int
abbrev wsX170 : List Cond := u_ws RX17 TX17 3
theorem nmX17 : ∀ a, a < 3 → ∀ b, b < 3 → a ≠ b → (TX17 a).2.1 ≠ (TX17 b).2.1 := by decide +kernel
theorem tyX17_ok : ∀ k, k < 3 → parseFieldDescriptor (TX17 k).2.2.1 = some (tyX17 k) := by decide +kernel
abbrev cX17_init : ByteArray := prog_5_method_1_code
def yX17_init : MethodName := ⟨RX17, "<init>", "(LLightPlate$Cell;II)V"⟩
def dkwX17_init_0 : List UInt8 := [42, 183, 0, 1, 42, 43, 181, 0, 7, 42, 28, 181, 0, 13, 42, 29, 181, 0, 17, 177]
abbrev dktX17_init_0 : List UInt8 := dkwX17_init_0 ++ []
theorem dksX17_init_0 : cX17_init.data.toList.drop 0 = dktX17_init_0 := by decide +kernel
theorem dX17_init_0 : decode cX17_init 0 = .ok (.aload_n 0, 1) := dk_42 (dk_at dksX17_init_0 0 rfl rfl)
theorem dX17_init_1 : decode cX17_init 1 = .ok (.invokespecial 1, 3) := dk_183 0 1 (dk_at dksX17_init_0 1 rfl rfl)
theorem dX17_init_4 : decode cX17_init 4 = .ok (.aload_n 0, 1) := dk_42 (dk_at dksX17_init_0 4 rfl rfl)
theorem dX17_init_5 : decode cX17_init 5 = .ok (.aload_n 1, 1) := dk_43 (dk_at dksX17_init_0 5 rfl rfl)
theorem dX17_init_6 : decode cX17_init 6 = .ok (.putfield 7, 3) := dk_181 0 7 (dk_at dksX17_init_0 6 rfl rfl)
theorem dX17_init_9 : decode cX17_init 9 = .ok (.aload_n 0, 1) := dk_42 (dk_at dksX17_init_0 9 rfl rfl)
theorem dX17_init_10 : decode cX17_init 10 = .ok (.iload_n 2, 1) := dk_28 (dk_at dksX17_init_0 10 rfl rfl)
theorem dX17_init_11 : decode cX17_init 11 = .ok (.putfield 13, 3) := dk_181 0 13 (dk_at dksX17_init_0 11 rfl rfl)
theorem dX17_init_14 : decode cX17_init 14 = .ok (.aload_n 0, 1) := dk_42 (dk_at dksX17_init_0 14 rfl rfl)
theorem dX17_init_15 : decode cX17_init 15 = .ok (.iload_n 3, 1) := dk_29 (dk_at dksX17_init_0 15 rfl rfl)
theorem dX17_init_16 : decode cX17_init 16 = .ok (.putfield 17, 3) := dk_181 0 17 (dk_at dksX17_init_0 16 rfl rfl)
theorem dX17_init_19 : decode cX17_init 19 = .ok (.return_, 1) := dk_177 (dk_at dksX17_init_0 19 rfl rfl)
theorem q87 : (Jvm.Cond.initialized "LightPlate$Finding") ∈ lw_all := lw_g (lw_at lw_m1 28 rfl) rfl
theorem q820 : (Jvm.Cond.selects "LightPlate$Finding" ({ cls := "java/lang/Object", name := "getClass", desc := "()Ljava/lang/Class;" } : Jvm.MethodName) ({ cls := "java/lang/Object", name := "getClass", desc := "()Ljava/lang/Class;" } : Jvm.MethodName)) ∈ lw_all := lw_g (lw_at lw_m4 41 rfl) rfl
theorem q960 : (Jvm.Cond.instantiable "LightPlate$Finding" (3 : Nat)) ∈ lw_all := lw_g (lw_at lw_m4 181 rfl) rfl
theorem q962 : (Jvm.Cond.instanceMethod ({ cls := "LightPlate$Finding", name := "<init>", desc := "(LLightPlate$Cell;II)V" } : Jvm.MethodName)) ∈ lw_all := lw_g (lw_at lw_m4 183 rfl) rfl
theorem q963 : (Jvm.Cond.code ({ cls := "LightPlate$Finding", name := "<init>", desc := "(LLightPlate$Cell;II)V" } : Jvm.MethodName) prog_5_method_1_code (4 : Nat) (Option.none : Option Jvm.ClassFile.FieldType)) ∈ lw_all := lw_g (lw_at lw_m4 184 rfl) rfl
theorem q964 : (Jvm.Cond.methodLink "LightPlate$Finding" (1 : Nat) ({ cls := "java/lang/Object", name := "<init>", desc := "()V" } : Jvm.MethodName)) ∈ lw_all := lw_g (lw_at lw_m4 185 rfl) rfl
theorem q965 : (Jvm.Cond.fieldLink "LightPlate$Finding" (7 : Nat) "LightPlate$Finding" "cell" "LLightPlate$Cell;") ∈ lw_all := lw_g (lw_at lw_m4 186 rfl) rfl
theorem q967 : (Jvm.Cond.fieldLink "LightPlate$Finding" (13 : Nat) "LightPlate$Finding" "offset" "I") ∈ lw_all := lw_g (lw_at lw_m4 188 rfl) rfl
theorem q969 : (Jvm.Cond.fieldLink "LightPlate$Finding" (17 : Nat) "LightPlate$Finding" "tick" "I") ∈ lw_all := lw_g (lw_at lw_m4 190 rfl) rfl
theorem q971 : (Jvm.Cond.laysFinal "LightPlate$Finding" "LightPlate$Finding" "cell" "LLightPlate$Cell;") ∈ lw_all := lw_g (lw_at lw_m4 192 rfl) rfl
theorem q972 : (Jvm.Cond.soleField "LightPlate$Finding" "cell") ∈ lw_all := lw_g (lw_at lw_m4 193 rfl) rfl
theorem q973 : (Jvm.Cond.laysFinal "LightPlate$Finding" "LightPlate$Finding" "offset" "I") ∈ lw_all := lw_g (lw_at lw_m4 194 rfl) rfl
theorem q974 : (Jvm.Cond.soleField "LightPlate$Finding" "offset") ∈ lw_all := lw_g (lw_at lw_m4 195 rfl) rfl
theorem q975 : (Jvm.Cond.laysFinal "LightPlate$Finding" "LightPlate$Finding" "tick" "I") ∈ lw_all := lw_g (lw_at lw_m4 196 rfl) rfl
theorem q976 : (Jvm.Cond.soleField "LightPlate$Finding" "tick") ∈ lw_all := lw_g (lw_at lw_m4 197 rfl) rfl
theorem q977 : (Jvm.Cond.superclass "LightPlate$Finding" "java/lang/Object") ∈ lw_all := lw_g (lw_at lw_m4 198 rfl) rfl
theorem q1502 : (Jvm.Cond.castable "LightPlate$Finding" "java/lang/Object") ∈ lw_tbl := lw_at lw_m7 3 rfl
theorem in_X17 : ∀ w ∈ wsX170, w ∈ lw_all := lw_in wsX170 [971, 973, 975] (by decide +kernel) (by decide +kernel)
/-! LightPlate$Hypothesis -/
set_option maxRecDepth 100000
def RX18 : String := "LightPlate$Hypothesis"
def TX18 : u_T := fun k => match k with
  | 0 => ("LightPlate$Hypothesis", "cell", "LLightPlate$Cell;", true)
  | 1 => ("LightPlate$Hypothesis", "more", "I", true)
  | _ => ("LightPlate$Hypothesis", "isHeld", "Z", false)
def tyX18 : Nat → FieldType := fun k => match k with
  | 0 => .object "LightPlate$Cell"
  | 1 => .int
  | _ => .boolean
abbrev wsX180 : List Cond := u_ws RX18 TX18 3
theorem nmX18 : ∀ a, a < 3 → ∀ b, b < 3 → a ≠ b → (TX18 a).2.1 ≠ (TX18 b).2.1 := by decide +kernel
theorem tyX18_ok : ∀ k, k < 3 → parseFieldDescriptor (TX18 k).2.2.1 = some (tyX18 k) := by decide +kernel
abbrev cX18_init : ByteArray := prog_7_method_1_code
def yX18_init : MethodName := ⟨RX18, "<init>", "(LLightPlate$Cell;I)V"⟩
def dkwX18_init_0 : List UInt8 := [42, 183, 0, 1, 42, 4, 181, 0, 7, 42, 43, 181, 0, 13, 42, 28, 181, 0, 17, 177]
abbrev dktX18_init_0 : List UInt8 := dkwX18_init_0 ++ []
theorem dksX18_init_0 : cX18_init.data.toList.drop 0 = dktX18_init_0 := by decide +kernel
theorem dX18_init_0 : decode cX18_init 0 = .ok (.aload_n 0, 1) := dk_42 (dk_at dksX18_init_0 0 rfl rfl)
theorem dX18_init_1 : decode cX18_init 1 = .ok (.invokespecial 1, 3) := dk_183 0 1 (dk_at dksX18_init_0 1 rfl rfl)
theorem dX18_init_4 : decode cX18_init 4 = .ok (.aload_n 0, 1) := dk_42 (dk_at dksX18_init_0 4 rfl rfl)
theorem dX18_init_5 : decode cX18_init 5 = .ok (.iconst 1, 1) := dk_4 (dk_at dksX18_init_0 5 rfl rfl)
theorem dX18_init_6 : decode cX18_init 6 = .ok (.putfield 7, 3) := dk_181 0 7 (dk_at dksX18_init_0 6 rfl rfl)
theorem dX18_init_9 : decode cX18_init 9 = .ok (.aload_n 0, 1) := dk_42 (dk_at dksX18_init_0 9 rfl rfl)
theorem dX18_init_10 : decode cX18_init 10 = .ok (.aload_n 1, 1) := dk_43 (dk_at dksX18_init_0 10 rfl rfl)
theorem dX18_init_11 : decode cX18_init 11 = .ok (.putfield 13, 3) := dk_181 0 13 (dk_at dksX18_init_0 11 rfl rfl)
theorem dX18_init_14 : decode cX18_init 14 = .ok (.aload_n 0, 1) := dk_42 (dk_at dksX18_init_0 14 rfl rfl)
theorem dX18_init_15 : decode cX18_init 15 = .ok (.iload_n 2, 1) := dk_28 (dk_at dksX18_init_0 15 rfl rfl)
theorem dX18_init_16 : decode cX18_init 16 = .ok (.putfield 17, 3) := dk_181 0 17 (dk_at dksX18_init_0 16 rfl rfl)
theorem dX18_init_19 : decode cX18_init 19 = .ok (.return_, 1) := dk_177 (dk_at dksX18_init_0 19 rfl rfl)
theorem q88 : (Jvm.Cond.initialized "LightPlate$Hypothesis") ∈ lw_all := lw_g (lw_at lw_m1 29 rfl) rfl
theorem q822 : (Jvm.Cond.selects "LightPlate$Hypothesis" ({ cls := "java/lang/Object", name := "getClass", desc := "()Ljava/lang/Class;" } : Jvm.MethodName) ({ cls := "java/lang/Object", name := "getClass", desc := "()Ljava/lang/Class;" } : Jvm.MethodName)) ∈ lw_all := lw_g (lw_at lw_m4 43 rfl) rfl
theorem q987 : (Jvm.Cond.instantiable "LightPlate$Hypothesis" (3 : Nat)) ∈ lw_all := lw_g (lw_at lw_m4 208 rfl) rfl
theorem q989 : (Jvm.Cond.instanceMethod ({ cls := "LightPlate$Hypothesis", name := "<init>", desc := "(LLightPlate$Cell;I)V" } : Jvm.MethodName)) ∈ lw_all := lw_g (lw_at lw_m4 210 rfl) rfl
theorem q990 : (Jvm.Cond.code ({ cls := "LightPlate$Hypothesis", name := "<init>", desc := "(LLightPlate$Cell;I)V" } : Jvm.MethodName) prog_7_method_1_code (3 : Nat) (Option.none : Option Jvm.ClassFile.FieldType)) ∈ lw_all := lw_g (lw_at lw_m4 211 rfl) rfl
theorem q991 : (Jvm.Cond.methodLink "LightPlate$Hypothesis" (1 : Nat) ({ cls := "java/lang/Object", name := "<init>", desc := "()V" } : Jvm.MethodName)) ∈ lw_all := lw_g (lw_at lw_m4 212 rfl) rfl
theorem q992 : (Jvm.Cond.fieldLink "LightPlate$Hypothesis" (13 : Nat) "LightPlate$Hypothesis" "cell" "LLightPlate$Cell;") ∈ lw_all := lw_g (lw_at lw_m4 213 rfl) rfl
theorem q994 : (Jvm.Cond.fieldLink "LightPlate$Hypothesis" (17 : Nat) "LightPlate$Hypothesis" "more" "I") ∈ lw_all := lw_g (lw_at lw_m4 215 rfl) rfl
theorem q996 : (Jvm.Cond.fieldLink "LightPlate$Hypothesis" (7 : Nat) "LightPlate$Hypothesis" "isHeld" "Z") ∈ lw_all := lw_g (lw_at lw_m4 217 rfl) rfl
theorem q998 : (Jvm.Cond.laysFinal "LightPlate$Hypothesis" "LightPlate$Hypothesis" "cell" "LLightPlate$Cell;") ∈ lw_all := lw_g (lw_at lw_m4 219 rfl) rfl
theorem q999 : (Jvm.Cond.soleField "LightPlate$Hypothesis" "cell") ∈ lw_all := lw_g (lw_at lw_m4 220 rfl) rfl
theorem q1000 : (Jvm.Cond.laysFinal "LightPlate$Hypothesis" "LightPlate$Hypothesis" "more" "I") ∈ lw_all := lw_g (lw_at lw_m4 221 rfl) rfl
theorem q1001 : (Jvm.Cond.soleField "LightPlate$Hypothesis" "more") ∈ lw_all := lw_g (lw_at lw_m4 222 rfl) rfl
theorem q1002 : (Jvm.Cond.lays "LightPlate$Hypothesis" "LightPlate$Hypothesis" "isHeld" "Z") ∈ lw_all := lw_g (lw_at lw_m4 223 rfl) rfl
theorem q1003 : (Jvm.Cond.soleField "LightPlate$Hypothesis" "isHeld") ∈ lw_all := lw_g (lw_at lw_m4 224 rfl) rfl
theorem q1004 : (Jvm.Cond.superclass "LightPlate$Hypothesis" "java/lang/Object") ∈ lw_all := lw_g (lw_at lw_m4 225 rfl) rfl
theorem q1503 : (Jvm.Cond.castable "LightPlate$Hypothesis" "java/lang/Object") ∈ lw_tbl := lw_at lw_m7 4 rfl
theorem in_X18 : ∀ w ∈ wsX180, w ∈ lw_all := lw_in wsX180 [998, 1000, 1002] (by decide +kernel) (by decide +kernel)
/-! LightPlate$Look -/
set_option maxRecDepth 100000
def RX2 : String := "LightPlate$Look"
abbrev cX2_init : ByteArray := prog_8_method_1_code
def yX2_init : MethodName := ⟨RX2, "<init>", "(LLightPlate;)V"⟩
def dkwX2_init_0 : List UInt8 := [42, 43, 181, 0, 1, 42, 183, 0, 7, 177]
abbrev dktX2_init_0 : List UInt8 := dkwX2_init_0 ++ []
theorem dksX2_init_0 : cX2_init.data.toList.drop 0 = dktX2_init_0 := by decide +kernel
theorem dX2_init_0 : decode cX2_init 0 = .ok (.aload_n 0, 1) := dk_42 (dk_at dksX2_init_0 0 rfl rfl)
theorem dX2_init_1 : decode cX2_init 1 = .ok (.aload_n 1, 1) := dk_43 (dk_at dksX2_init_0 1 rfl rfl)
theorem dX2_init_2 : decode cX2_init 2 = .ok (.putfield 1, 3) := dk_181 0 1 (dk_at dksX2_init_0 2 rfl rfl)
theorem dX2_init_5 : decode cX2_init 5 = .ok (.aload_n 0, 1) := dk_42 (dk_at dksX2_init_0 5 rfl rfl)
theorem dX2_init_6 : decode cX2_init 6 = .ok (.invokespecial 7, 3) := dk_183 0 7 (dk_at dksX2_init_0 6 rfl rfl)
theorem dX2_init_9 : decode cX2_init 9 = .ok (.return_, 1) := dk_177 (dk_at dksX2_init_0 9 rfl rfl)
abbrev cX2_turn : ByteArray := prog_8_method_6_code
def yX2_turn : MethodName := ⟨RX2, "turn", "(LLightPlate$Cell;)I"⟩
def dkwX2_turn_3 : List UInt8 := [182, 0, 53, 96, 184, 0, 56, 172]
abbrev dktX2_turn_3 : List UInt8 := dkwX2_turn_3 ++ []
def dkwX2_turn_2 : List UInt8 := [42, 180, 0, 1, 180, 0, 50, 108, 167, 0, 4, 3, 61, 42, 43, 182, 0, 29, 28, 96, 42, 43]
abbrev dktX2_turn_2 : List UInt8 := dkwX2_turn_2 ++ dktX2_turn_3
def dkwX2_turn_1 : List UInt8 := [43, 180, 0, 43, 5, 100, 182, 0, 46, 42, 43, 180, 0, 40, 43, 180, 0, 43, 5, 96, 182, 0, 46, 96]
abbrev dktX2_turn_1 : List UInt8 := dkwX2_turn_1 ++ dktX2_turn_2
def dkwX2_turn_0 : List UInt8 := [43, 182, 0, 19, 153, 0, 8, 43, 180, 0, 25, 172, 42, 182, 0, 37, 153, 0, 43, 42, 43, 180, 0, 40]
abbrev dktX2_turn_0 : List UInt8 := dkwX2_turn_0 ++ dktX2_turn_1
theorem dksX2_turn_0 : cX2_turn.data.toList.drop 0 = dktX2_turn_0 := by decide +kernel
theorem dksX2_turn_1 : cX2_turn.data.toList.drop 24 = dktX2_turn_1 := dk_seg dksX2_turn_0 24 rfl rfl
theorem dksX2_turn_2 : cX2_turn.data.toList.drop 48 = dktX2_turn_2 := dk_seg dksX2_turn_1 24 rfl rfl
theorem dksX2_turn_3 : cX2_turn.data.toList.drop 70 = dktX2_turn_3 := dk_seg dksX2_turn_2 22 rfl rfl
theorem dX2_turn_0 : decode cX2_turn 0 = .ok (.aload_n 1, 1) := dk_43 (dk_at dksX2_turn_0 0 rfl rfl)
theorem dX2_turn_1 : decode cX2_turn 1 = .ok (.invokevirtual 19, 3) := dk_182 0 19 (dk_at dksX2_turn_0 1 rfl rfl)
theorem dX2_turn_4 : decode cX2_turn 4 = .ok (.ifCond .eq 8, 3) := dk_153 0 8 (dk_at dksX2_turn_0 4 rfl rfl)
theorem dX2_turn_7 : decode cX2_turn 7 = .ok (.aload_n 1, 1) := dk_43 (dk_at dksX2_turn_0 7 rfl rfl)
theorem dX2_turn_8 : decode cX2_turn 8 = .ok (.getfield 25, 3) := dk_180 0 25 (dk_at dksX2_turn_0 8 rfl rfl)
theorem dX2_turn_11 : decode cX2_turn 11 = .ok (.ireturn, 1) := dk_172 (dk_at dksX2_turn_0 11 rfl rfl)
theorem dX2_turn_12 : decode cX2_turn 12 = .ok (.aload_n 0, 1) := dk_42 (dk_at dksX2_turn_0 12 rfl rfl)
theorem dX2_turn_13 : decode cX2_turn 13 = .ok (.invokevirtual 37, 3) := dk_182 0 37 (dk_at dksX2_turn_0 13 rfl rfl)
theorem dX2_turn_16 : decode cX2_turn 16 = .ok (.ifCond .eq 43, 3) := dk_153 0 43 (dk_at dksX2_turn_0 16 rfl rfl)
theorem dX2_turn_19 : decode cX2_turn 19 = .ok (.aload_n 0, 1) := dk_42 (dk_at dksX2_turn_0 19 rfl rfl)
theorem dX2_turn_20 : decode cX2_turn 20 = .ok (.aload_n 1, 1) := dk_43 (dk_at dksX2_turn_0 20 rfl rfl)
theorem dX2_turn_21 : decode cX2_turn 21 = .ok (.getfield 40, 3) := dk_180 0 40 (dk_at dksX2_turn_0 21 rfl rfl)
theorem dX2_turn_24 : decode cX2_turn 24 = .ok (.aload_n 1, 1) := dk_43 (dk_at dksX2_turn_1 0 rfl rfl)
theorem dX2_turn_25 : decode cX2_turn 25 = .ok (.getfield 43, 3) := dk_180 0 43 (dk_at dksX2_turn_1 1 rfl rfl)
theorem dX2_turn_28 : decode cX2_turn 28 = .ok (.iconst 2, 1) := dk_5 (dk_at dksX2_turn_1 4 rfl rfl)
theorem dX2_turn_29 : decode cX2_turn 29 = .ok (.isub, 1) := dk_100 (dk_at dksX2_turn_1 5 rfl rfl)
theorem dX2_turn_30 : decode cX2_turn 30 = .ok (.invokevirtual 46, 3) := dk_182 0 46 (dk_at dksX2_turn_1 6 rfl rfl)
theorem dX2_turn_33 : decode cX2_turn 33 = .ok (.aload_n 0, 1) := dk_42 (dk_at dksX2_turn_1 9 rfl rfl)
theorem dX2_turn_34 : decode cX2_turn 34 = .ok (.aload_n 1, 1) := dk_43 (dk_at dksX2_turn_1 10 rfl rfl)
theorem dX2_turn_35 : decode cX2_turn 35 = .ok (.getfield 40, 3) := dk_180 0 40 (dk_at dksX2_turn_1 11 rfl rfl)
theorem dX2_turn_38 : decode cX2_turn 38 = .ok (.aload_n 1, 1) := dk_43 (dk_at dksX2_turn_1 14 rfl rfl)
theorem dX2_turn_39 : decode cX2_turn 39 = .ok (.getfield 43, 3) := dk_180 0 43 (dk_at dksX2_turn_1 15 rfl rfl)
theorem dX2_turn_42 : decode cX2_turn 42 = .ok (.iconst 2, 1) := dk_5 (dk_at dksX2_turn_1 18 rfl rfl)
theorem dX2_turn_43 : decode cX2_turn 43 = .ok (.iadd, 1) := dk_96 (dk_at dksX2_turn_1 19 rfl rfl)
theorem dX2_turn_44 : decode cX2_turn 44 = .ok (.invokevirtual 46, 3) := dk_182 0 46 (dk_at dksX2_turn_1 20 rfl rfl)
theorem dX2_turn_47 : decode cX2_turn 47 = .ok (.iadd, 1) := dk_96 (dk_at dksX2_turn_1 23 rfl rfl)
theorem dX2_turn_48 : decode cX2_turn 48 = .ok (.aload_n 0, 1) := dk_42 (dk_at dksX2_turn_2 0 rfl rfl)
theorem dX2_turn_49 : decode cX2_turn 49 = .ok (.getfield 1, 3) := dk_180 0 1 (dk_at dksX2_turn_2 1 rfl rfl)
theorem dX2_turn_52 : decode cX2_turn 52 = .ok (.getfield 50, 3) := dk_180 0 50 (dk_at dksX2_turn_2 4 rfl rfl)
theorem dX2_turn_55 : decode cX2_turn 55 = .ok (.idiv, 1) := dk_108 (dk_at dksX2_turn_2 7 rfl rfl)
theorem dX2_turn_56 : decode cX2_turn 56 = .ok (.goto 4, 3) := dk_167 0 4 (dk_at dksX2_turn_2 8 rfl rfl)
theorem dX2_turn_59 : decode cX2_turn 59 = .ok (.iconst 0, 1) := dk_3 (dk_at dksX2_turn_2 11 rfl rfl)
theorem dX2_turn_60 : decode cX2_turn 60 = .ok (.istore_n 2, 1) := dk_61 (dk_at dksX2_turn_2 12 rfl rfl)
theorem dX2_turn_61 : decode cX2_turn 61 = .ok (.aload_n 0, 1) := dk_42 (dk_at dksX2_turn_2 13 rfl rfl)
theorem dX2_turn_62 : decode cX2_turn 62 = .ok (.aload_n 1, 1) := dk_43 (dk_at dksX2_turn_2 14 rfl rfl)
theorem dX2_turn_63 : decode cX2_turn 63 = .ok (.invokevirtual 29, 3) := dk_182 0 29 (dk_at dksX2_turn_2 15 rfl rfl)
theorem dX2_turn_66 : decode cX2_turn 66 = .ok (.iload_n 2, 1) := dk_28 (dk_at dksX2_turn_2 18 rfl rfl)
theorem dX2_turn_67 : decode cX2_turn 67 = .ok (.iadd, 1) := dk_96 (dk_at dksX2_turn_2 19 rfl rfl)
theorem dX2_turn_68 : decode cX2_turn 68 = .ok (.aload_n 0, 1) := dk_42 (dk_at dksX2_turn_2 20 rfl rfl)
theorem dX2_turn_69 : decode cX2_turn 69 = .ok (.aload_n 1, 1) := dk_43 (dk_at dksX2_turn_2 21 rfl rfl)
theorem dX2_turn_70 : decode cX2_turn 70 = .ok (.invokevirtual 53, 3) := dk_182 0 53 (dk_at dksX2_turn_3 0 rfl rfl)
theorem dX2_turn_73 : decode cX2_turn 73 = .ok (.iadd, 1) := dk_96 (dk_at dksX2_turn_3 3 rfl rfl)
theorem dX2_turn_74 : decode cX2_turn 74 = .ok (.invokestatic 56, 3) := dk_184 0 56 (dk_at dksX2_turn_3 4 rfl rfl)
theorem dX2_turn_77 : decode cX2_turn 77 = .ok (.ireturn, 1) := dk_172 (dk_at dksX2_turn_3 7 rfl rfl)
abbrev cX2_isWarm : ByteArray := prog_8_method_4_code
def yX2_isWarm : MethodName := ⟨RX2, "isWarm", "()Z"⟩
theorem dX2_isWarm_0 : decode cX2_isWarm 0 = .ok (.iconst 1, 1) := by decide +kernel
theorem dX2_isWarm_1 : decode cX2_isWarm 1 = .ok (.ireturn, 1) := by decide +kernel
abbrev cX2_heatAt : ByteArray := prog_8_method_5_code
def yX2_heatAt : MethodName := ⟨RX2, "heatAt", "(II)I"⟩
def dkwX2_heatAt_1 : List UInt8 := [153, 0, 10, 45, 180, 0, 25, 167, 0, 8, 42, 45, 182, 0, 29, 184, 0, 33, 172]
abbrev dktX2_heatAt_1 : List UInt8 := dkwX2_heatAt_1 ++ []
def dkwX2_heatAt_0 : List UInt8 := [42, 180, 0, 1, 27, 28, 182, 0, 13, 78, 45, 199, 0, 7, 3, 167, 0, 25, 45, 182, 0, 19]
abbrev dktX2_heatAt_0 : List UInt8 := dkwX2_heatAt_0 ++ dktX2_heatAt_1
theorem dksX2_heatAt_0 : cX2_heatAt.data.toList.drop 0 = dktX2_heatAt_0 := by decide +kernel
theorem dksX2_heatAt_1 : cX2_heatAt.data.toList.drop 22 = dktX2_heatAt_1 := dk_seg dksX2_heatAt_0 22 rfl rfl
theorem dX2_heatAt_0 : decode cX2_heatAt 0 = .ok (.aload_n 0, 1) := dk_42 (dk_at dksX2_heatAt_0 0 rfl rfl)
theorem dX2_heatAt_1 : decode cX2_heatAt 1 = .ok (.getfield 1, 3) := dk_180 0 1 (dk_at dksX2_heatAt_0 1 rfl rfl)
theorem dX2_heatAt_4 : decode cX2_heatAt 4 = .ok (.iload_n 1, 1) := dk_27 (dk_at dksX2_heatAt_0 4 rfl rfl)
theorem dX2_heatAt_5 : decode cX2_heatAt 5 = .ok (.iload_n 2, 1) := dk_28 (dk_at dksX2_heatAt_0 5 rfl rfl)
theorem dX2_heatAt_6 : decode cX2_heatAt 6 = .ok (.invokevirtual 13, 3) := dk_182 0 13 (dk_at dksX2_heatAt_0 6 rfl rfl)
theorem dX2_heatAt_9 : decode cX2_heatAt 9 = .ok (.astore_n 3, 1) := dk_78 (dk_at dksX2_heatAt_0 9 rfl rfl)
theorem dX2_heatAt_10 : decode cX2_heatAt 10 = .ok (.aload_n 3, 1) := dk_45 (dk_at dksX2_heatAt_0 10 rfl rfl)
theorem dX2_heatAt_11 : decode cX2_heatAt 11 = .ok (.ifnonnull 7, 3) := dk_199 0 7 (dk_at dksX2_heatAt_0 11 rfl rfl)
theorem dX2_heatAt_14 : decode cX2_heatAt 14 = .ok (.iconst 0, 1) := dk_3 (dk_at dksX2_heatAt_0 14 rfl rfl)
theorem dX2_heatAt_15 : decode cX2_heatAt 15 = .ok (.goto 25, 3) := dk_167 0 25 (dk_at dksX2_heatAt_0 15 rfl rfl)
theorem dX2_heatAt_18 : decode cX2_heatAt 18 = .ok (.aload_n 3, 1) := dk_45 (dk_at dksX2_heatAt_0 18 rfl rfl)
theorem dX2_heatAt_19 : decode cX2_heatAt 19 = .ok (.invokevirtual 19, 3) := dk_182 0 19 (dk_at dksX2_heatAt_0 19 rfl rfl)
theorem dX2_heatAt_22 : decode cX2_heatAt 22 = .ok (.ifCond .eq 10, 3) := dk_153 0 10 (dk_at dksX2_heatAt_1 0 rfl rfl)
theorem dX2_heatAt_25 : decode cX2_heatAt 25 = .ok (.aload_n 3, 1) := dk_45 (dk_at dksX2_heatAt_1 3 rfl rfl)
theorem dX2_heatAt_26 : decode cX2_heatAt 26 = .ok (.getfield 25, 3) := dk_180 0 25 (dk_at dksX2_heatAt_1 4 rfl rfl)
theorem dX2_heatAt_29 : decode cX2_heatAt 29 = .ok (.goto 8, 3) := dk_167 0 8 (dk_at dksX2_heatAt_1 7 rfl rfl)
theorem dX2_heatAt_32 : decode cX2_heatAt 32 = .ok (.aload_n 0, 1) := dk_42 (dk_at dksX2_heatAt_1 10 rfl rfl)
theorem dX2_heatAt_33 : decode cX2_heatAt 33 = .ok (.aload_n 3, 1) := dk_45 (dk_at dksX2_heatAt_1 11 rfl rfl)
theorem dX2_heatAt_34 : decode cX2_heatAt 34 = .ok (.invokevirtual 29, 3) := dk_182 0 29 (dk_at dksX2_heatAt_1 12 rfl rfl)
theorem dX2_heatAt_37 : decode cX2_heatAt 37 = .ok (.invokestatic 33, 3) := dk_184 0 33 (dk_at dksX2_heatAt_1 15 rfl rfl)
theorem dX2_heatAt_40 : decode cX2_heatAt 40 = .ok (.ireturn, 1) := dk_172 (dk_at dksX2_heatAt_1 18 rfl rfl)
abbrev cX2_go : ByteArray := prog_8_method_7_code
def yX2_go : MethodName := ⟨RX2, "go", "([I)V"⟩
def dkwX2_go_2 : List UInt8 := [182, 0, 66, 132, 4, 1, 167, 255, 217, 177]
abbrev dktX2_go_2 : List UInt8 := dkwX2_go_2 ++ []
def dkwX2_go_1 : List UInt8 := [58, 5, 25, 5, 198, 0, 22, 42, 180, 0, 1, 43, 25, 5, 180, 0, 43, 42, 25, 5, 182, 0, 63]
abbrev dktX2_go_1 : List UInt8 := dkwX2_go_1 ++ dktX2_go_2
def dkwX2_go_0 : List UInt8 := [42, 180, 0, 1, 180, 0, 59, 77, 44, 190, 62, 3, 54, 4, 21, 4, 29, 162, 0, 39, 44, 21, 4, 50]
abbrev dktX2_go_0 : List UInt8 := dkwX2_go_0 ++ dktX2_go_1
theorem dksX2_go_0 : cX2_go.data.toList.drop 0 = dktX2_go_0 := by decide +kernel
theorem dksX2_go_1 : cX2_go.data.toList.drop 24 = dktX2_go_1 := dk_seg dksX2_go_0 24 rfl rfl
theorem dksX2_go_2 : cX2_go.data.toList.drop 47 = dktX2_go_2 := dk_seg dksX2_go_1 23 rfl rfl
theorem dX2_go_0 : decode cX2_go 0 = .ok (.aload_n 0, 1) := dk_42 (dk_at dksX2_go_0 0 rfl rfl)
theorem dX2_go_1 : decode cX2_go 1 = .ok (.getfield 1, 3) := dk_180 0 1 (dk_at dksX2_go_0 1 rfl rfl)
theorem dX2_go_4 : decode cX2_go 4 = .ok (.getfield 59, 3) := dk_180 0 59 (dk_at dksX2_go_0 4 rfl rfl)
theorem dX2_go_7 : decode cX2_go 7 = .ok (.astore_n 2, 1) := dk_77 (dk_at dksX2_go_0 7 rfl rfl)
theorem dX2_go_8 : decode cX2_go 8 = .ok (.aload_n 2, 1) := dk_44 (dk_at dksX2_go_0 8 rfl rfl)
theorem dX2_go_9 : decode cX2_go 9 = .ok (.arraylength, 1) := dk_190 (dk_at dksX2_go_0 9 rfl rfl)
theorem dX2_go_10 : decode cX2_go 10 = .ok (.istore_n 3, 1) := dk_62 (dk_at dksX2_go_0 10 rfl rfl)
theorem dX2_go_11 : decode cX2_go 11 = .ok (.iconst 0, 1) := dk_3 (dk_at dksX2_go_0 11 rfl rfl)
theorem dX2_go_12 : decode cX2_go 12 = .ok (.istore 4, 2) := dk_54 4 (dk_at dksX2_go_0 12 rfl rfl)
theorem dX2_go_14 : decode cX2_go 14 = .ok (.iload 4, 2) := dk_21 4 (dk_at dksX2_go_0 14 rfl rfl)
theorem dX2_go_16 : decode cX2_go 16 = .ok (.iload_n 3, 1) := dk_29 (dk_at dksX2_go_0 16 rfl rfl)
theorem dX2_go_17 : decode cX2_go 17 = .ok (.if_icmp .ge 39, 3) := dk_162 0 39 (dk_at dksX2_go_0 17 rfl rfl)
theorem dX2_go_20 : decode cX2_go 20 = .ok (.aload_n 2, 1) := dk_44 (dk_at dksX2_go_0 20 rfl rfl)
theorem dX2_go_21 : decode cX2_go 21 = .ok (.iload 4, 2) := dk_21 4 (dk_at dksX2_go_0 21 rfl rfl)
theorem dX2_go_23 : decode cX2_go 23 = .ok (.aaload, 1) := dk_50 (dk_at dksX2_go_0 23 rfl rfl)
theorem dX2_go_24 : decode cX2_go 24 = .ok (.astore 5, 2) := dk_58 5 (dk_at dksX2_go_1 0 rfl rfl)
theorem dX2_go_26 : decode cX2_go 26 = .ok (.aload 5, 2) := dk_25 5 (dk_at dksX2_go_1 2 rfl rfl)
theorem dX2_go_28 : decode cX2_go 28 = .ok (.ifnull 22, 3) := dk_198 0 22 (dk_at dksX2_go_1 4 rfl rfl)
theorem dX2_go_31 : decode cX2_go 31 = .ok (.aload_n 0, 1) := dk_42 (dk_at dksX2_go_1 7 rfl rfl)
theorem dX2_go_32 : decode cX2_go 32 = .ok (.getfield 1, 3) := dk_180 0 1 (dk_at dksX2_go_1 8 rfl rfl)
theorem dX2_go_35 : decode cX2_go 35 = .ok (.aload_n 1, 1) := dk_43 (dk_at dksX2_go_1 11 rfl rfl)
theorem dX2_go_36 : decode cX2_go 36 = .ok (.aload 5, 2) := dk_25 5 (dk_at dksX2_go_1 12 rfl rfl)
theorem dX2_go_38 : decode cX2_go 38 = .ok (.getfield 43, 3) := dk_180 0 43 (dk_at dksX2_go_1 14 rfl rfl)
theorem dX2_go_41 : decode cX2_go 41 = .ok (.aload_n 0, 1) := dk_42 (dk_at dksX2_go_1 17 rfl rfl)
theorem dX2_go_42 : decode cX2_go 42 = .ok (.aload 5, 2) := dk_25 5 (dk_at dksX2_go_1 18 rfl rfl)
theorem dX2_go_44 : decode cX2_go 44 = .ok (.invokevirtual 63, 3) := dk_182 0 63 (dk_at dksX2_go_1 20 rfl rfl)
theorem dX2_go_47 : decode cX2_go 47 = .ok (.invokevirtual 66, 3) := dk_182 0 66 (dk_at dksX2_go_2 0 rfl rfl)
theorem dX2_go_50 : decode cX2_go 50 = .ok (.iinc 4 1, 3) := dk_132 4 1 (dk_at dksX2_go_2 3 rfl rfl)
theorem dX2_go_53 : decode cX2_go 53 = .ok (.goto (-39), 3) := dk_167 255 217 (dk_at dksX2_go_2 6 rfl rfl)
theorem dX2_go_56 : decode cX2_go 56 = .ok (.return_, 1) := dk_177 (dk_at dksX2_go_2 9 rfl rfl)
theorem q62 : (Jvm.Cond.initialized "LightPlate$Look") ∈ lw_all := lw_g (lw_at lw_m1 3 rfl) rfl
theorem q125 : (Jvm.Cond.instanceMethod ({ cls := "LightPlate$Look", name := "<init>", desc := "(LLightPlate;)V" } : Jvm.MethodName)) ∈ lw_all := lw_g (lw_at lw_m1 66 rfl) rfl
theorem q126 : (Jvm.Cond.code ({ cls := "LightPlate$Look", name := "<init>", desc := "(LLightPlate;)V" } : Jvm.MethodName) prog_8_method_1_code (2 : Nat) (Option.none : Option Jvm.ClassFile.FieldType)) ∈ lw_all := lw_g (lw_at lw_m1 67 rfl) rfl
theorem q127 : (Jvm.Cond.methodLink "LightPlate$Look" (7 : Nat) ({ cls := "java/lang/Object", name := "<init>", desc := "()V" } : Jvm.MethodName)) ∈ lw_all := lw_g (lw_at lw_m1 68 rfl) rfl
theorem q129 : (Jvm.Cond.fieldLink "LightPlate$Look" (1 : Nat) "LightPlate$Look" "this$0" "LLightPlate;") ∈ lw_all := lw_g (lw_at lw_m1 70 rfl) rfl
theorem q133 : (Jvm.Cond.soleField "LightPlate$Look" "this$0") ∈ lw_all := lw_g (lw_at lw_m1 74 rfl) rfl
theorem q247 : (Jvm.Cond.fieldLinkNest "LightPlate$Look" (40 : Nat) "LightPlate$Cell" "layer" "I" "LightPlate") ∈ lw_tbl := lw_at lw_m1 188 rfl
theorem q251 : (Jvm.Cond.fieldLinkNest "LightPlate$Look" (43 : Nat) "LightPlate$Cell" "lane" "I" "LightPlate") ∈ lw_tbl := lw_at lw_m1 192 rfl
theorem q258 : (Jvm.Cond.fieldLinkNest "LightPlate$Look" (25 : Nat) "LightPlate$Cell" "stuck" "I" "LightPlate") ∈ lw_tbl := lw_at lw_m1 199 rfl
theorem q287 : (Jvm.Cond.fieldLinkNest "LightPlate$Look" (59 : Nat) "LightPlate" "cells" "[LLightPlate$Cell;" "LightPlate") ∈ lw_tbl := lw_at lw_m1 228 rfl
theorem q289 : (Jvm.Cond.fieldLinkNest "LightPlate$Look" (50 : Nat) "LightPlate" "creep" "I" "LightPlate") ∈ lw_tbl := lw_at lw_m1 230 rfl
theorem q433 : (Jvm.Cond.declares ({ cls := "LightPlate$Look", name := "turn", desc := "(LLightPlate$Cell;)I" } : Jvm.MethodName)) ∈ lw_tbl := lw_at lw_m2 134 rfl
theorem q436 : (Jvm.Cond.instanceMethod ({ cls := "LightPlate$Look", name := "turn", desc := "(LLightPlate$Cell;)I" } : Jvm.MethodName)) ∈ lw_all := lw_g (lw_at lw_m2 137 rfl) rfl
theorem q437 : (Jvm.Cond.code ({ cls := "LightPlate$Look", name := "turn", desc := "(LLightPlate$Cell;)I" } : Jvm.MethodName) prog_8_method_6_code (3 : Nat) (Option.some Jvm.ClassFile.FieldType.int)) ∈ lw_all := lw_g (lw_at lw_m2 138 rfl) rfl
theorem q438 : (Jvm.Cond.methodLink "LightPlate$Look" (19 : Nat) ({ cls := "LightPlate$Cell", name := "isDead", desc := "()Z" } : Jvm.MethodName)) ∈ lw_all := lw_g (lw_at lw_m2 139 rfl) rfl
theorem q439 : (Jvm.Cond.methodLink "LightPlate$Look" (37 : Nat) ({ cls := "LightPlate$Look", name := "isWarm", desc := "()Z" } : Jvm.MethodName)) ∈ lw_all := lw_g (lw_at lw_m2 140 rfl) rfl
theorem q440 : (Jvm.Cond.instanceMethod ({ cls := "LightPlate$Look", name := "isWarm", desc := "()Z" } : Jvm.MethodName)) ∈ lw_all := lw_g (lw_at lw_m2 141 rfl) rfl
theorem q441 : (Jvm.Cond.sameMethod "LightPlate$Look" "LightPlate$Look" "isWarm" "()Z") ∈ lw_all := lw_g (lw_at lw_m2 142 rfl) rfl
theorem q451 : (Jvm.Cond.code ({ cls := "LightPlate$Look", name := "isWarm", desc := "()Z" } : Jvm.MethodName) prog_8_method_4_code (1 : Nat) (Option.some Jvm.ClassFile.FieldType.boolean)) ∈ lw_all := lw_g (lw_at lw_m2 152 rfl) rfl
theorem q452 : (Jvm.Cond.methodLink "LightPlate$Look" (46 : Nat) ({ cls := "LightPlate$Look", name := "heatAt", desc := "(II)I" } : Jvm.MethodName)) ∈ lw_all := lw_g (lw_at lw_m2 153 rfl) rfl
theorem q453 : (Jvm.Cond.privateMethod ({ cls := "LightPlate$Look", name := "heatAt", desc := "(II)I" } : Jvm.MethodName)) ∈ lw_tbl := lw_at lw_m2 154 rfl
theorem q454 : (Jvm.Cond.instanceMethod ({ cls := "LightPlate$Look", name := "heatAt", desc := "(II)I" } : Jvm.MethodName)) ∈ lw_all := lw_g (lw_at lw_m2 155 rfl) rfl
theorem q455 : (Jvm.Cond.code ({ cls := "LightPlate$Look", name := "heatAt", desc := "(II)I" } : Jvm.MethodName) prog_8_method_5_code (4 : Nat) (Option.some Jvm.ClassFile.FieldType.int)) ∈ lw_all := lw_g (lw_at lw_m2 156 rfl) rfl
theorem q456 : (Jvm.Cond.methodLinkNest "LightPlate$Look" (13 : Nat) ({ cls := "LightPlate", name := "cellAt", desc := "(II)LLightPlate$Cell;" } : Jvm.MethodName) "LightPlate") ∈ lw_tbl := lw_at lw_m2 157 rfl
theorem q457 : (Jvm.Cond.methodLink "LightPlate$Look" (29 : Nat) ({ cls := "LightPlate$Look", name := "setting", desc := "(LLightPlate$Cell;)I" } : Jvm.MethodName)) ∈ lw_all := lw_g (lw_at lw_m2 158 rfl) rfl
theorem q458 : (Jvm.Cond.declares ({ cls := "LightPlate$Look", name := "setting", desc := "(LLightPlate$Cell;)I" } : Jvm.MethodName)) ∈ lw_tbl := lw_at lw_m2 159 rfl
theorem q459 : (Jvm.Cond.sameMethod "LightPlate$Look" "LightPlate$Look" "setting" "(LLightPlate$Cell;)I") ∈ lw_all := lw_g (lw_at lw_m2 160 rfl) rfl
theorem q468 : (Jvm.Cond.methodLinkNest "LightPlate$Look" (33 : Nat) ({ cls := "LightPlate", name := "heat", desc := "(I)I" } : Jvm.MethodName) "LightPlate") ∈ lw_tbl := lw_at lw_m2 169 rfl
theorem q469 : (Jvm.Cond.methodLink "LightPlate$Look" (53 : Nat) ({ cls := "LightPlate$Look", name := "offset", desc := "(LLightPlate$Cell;)I" } : Jvm.MethodName)) ∈ lw_all := lw_g (lw_at lw_m2 170 rfl) rfl
theorem q470 : (Jvm.Cond.declares ({ cls := "LightPlate$Look", name := "offset", desc := "(LLightPlate$Cell;)I" } : Jvm.MethodName)) ∈ lw_tbl := lw_at lw_m2 171 rfl
theorem q471 : (Jvm.Cond.sameMethod "LightPlate$Look" "LightPlate$Look" "offset" "(LLightPlate$Cell;)I") ∈ lw_all := lw_g (lw_at lw_m2 172 rfl) rfl
theorem q509 : (Jvm.Cond.methodLinkNest "LightPlate$Look" (56 : Nat) ({ cls := "LightPlate", name := "whole", desc := "(I)I" } : Jvm.MethodName) "LightPlate") ∈ lw_tbl := lw_at lw_m2 210 rfl
theorem q519 : (Jvm.Cond.instanceMethod ({ cls := "LightPlate$Look", name := "go", desc := "([I)V" } : Jvm.MethodName)) ∈ lw_all := lw_g (lw_at lw_m2 220 rfl) rfl
theorem q520 : (Jvm.Cond.sameMethod "LightPlate$Look" "LightPlate$Look" "go" "([I)V") ∈ lw_all := lw_g (lw_at lw_m2 221 rfl) rfl
theorem q525 : (Jvm.Cond.code ({ cls := "LightPlate$Look", name := "go", desc := "([I)V" } : Jvm.MethodName) prog_8_method_7_code (6 : Nat) (Option.none : Option Jvm.ClassFile.FieldType)) ∈ lw_all := lw_g (lw_at lw_m2 226 rfl) rfl
theorem q526 : (Jvm.Cond.methodLink "LightPlate$Look" (63 : Nat) ({ cls := "LightPlate$Look", name := "turn", desc := "(LLightPlate$Cell;)I" } : Jvm.MethodName)) ∈ lw_all := lw_g (lw_at lw_m2 227 rfl) rfl
theorem q527 : (Jvm.Cond.methodLinkNest "LightPlate$Look" (66 : Nat) ({ cls := "LightPlate", name := "turns", desc := "([III)V" } : Jvm.MethodName) "LightPlate") ∈ lw_tbl := lw_at lw_m2 228 rfl
theorem q929 : (Jvm.Cond.declares ({ cls := "LightPlate$Look", name := "go", desc := "([I)V" } : Jvm.MethodName)) ∈ lw_tbl := lw_at lw_m4 150 rfl
theorem q1474 : (Jvm.Cond.sameMethod "LightPlate$Look" "LightPlate$Look" "heatAt" "(II)I") ∈ lw_all := lw_g (lw_at lw_m6 215 rfl) rfl
theorem q1475 : (Jvm.Cond.sameMethod "LightPlate$Look" "LightPlate$Look" "turn" "(LLightPlate$Cell;)I") ∈ lw_all := lw_g (lw_at lw_m6 216 rfl) rfl
/-! LightPlate$Plain -/
set_option maxRecDepth 100000
def RX3 : String := "LightPlate$Plain"
def TX3 : u_T := fun k => match k with
  | 0 => ("LightPlate$Look", "this$0", "LLightPlate;", true)
  | _ => ("LightPlate$Plain", "this$0", "LLightPlate;", true)
def tyX3 : Nat → FieldType := fun k => match k with
  | 0 => .object "LightPlate"
  | _ => .object "LightPlate"
abbrev wsX30 : List Cond := u_ws RX3 TX3 2
-- two fields of one name: no nmX3
theorem tyX3_ok : ∀ k, k < 2 → parseFieldDescriptor (TX3 k).2.2.1 = some (tyX3 k) := by decide +kernel
abbrev cX3_init : ByteArray := prog_10_method_1_code
def yX3_init : MethodName := ⟨RX3, "<init>", "(LLightPlate;)V"⟩
def dkwX3_init_0 : List UInt8 := [42, 43, 181, 0, 1, 42, 43, 183, 0, 7, 177]
abbrev dktX3_init_0 : List UInt8 := dkwX3_init_0 ++ []
theorem dksX3_init_0 : cX3_init.data.toList.drop 0 = dktX3_init_0 := by decide +kernel
theorem dX3_init_0 : decode cX3_init 0 = .ok (.aload_n 0, 1) := dk_42 (dk_at dksX3_init_0 0 rfl rfl)
theorem dX3_init_1 : decode cX3_init 1 = .ok (.aload_n 1, 1) := dk_43 (dk_at dksX3_init_0 1 rfl rfl)
theorem dX3_init_2 : decode cX3_init 2 = .ok (.putfield 1, 3) := dk_181 0 1 (dk_at dksX3_init_0 2 rfl rfl)
theorem dX3_init_5 : decode cX3_init 5 = .ok (.aload_n 0, 1) := dk_42 (dk_at dksX3_init_0 5 rfl rfl)
theorem dX3_init_6 : decode cX3_init 6 = .ok (.aload_n 1, 1) := dk_43 (dk_at dksX3_init_0 6 rfl rfl)
theorem dX3_init_7 : decode cX3_init 7 = .ok (.invokespecial 7, 3) := dk_183 0 7 (dk_at dksX3_init_0 7 rfl rfl)
theorem dX3_init_10 : decode cX3_init 10 = .ok (.return_, 1) := dk_177 (dk_at dksX3_init_0 10 rfl rfl)
abbrev cX3_isWarm : ByteArray := prog_10_method_4_code
def yX3_isWarm : MethodName := ⟨RX3, "isWarm", "()Z"⟩
theorem dX3_isWarm_0 : decode cX3_isWarm 0 = .ok (.iconst 0, 1) := by decide +kernel
theorem dX3_isWarm_1 : decode cX3_isWarm 1 = .ok (.ireturn, 1) := by decide +kernel
abbrev cX3_setting : ByteArray := prog_10_method_2_code
def yX3_setting : MethodName := ⟨RX3, "setting", "(LLightPlate$Cell;)I"⟩
theorem dX3_setting_0 : decode cX3_setting 0 = .ok (.aload_n 1, 1) := by decide +kernel
theorem dX3_setting_1 : decode cX3_setting 1 = .ok (.getfield 13, 3) := by decide +kernel
theorem dX3_setting_4 : decode cX3_setting 4 = .ok (.ireturn, 1) := by decide +kernel
abbrev cX3_offset : ByteArray := prog_10_method_3_code
def yX3_offset : MethodName := ⟨RX3, "offset", "(LLightPlate$Cell;)I"⟩
theorem dX3_offset_0 : decode cX3_offset 0 = .ok (.iconst 0, 1) := by decide +kernel
theorem dX3_offset_1 : decode cX3_offset 1 = .ok (.ireturn, 1) := by decide +kernel
theorem q63 : (Jvm.Cond.initialized "LightPlate$Plain") ∈ lw_all := lw_g (lw_at lw_m1 4 rfl) rfl
theorem q120 : (Jvm.Cond.instantiable "LightPlate$Plain" (2 : Nat)) ∈ lw_all := lw_g (lw_at lw_m1 61 rfl) rfl
theorem q122 : (Jvm.Cond.instanceMethod ({ cls := "LightPlate$Plain", name := "<init>", desc := "(LLightPlate;)V" } : Jvm.MethodName)) ∈ lw_all := lw_g (lw_at lw_m1 63 rfl) rfl
theorem q123 : (Jvm.Cond.code ({ cls := "LightPlate$Plain", name := "<init>", desc := "(LLightPlate;)V" } : Jvm.MethodName) prog_10_method_1_code (2 : Nat) (Option.none : Option Jvm.ClassFile.FieldType)) ∈ lw_all := lw_g (lw_at lw_m1 64 rfl) rfl
theorem q124 : (Jvm.Cond.methodLinkNest "LightPlate$Plain" (7 : Nat) ({ cls := "LightPlate$Look", name := "<init>", desc := "(LLightPlate;)V" } : Jvm.MethodName) "LightPlate") ∈ lw_tbl := lw_at lw_m1 65 rfl
theorem q128 : (Jvm.Cond.fieldLink "LightPlate$Plain" (1 : Nat) "LightPlate$Plain" "this$0" "LLightPlate;") ∈ lw_all := lw_g (lw_at lw_m1 69 rfl) rfl
theorem q130 : (Jvm.Cond.laysFinal "LightPlate$Plain" "LightPlate$Plain" "this$0" "LLightPlate;") ∈ lw_all := lw_g (lw_at lw_m1 71 rfl) rfl
theorem q131 : (Jvm.Cond.soleField "LightPlate$Plain" "this$0") ∈ lw_all := lw_g (lw_at lw_m1 72 rfl) rfl
theorem q132 : (Jvm.Cond.laysFinal "LightPlate$Plain" "LightPlate$Look" "this$0" "LLightPlate;") ∈ lw_all := lw_g (lw_at lw_m1 73 rfl) rfl
theorem q134 : (Jvm.Cond.superclass "LightPlate$Plain" "LightPlate$Look") ∈ lw_all := lw_g (lw_at lw_m1 75 rfl) rfl
theorem q254 : (Jvm.Cond.fieldLinkNest "LightPlate$Plain" (13 : Nat) "LightPlate$Cell" "setting" "I" "LightPlate") ∈ lw_tbl := lw_at lw_m1 195 rfl
theorem q447 : (Jvm.Cond.instanceMethod ({ cls := "LightPlate$Plain", name := "isWarm", desc := "()Z" } : Jvm.MethodName)) ∈ lw_all := lw_g (lw_at lw_m2 148 rfl) rfl
theorem q448 : (Jvm.Cond.code ({ cls := "LightPlate$Plain", name := "isWarm", desc := "()Z" } : Jvm.MethodName) prog_10_method_4_code (1 : Nat) (Option.some Jvm.ClassFile.FieldType.boolean)) ∈ lw_all := lw_g (lw_at lw_m2 149 rfl) rfl
theorem q449 : (Jvm.Cond.selects "LightPlate$Plain" ({ cls := "LightPlate$Look", name := "isWarm", desc := "()Z" } : Jvm.MethodName) ({ cls := "LightPlate$Plain", name := "isWarm", desc := "()Z" } : Jvm.MethodName)) ∈ lw_all := lw_g (lw_at lw_m2 150 rfl) rfl
theorem q464 : (Jvm.Cond.instanceMethod ({ cls := "LightPlate$Plain", name := "setting", desc := "(LLightPlate$Cell;)I" } : Jvm.MethodName)) ∈ lw_all := lw_g (lw_at lw_m2 165 rfl) rfl
theorem q465 : (Jvm.Cond.code ({ cls := "LightPlate$Plain", name := "setting", desc := "(LLightPlate$Cell;)I" } : Jvm.MethodName) prog_10_method_2_code (2 : Nat) (Option.some Jvm.ClassFile.FieldType.int)) ∈ lw_all := lw_g (lw_at lw_m2 166 rfl) rfl
theorem q466 : (Jvm.Cond.selects "LightPlate$Plain" ({ cls := "LightPlate$Look", name := "setting", desc := "(LLightPlate$Cell;)I" } : Jvm.MethodName) ({ cls := "LightPlate$Plain", name := "setting", desc := "(LLightPlate$Cell;)I" } : Jvm.MethodName)) ∈ lw_all := lw_g (lw_at lw_m2 167 rfl) rfl
theorem q503 : (Jvm.Cond.selects "LightPlate$Plain" ({ cls := "LightPlate$Look", name := "offset", desc := "(LLightPlate$Cell;)I" } : Jvm.MethodName) ({ cls := "LightPlate$Plain", name := "offset", desc := "(LLightPlate$Cell;)I" } : Jvm.MethodName)) ∈ lw_all := lw_g (lw_at lw_m2 204 rfl) rfl
theorem q504 : (Jvm.Cond.instanceMethod ({ cls := "LightPlate$Plain", name := "offset", desc := "(LLightPlate$Cell;)I" } : Jvm.MethodName)) ∈ lw_all := lw_g (lw_at lw_m2 205 rfl) rfl
theorem q505 : (Jvm.Cond.code ({ cls := "LightPlate$Plain", name := "offset", desc := "(LLightPlate$Cell;)I" } : Jvm.MethodName) prog_10_method_3_code (2 : Nat) (Option.some Jvm.ClassFile.FieldType.int)) ∈ lw_all := lw_g (lw_at lw_m2 206 rfl) rfl
theorem q523 : (Jvm.Cond.selects "LightPlate$Plain" ({ cls := "LightPlate$Look", name := "go", desc := "([I)V" } : Jvm.MethodName) ({ cls := "LightPlate$Look", name := "go", desc := "([I)V" } : Jvm.MethodName)) ∈ lw_all := lw_g (lw_at lw_m2 224 rfl) rfl
theorem q823 : (Jvm.Cond.selects "LightPlate$Plain" ({ cls := "java/lang/Object", name := "getClass", desc := "()Ljava/lang/Class;" } : Jvm.MethodName) ({ cls := "java/lang/Object", name := "getClass", desc := "()Ljava/lang/Class;" } : Jvm.MethodName)) ∈ lw_all := lw_g (lw_at lw_m4 44 rfl) rfl
theorem q1473 : (Jvm.Cond.sameMethod "LightPlate$Plain" "LightPlate$Plain" "isWarm" "()Z") ∈ lw_all := lw_g (lw_at lw_m6 214 rfl) rfl
theorem q1478 : (Jvm.Cond.selects "LightPlate$Plain" ({ cls := "LightPlate$Look", name := "turn", desc := "(LLightPlate$Cell;)I" } : Jvm.MethodName) ({ cls := "LightPlate$Look", name := "turn", desc := "(LLightPlate$Cell;)I" } : Jvm.MethodName)) ∈ lw_all := lw_g (lw_at lw_m6 219 rfl) rfl
theorem q1489 : (Jvm.Cond.castable "LightPlate$Plain" "java/lang/Object") ∈ lw_tbl := lw_at lw_m6 230 rfl
theorem in_X3 : ∀ w ∈ wsX30, w ∈ lw_all := lw_in wsX30 [132, 130] (by decide +kernel) (by decide +kernel)
/-! LightPlate$True -/
set_option maxRecDepth 100000
def RX4 : String := "LightPlate$True"
def TX4 : u_T := fun k => match k with
  | 0 => ("LightPlate$Look", "this$0", "LLightPlate;", true)
  | 1 => ("LightPlate$Plain", "this$0", "LLightPlate;", true)
  | _ => ("LightPlate$True", "this$0", "LLightPlate;", true)
def tyX4 : Nat → FieldType := fun k => match k with
  | 0 => .object "LightPlate"
  | 1 => .object "LightPlate"
  | _ => .object "LightPlate"
abbrev wsX40 : List Cond := u_ws RX4 TX4 3
-- two fields of one name: no nmX4
theorem tyX4_ok : ∀ k, k < 3 → parseFieldDescriptor (TX4 k).2.2.1 = some (tyX4 k) := by decide +kernel
abbrev cX4_init : ByteArray := prog_15_method_1_code
def yX4_init : MethodName := ⟨RX4, "<init>", "(LLightPlate;)V"⟩
def dkwX4_init_0 : List UInt8 := [42, 43, 181, 0, 1, 42, 43, 183, 0, 7, 177]
abbrev dktX4_init_0 : List UInt8 := dkwX4_init_0 ++ []
theorem dksX4_init_0 : cX4_init.data.toList.drop 0 = dktX4_init_0 := by decide +kernel
theorem dX4_init_0 : decode cX4_init 0 = .ok (.aload_n 0, 1) := dk_42 (dk_at dksX4_init_0 0 rfl rfl)
theorem dX4_init_1 : decode cX4_init 1 = .ok (.aload_n 1, 1) := dk_43 (dk_at dksX4_init_0 1 rfl rfl)
theorem dX4_init_2 : decode cX4_init 2 = .ok (.putfield 1, 3) := dk_181 0 1 (dk_at dksX4_init_0 2 rfl rfl)
theorem dX4_init_5 : decode cX4_init 5 = .ok (.aload_n 0, 1) := dk_42 (dk_at dksX4_init_0 5 rfl rfl)
theorem dX4_init_6 : decode cX4_init 6 = .ok (.aload_n 1, 1) := dk_43 (dk_at dksX4_init_0 6 rfl rfl)
theorem dX4_init_7 : decode cX4_init 7 = .ok (.invokespecial 7, 3) := dk_183 0 7 (dk_at dksX4_init_0 7 rfl rfl)
theorem dX4_init_10 : decode cX4_init 10 = .ok (.return_, 1) := dk_177 (dk_at dksX4_init_0 10 rfl rfl)
abbrev cX4_isWarm : ByteArray := prog_15_method_3_code
def yX4_isWarm : MethodName := ⟨RX4, "isWarm", "()Z"⟩
def dkwX4_isWarm_0 : List UInt8 := [42, 183, 0, 19, 154, 0, 7, 4, 167, 0, 4, 3, 172]
abbrev dktX4_isWarm_0 : List UInt8 := dkwX4_isWarm_0 ++ []
theorem dksX4_isWarm_0 : cX4_isWarm.data.toList.drop 0 = dktX4_isWarm_0 := by decide +kernel
theorem dX4_isWarm_0 : decode cX4_isWarm 0 = .ok (.aload_n 0, 1) := dk_42 (dk_at dksX4_isWarm_0 0 rfl rfl)
theorem dX4_isWarm_1 : decode cX4_isWarm 1 = .ok (.invokespecial 19, 3) := dk_183 0 19 (dk_at dksX4_isWarm_0 1 rfl rfl)
theorem dX4_isWarm_4 : decode cX4_isWarm 4 = .ok (.ifCond .ne 7, 3) := dk_154 0 7 (dk_at dksX4_isWarm_0 4 rfl rfl)
theorem dX4_isWarm_7 : decode cX4_isWarm 7 = .ok (.iconst 1, 1) := dk_4 (dk_at dksX4_isWarm_0 7 rfl rfl)
theorem dX4_isWarm_8 : decode cX4_isWarm 8 = .ok (.goto 4, 3) := dk_167 0 4 (dk_at dksX4_isWarm_0 8 rfl rfl)
theorem dX4_isWarm_11 : decode cX4_isWarm 11 = .ok (.iconst 0, 1) := dk_3 (dk_at dksX4_isWarm_0 11 rfl rfl)
theorem dX4_isWarm_12 : decode cX4_isWarm 12 = .ok (.ireturn, 1) := dk_172 (dk_at dksX4_isWarm_0 12 rfl rfl)
abbrev cX4_offset : ByteArray := prog_15_method_2_code
def yX4_offset : MethodName := ⟨RX4, "offset", "(LLightPlate$Cell;)I"⟩
theorem dX4_offset_0 : decode cX4_offset 0 = .ok (.aload_n 1, 1) := by decide +kernel
theorem dX4_offset_1 : decode cX4_offset 1 = .ok (.getfield 13, 3) := by decide +kernel
theorem dX4_offset_4 : decode cX4_offset 4 = .ok (.ireturn, 1) := by decide +kernel
theorem q64 : (Jvm.Cond.initialized "LightPlate$True") ∈ lw_all := lw_g (lw_at lw_m1 5 rfl) rfl
theorem q137 : (Jvm.Cond.instantiable "LightPlate$True" (3 : Nat)) ∈ lw_all := lw_g (lw_at lw_m1 78 rfl) rfl
theorem q139 : (Jvm.Cond.instanceMethod ({ cls := "LightPlate$True", name := "<init>", desc := "(LLightPlate;)V" } : Jvm.MethodName)) ∈ lw_all := lw_g (lw_at lw_m1 80 rfl) rfl
theorem q140 : (Jvm.Cond.code ({ cls := "LightPlate$True", name := "<init>", desc := "(LLightPlate;)V" } : Jvm.MethodName) prog_15_method_1_code (2 : Nat) (Option.none : Option Jvm.ClassFile.FieldType)) ∈ lw_all := lw_g (lw_at lw_m1 81 rfl) rfl
theorem q141 : (Jvm.Cond.methodLinkNest "LightPlate$True" (7 : Nat) ({ cls := "LightPlate$Plain", name := "<init>", desc := "(LLightPlate;)V" } : Jvm.MethodName) "LightPlate") ∈ lw_tbl := lw_at lw_m1 82 rfl
theorem q142 : (Jvm.Cond.fieldLink "LightPlate$True" (1 : Nat) "LightPlate$True" "this$0" "LLightPlate;") ∈ lw_all := lw_g (lw_at lw_m1 83 rfl) rfl
theorem q143 : (Jvm.Cond.laysFinal "LightPlate$True" "LightPlate$True" "this$0" "LLightPlate;") ∈ lw_all := lw_g (lw_at lw_m1 84 rfl) rfl
theorem q144 : (Jvm.Cond.soleField "LightPlate$True" "this$0") ∈ lw_all := lw_g (lw_at lw_m1 85 rfl) rfl
theorem q145 : (Jvm.Cond.laysFinal "LightPlate$True" "LightPlate$Plain" "this$0" "LLightPlate;") ∈ lw_all := lw_g (lw_at lw_m1 86 rfl) rfl
theorem q146 : (Jvm.Cond.laysFinal "LightPlate$True" "LightPlate$Look" "this$0" "LLightPlate;") ∈ lw_all := lw_g (lw_at lw_m1 87 rfl) rfl
theorem q147 : (Jvm.Cond.superclass "LightPlate$True" "LightPlate$Plain") ∈ lw_all := lw_g (lw_at lw_m1 88 rfl) rfl
theorem q260 : (Jvm.Cond.fieldLinkNest "LightPlate$True" (13 : Nat) "LightPlate$Cell" "offset" "I" "LightPlate") ∈ lw_tbl := lw_at lw_m1 201 rfl
theorem q432 : (Jvm.Cond.sameMethod "LightPlate$True" "LightPlate$Look" "turn" "(LLightPlate$Cell;)I") ∈ lw_all := lw_g (lw_at lw_m2 133 rfl) rfl
theorem q435 : (Jvm.Cond.selects "LightPlate$True" ({ cls := "LightPlate$True", name := "turn", desc := "(LLightPlate$Cell;)I" } : Jvm.MethodName) ({ cls := "LightPlate$Look", name := "turn", desc := "(LLightPlate$Cell;)I" } : Jvm.MethodName)) ∈ lw_all := lw_g (lw_at lw_m2 136 rfl) rfl
theorem q444 : (Jvm.Cond.instanceMethod ({ cls := "LightPlate$True", name := "isWarm", desc := "()Z" } : Jvm.MethodName)) ∈ lw_all := lw_g (lw_at lw_m2 145 rfl) rfl
theorem q445 : (Jvm.Cond.code ({ cls := "LightPlate$True", name := "isWarm", desc := "()Z" } : Jvm.MethodName) prog_15_method_3_code (1 : Nat) (Option.some Jvm.ClassFile.FieldType.boolean)) ∈ lw_all := lw_g (lw_at lw_m2 146 rfl) rfl
theorem q446 : (Jvm.Cond.methodLink "LightPlate$True" (19 : Nat) ({ cls := "LightPlate$Plain", name := "isWarm", desc := "()Z" } : Jvm.MethodName)) ∈ lw_all := lw_g (lw_at lw_m2 147 rfl) rfl
theorem q450 : (Jvm.Cond.selects "LightPlate$True" ({ cls := "LightPlate$Look", name := "isWarm", desc := "()Z" } : Jvm.MethodName) ({ cls := "LightPlate$True", name := "isWarm", desc := "()Z" } : Jvm.MethodName)) ∈ lw_all := lw_g (lw_at lw_m2 151 rfl) rfl
theorem q467 : (Jvm.Cond.selects "LightPlate$True" ({ cls := "LightPlate$Look", name := "setting", desc := "(LLightPlate$Cell;)I" } : Jvm.MethodName) ({ cls := "LightPlate$Plain", name := "setting", desc := "(LLightPlate$Cell;)I" } : Jvm.MethodName)) ∈ lw_all := lw_g (lw_at lw_m2 168 rfl) rfl
theorem q506 : (Jvm.Cond.selects "LightPlate$True" ({ cls := "LightPlate$Look", name := "offset", desc := "(LLightPlate$Cell;)I" } : Jvm.MethodName) ({ cls := "LightPlate$True", name := "offset", desc := "(LLightPlate$Cell;)I" } : Jvm.MethodName)) ∈ lw_all := lw_g (lw_at lw_m2 207 rfl) rfl
theorem q507 : (Jvm.Cond.instanceMethod ({ cls := "LightPlate$True", name := "offset", desc := "(LLightPlate$Cell;)I" } : Jvm.MethodName)) ∈ lw_all := lw_g (lw_at lw_m2 208 rfl) rfl
theorem q508 : (Jvm.Cond.code ({ cls := "LightPlate$True", name := "offset", desc := "(LLightPlate$Cell;)I" } : Jvm.MethodName) prog_15_method_2_code (2 : Nat) (Option.some Jvm.ClassFile.FieldType.int)) ∈ lw_all := lw_g (lw_at lw_m2 209 rfl) rfl
theorem q524 : (Jvm.Cond.selects "LightPlate$True" ({ cls := "LightPlate$Look", name := "go", desc := "([I)V" } : Jvm.MethodName) ({ cls := "LightPlate$Look", name := "go", desc := "([I)V" } : Jvm.MethodName)) ∈ lw_all := lw_g (lw_at lw_m2 225 rfl) rfl
theorem q828 : (Jvm.Cond.selects "LightPlate$True" ({ cls := "java/lang/Object", name := "getClass", desc := "()Ljava/lang/Class;" } : Jvm.MethodName) ({ cls := "java/lang/Object", name := "getClass", desc := "()Ljava/lang/Class;" } : Jvm.MethodName)) ∈ lw_all := lw_g (lw_at lw_m4 49 rfl) rfl
theorem q928 : (Jvm.Cond.sameMethod "LightPlate$True" "LightPlate$Look" "go" "([I)V") ∈ lw_all := lw_g (lw_at lw_m4 149 rfl) rfl
theorem q931 : (Jvm.Cond.selects "LightPlate$True" ({ cls := "LightPlate$True", name := "go", desc := "([I)V" } : Jvm.MethodName) ({ cls := "LightPlate$Look", name := "go", desc := "([I)V" } : Jvm.MethodName)) ∈ lw_all := lw_g (lw_at lw_m4 152 rfl) rfl
theorem q1479 : (Jvm.Cond.selects "LightPlate$True" ({ cls := "LightPlate$Look", name := "turn", desc := "(LLightPlate$Cell;)I" } : Jvm.MethodName) ({ cls := "LightPlate$Look", name := "turn", desc := "(LLightPlate$Cell;)I" } : Jvm.MethodName)) ∈ lw_all := lw_g (lw_at lw_m6 220 rfl) rfl
theorem q1490 : (Jvm.Cond.castable "LightPlate$True" "java/lang/Object") ∈ lw_tbl := lw_at lw_m6 231 rfl
theorem in_X4 : ∀ w ∈ wsX40, w ∈ lw_all := lw_in wsX40 [146, 145, 143] (by decide +kernel) (by decide +kernel)
/-! LightPlate$Guess -/
set_option maxRecDepth 100000
def RX5 : String := "LightPlate$Guess"
def TX5 : u_T := fun k => match k with
  | 0 => ("LightPlate$Look", "this$0", "LLightPlate;", true)
  | 1 => ("LightPlate$Plain", "this$0", "LLightPlate;", true)
  | 2 => ("LightPlate$True", "this$0", "LLightPlate;", true)
  | 3 => ("LightPlate$Guess", "other", "LLightPlate$Cell;", false)
  | 4 => ("LightPlate$Guess", "more", "I", false)
  | _ => ("LightPlate$Guess", "this$0", "LLightPlate;", true)
def tyX5 : Nat → FieldType := fun k => match k with
  | 0 => .object "LightPlate"
  | 1 => .object "LightPlate"
  | 2 => .object "LightPlate"
  | 3 => .object "LightPlate$Cell"
  | 4 => .int
  | _ => .object "LightPlate"
abbrev wsX50 : List Cond := u_ws RX5 TX5 6
-- two fields of one name: no nmX5
theorem tyX5_ok : ∀ k, k < 6 → parseFieldDescriptor (TX5 k).2.2.1 = some (tyX5 k) := by decide +kernel
abbrev cX5_init : ByteArray := prog_6_method_1_code
def yX5_init : MethodName := ⟨RX5, "<init>", "(LLightPlate;)V"⟩
def dkwX5_init_0 : List UInt8 := [42, 43, 181, 0, 1, 42, 43, 183, 0, 7, 177]
abbrev dktX5_init_0 : List UInt8 := dkwX5_init_0 ++ []
theorem dksX5_init_0 : cX5_init.data.toList.drop 0 = dktX5_init_0 := by decide +kernel
theorem dX5_init_0 : decode cX5_init 0 = .ok (.aload_n 0, 1) := dk_42 (dk_at dksX5_init_0 0 rfl rfl)
theorem dX5_init_1 : decode cX5_init 1 = .ok (.aload_n 1, 1) := dk_43 (dk_at dksX5_init_0 1 rfl rfl)
theorem dX5_init_2 : decode cX5_init 2 = .ok (.putfield 1, 3) := dk_181 0 1 (dk_at dksX5_init_0 2 rfl rfl)
theorem dX5_init_5 : decode cX5_init 5 = .ok (.aload_n 0, 1) := dk_42 (dk_at dksX5_init_0 5 rfl rfl)
theorem dX5_init_6 : decode cX5_init 6 = .ok (.aload_n 1, 1) := dk_43 (dk_at dksX5_init_0 6 rfl rfl)
theorem dX5_init_7 : decode cX5_init 7 = .ok (.invokespecial 7, 3) := dk_183 0 7 (dk_at dksX5_init_0 7 rfl rfl)
theorem dX5_init_10 : decode cX5_init 10 = .ok (.return_, 1) := dk_177 (dk_at dksX5_init_0 10 rfl rfl)
abbrev cX5_offset : ByteArray := prog_6_method_2_code
def yX5_offset : MethodName := ⟨RX5, "offset", "(LLightPlate$Cell;)I"⟩
def dkwX5_offset_1 : List UInt8 := [166, 0, 10, 42, 180, 0, 33, 167, 0, 4, 3, 96, 172]
abbrev dktX5_offset_1 : List UInt8 := dkwX5_offset_1 ++ []
def dkwX5_offset_0 : List UInt8 := [42, 180, 0, 1, 43, 42, 180, 0, 1, 180, 0, 13, 182, 0, 19, 182, 0, 25, 43, 42, 180, 0, 29]
abbrev dktX5_offset_0 : List UInt8 := dkwX5_offset_0 ++ dktX5_offset_1
theorem dksX5_offset_0 : cX5_offset.data.toList.drop 0 = dktX5_offset_0 := by decide +kernel
theorem dksX5_offset_1 : cX5_offset.data.toList.drop 23 = dktX5_offset_1 := dk_seg dksX5_offset_0 23 rfl rfl
theorem dX5_offset_0 : decode cX5_offset 0 = .ok (.aload_n 0, 1) := dk_42 (dk_at dksX5_offset_0 0 rfl rfl)
theorem dX5_offset_1 : decode cX5_offset 1 = .ok (.getfield 1, 3) := dk_180 0 1 (dk_at dksX5_offset_0 1 rfl rfl)
theorem dX5_offset_4 : decode cX5_offset 4 = .ok (.aload_n 1, 1) := dk_43 (dk_at dksX5_offset_0 4 rfl rfl)
theorem dX5_offset_5 : decode cX5_offset 5 = .ok (.aload_n 0, 1) := dk_42 (dk_at dksX5_offset_0 5 rfl rfl)
theorem dX5_offset_6 : decode cX5_offset 6 = .ok (.getfield 1, 3) := dk_180 0 1 (dk_at dksX5_offset_0 6 rfl rfl)
theorem dX5_offset_9 : decode cX5_offset 9 = .ok (.getfield 13, 3) := dk_180 0 13 (dk_at dksX5_offset_0 9 rfl rfl)
theorem dX5_offset_12 : decode cX5_offset 12 = .ok (.invokevirtual 19, 3) := dk_182 0 19 (dk_at dksX5_offset_0 12 rfl rfl)
theorem dX5_offset_15 : decode cX5_offset 15 = .ok (.invokevirtual 25, 3) := dk_182 0 25 (dk_at dksX5_offset_0 15 rfl rfl)
theorem dX5_offset_18 : decode cX5_offset 18 = .ok (.aload_n 1, 1) := dk_43 (dk_at dksX5_offset_0 18 rfl rfl)
theorem dX5_offset_19 : decode cX5_offset 19 = .ok (.aload_n 0, 1) := dk_42 (dk_at dksX5_offset_0 19 rfl rfl)
theorem dX5_offset_20 : decode cX5_offset 20 = .ok (.getfield 29, 3) := dk_180 0 29 (dk_at dksX5_offset_0 20 rfl rfl)
theorem dX5_offset_23 : decode cX5_offset 23 = .ok (.if_acmp .ne 10, 3) := dk_166 0 10 (dk_at dksX5_offset_1 0 rfl rfl)
theorem dX5_offset_26 : decode cX5_offset 26 = .ok (.aload_n 0, 1) := dk_42 (dk_at dksX5_offset_1 3 rfl rfl)
theorem dX5_offset_27 : decode cX5_offset 27 = .ok (.getfield 33, 3) := dk_180 0 33 (dk_at dksX5_offset_1 4 rfl rfl)
theorem dX5_offset_30 : decode cX5_offset 30 = .ok (.goto 4, 3) := dk_167 0 4 (dk_at dksX5_offset_1 7 rfl rfl)
theorem dX5_offset_33 : decode cX5_offset 33 = .ok (.iconst 0, 1) := dk_3 (dk_at dksX5_offset_1 10 rfl rfl)
theorem dX5_offset_34 : decode cX5_offset 34 = .ok (.iadd, 1) := dk_96 (dk_at dksX5_offset_1 11 rfl rfl)
theorem dX5_offset_35 : decode cX5_offset 35 = .ok (.ireturn, 1) := dk_172 (dk_at dksX5_offset_1 12 rfl rfl)
theorem q65 : (Jvm.Cond.initialized "LightPlate$Guess") ∈ lw_all := lw_g (lw_at lw_m1 6 rfl) rfl
theorem q149 : (Jvm.Cond.instantiable "LightPlate$Guess" (6 : Nat)) ∈ lw_all := lw_g (lw_at lw_m1 90 rfl) rfl
theorem q151 : (Jvm.Cond.instanceMethod ({ cls := "LightPlate$Guess", name := "<init>", desc := "(LLightPlate;)V" } : Jvm.MethodName)) ∈ lw_all := lw_g (lw_at lw_m1 92 rfl) rfl
theorem q152 : (Jvm.Cond.code ({ cls := "LightPlate$Guess", name := "<init>", desc := "(LLightPlate;)V" } : Jvm.MethodName) prog_6_method_1_code (2 : Nat) (Option.none : Option Jvm.ClassFile.FieldType)) ∈ lw_all := lw_g (lw_at lw_m1 93 rfl) rfl
theorem q153 : (Jvm.Cond.methodLinkNest "LightPlate$Guess" (7 : Nat) ({ cls := "LightPlate$True", name := "<init>", desc := "(LLightPlate;)V" } : Jvm.MethodName) "LightPlate") ∈ lw_tbl := lw_at lw_m1 94 rfl
theorem q154 : (Jvm.Cond.fieldLink "LightPlate$Guess" (29 : Nat) "LightPlate$Guess" "other" "LLightPlate$Cell;") ∈ lw_all := lw_g (lw_at lw_m1 95 rfl) rfl
theorem q156 : (Jvm.Cond.fieldLink "LightPlate$Guess" (33 : Nat) "LightPlate$Guess" "more" "I") ∈ lw_all := lw_g (lw_at lw_m1 97 rfl) rfl
theorem q158 : (Jvm.Cond.fieldLink "LightPlate$Guess" (1 : Nat) "LightPlate$Guess" "this$0" "LLightPlate;") ∈ lw_all := lw_g (lw_at lw_m1 99 rfl) rfl
theorem q159 : (Jvm.Cond.lays "LightPlate$Guess" "LightPlate$Guess" "other" "LLightPlate$Cell;") ∈ lw_all := lw_g (lw_at lw_m1 100 rfl) rfl
theorem q160 : (Jvm.Cond.soleField "LightPlate$Guess" "other") ∈ lw_all := lw_g (lw_at lw_m1 101 rfl) rfl
theorem q161 : (Jvm.Cond.lays "LightPlate$Guess" "LightPlate$Guess" "more" "I") ∈ lw_all := lw_g (lw_at lw_m1 102 rfl) rfl
theorem q162 : (Jvm.Cond.soleField "LightPlate$Guess" "more") ∈ lw_all := lw_g (lw_at lw_m1 103 rfl) rfl
theorem q163 : (Jvm.Cond.laysFinal "LightPlate$Guess" "LightPlate$Guess" "this$0" "LLightPlate;") ∈ lw_all := lw_g (lw_at lw_m1 104 rfl) rfl
theorem q164 : (Jvm.Cond.soleField "LightPlate$Guess" "this$0") ∈ lw_all := lw_g (lw_at lw_m1 105 rfl) rfl
theorem q165 : (Jvm.Cond.laysFinal "LightPlate$Guess" "LightPlate$True" "this$0" "LLightPlate;") ∈ lw_all := lw_g (lw_at lw_m1 106 rfl) rfl
theorem q166 : (Jvm.Cond.laysFinal "LightPlate$Guess" "LightPlate$Plain" "this$0" "LLightPlate;") ∈ lw_all := lw_g (lw_at lw_m1 107 rfl) rfl
theorem q167 : (Jvm.Cond.laysFinal "LightPlate$Guess" "LightPlate$Look" "this$0" "LLightPlate;") ∈ lw_all := lw_g (lw_at lw_m1 108 rfl) rfl
theorem q168 : (Jvm.Cond.superclass "LightPlate$Guess" "LightPlate$True") ∈ lw_all := lw_g (lw_at lw_m1 109 rfl) rfl
theorem q315 : (Jvm.Cond.fieldLinkNest "LightPlate$Guess" (13 : Nat) "LightPlate" "runs" "Ljava/util/ArrayList;" "LightPlate") ∈ lw_tbl := lw_at lw_m2 16 rfl
theorem q434 : (Jvm.Cond.selects "LightPlate$Guess" ({ cls := "LightPlate$True", name := "turn", desc := "(LLightPlate$Cell;)I" } : Jvm.MethodName) ({ cls := "LightPlate$Look", name := "turn", desc := "(LLightPlate$Cell;)I" } : Jvm.MethodName)) ∈ lw_all := lw_g (lw_at lw_m2 135 rfl) rfl
theorem q443 : (Jvm.Cond.selects "LightPlate$Guess" ({ cls := "LightPlate$Look", name := "isWarm", desc := "()Z" } : Jvm.MethodName) ({ cls := "LightPlate$True", name := "isWarm", desc := "()Z" } : Jvm.MethodName)) ∈ lw_all := lw_g (lw_at lw_m2 144 rfl) rfl
theorem q463 : (Jvm.Cond.selects "LightPlate$Guess" ({ cls := "LightPlate$Look", name := "setting", desc := "(LLightPlate$Cell;)I" } : Jvm.MethodName) ({ cls := "LightPlate$Plain", name := "setting", desc := "(LLightPlate$Cell;)I" } : Jvm.MethodName)) ∈ lw_all := lw_g (lw_at lw_m2 164 rfl) rfl
theorem q498 : (Jvm.Cond.selects "LightPlate$Guess" ({ cls := "LightPlate$Look", name := "offset", desc := "(LLightPlate$Cell;)I" } : Jvm.MethodName) ({ cls := "LightPlate$Guess", name := "offset", desc := "(LLightPlate$Cell;)I" } : Jvm.MethodName)) ∈ lw_all := lw_g (lw_at lw_m2 199 rfl) rfl
theorem q499 : (Jvm.Cond.instanceMethod ({ cls := "LightPlate$Guess", name := "offset", desc := "(LLightPlate$Cell;)I" } : Jvm.MethodName)) ∈ lw_all := lw_g (lw_at lw_m2 200 rfl) rfl
theorem q500 : (Jvm.Cond.code ({ cls := "LightPlate$Guess", name := "offset", desc := "(LLightPlate$Cell;)I" } : Jvm.MethodName) prog_6_method_2_code (2 : Nat) (Option.some Jvm.ClassFile.FieldType.int)) ∈ lw_all := lw_g (lw_at lw_m2 201 rfl) rfl
theorem q501 : (Jvm.Cond.methodLink "LightPlate$Guess" (19 : Nat) ({ cls := "java/util/ArrayList", name := "size", desc := "()I" } : Jvm.MethodName)) ∈ lw_all := lw_g (lw_at lw_m2 202 rfl) rfl
theorem q502 : (Jvm.Cond.methodLinkNest "LightPlate$Guess" (25 : Nat) ({ cls := "LightPlate", name := "known", desc := "(LLightPlate$Cell;I)I" } : Jvm.MethodName) "LightPlate") ∈ lw_tbl := lw_at lw_m2 203 rfl
theorem q522 : (Jvm.Cond.selects "LightPlate$Guess" ({ cls := "LightPlate$Look", name := "go", desc := "([I)V" } : Jvm.MethodName) ({ cls := "LightPlate$Look", name := "go", desc := "([I)V" } : Jvm.MethodName)) ∈ lw_all := lw_g (lw_at lw_m2 223 rfl) rfl
theorem q821 : (Jvm.Cond.selects "LightPlate$Guess" ({ cls := "java/lang/Object", name := "getClass", desc := "()Ljava/lang/Class;" } : Jvm.MethodName) ({ cls := "java/lang/Object", name := "getClass", desc := "()Ljava/lang/Class;" } : Jvm.MethodName)) ∈ lw_all := lw_g (lw_at lw_m4 42 rfl) rfl
theorem q930 : (Jvm.Cond.selects "LightPlate$Guess" ({ cls := "LightPlate$True", name := "go", desc := "([I)V" } : Jvm.MethodName) ({ cls := "LightPlate$Look", name := "go", desc := "([I)V" } : Jvm.MethodName)) ∈ lw_all := lw_g (lw_at lw_m4 151 rfl) rfl
theorem q1477 : (Jvm.Cond.selects "LightPlate$Guess" ({ cls := "LightPlate$Look", name := "turn", desc := "(LLightPlate$Cell;)I" } : Jvm.MethodName) ({ cls := "LightPlate$Look", name := "turn", desc := "(LLightPlate$Cell;)I" } : Jvm.MethodName)) ∈ lw_all := lw_g (lw_at lw_m6 218 rfl) rfl
theorem q1491 : (Jvm.Cond.castable "LightPlate$Guess" "java/lang/Object") ∈ lw_tbl := lw_at lw_m6 232 rfl
theorem in_X5 : ∀ w ∈ wsX50, w ∈ lw_all := lw_in wsX50 [167, 166, 165, 159, 161, 163] (by decide +kernel) (by decide +kernel)
/-! LightPlate$Again -/
set_option maxRecDepth 100000
def RX6 : String := "LightPlate$Again"
def TX6 : u_T := fun k => match k with
  | 0 => ("LightPlate$Look", "this$0", "LLightPlate;", true)
  | 1 => ("LightPlate$Again", "run", "LLightPlate$Run;", false)
  | _ => ("LightPlate$Again", "this$0", "LLightPlate;", true)
def tyX6 : Nat → FieldType := fun k => match k with
  | 0 => .object "LightPlate"
  | 1 => .object "LightPlate$Run"
  | _ => .object "LightPlate"
abbrev wsX60 : List Cond := u_ws RX6 TX6 3
-- two fields of one name: no nmX6
theorem tyX6_ok : ∀ k, k < 3 → parseFieldDescriptor (TX6 k).2.2.1 = some (tyX6 k) := by decide +kernel
abbrev cX6_init : ByteArray := prog_2_method_1_code
def yX6_init : MethodName := ⟨RX6, "<init>", "(LLightPlate;)V"⟩
def dkwX6_init_0 : List UInt8 := [42, 43, 181, 0, 1, 42, 43, 183, 0, 7, 177]
abbrev dktX6_init_0 : List UInt8 := dkwX6_init_0 ++ []
theorem dksX6_init_0 : cX6_init.data.toList.drop 0 = dktX6_init_0 := by decide +kernel
theorem dX6_init_0 : decode cX6_init 0 = .ok (.aload_n 0, 1) := dk_42 (dk_at dksX6_init_0 0 rfl rfl)
theorem dX6_init_1 : decode cX6_init 1 = .ok (.aload_n 1, 1) := dk_43 (dk_at dksX6_init_0 1 rfl rfl)
theorem dX6_init_2 : decode cX6_init 2 = .ok (.putfield 1, 3) := dk_181 0 1 (dk_at dksX6_init_0 2 rfl rfl)
theorem dX6_init_5 : decode cX6_init 5 = .ok (.aload_n 0, 1) := dk_42 (dk_at dksX6_init_0 5 rfl rfl)
theorem dX6_init_6 : decode cX6_init 6 = .ok (.aload_n 1, 1) := dk_43 (dk_at dksX6_init_0 6 rfl rfl)
theorem dX6_init_7 : decode cX6_init 7 = .ok (.invokespecial 7, 3) := dk_183 0 7 (dk_at dksX6_init_0 7 rfl rfl)
theorem dX6_init_10 : decode cX6_init 10 = .ok (.return_, 1) := dk_177 (dk_at dksX6_init_0 10 rfl rfl)
abbrev cX6_setting : ByteArray := prog_2_method_2_code
def yX6_setting : MethodName := ⟨RX6, "setting", "(LLightPlate$Cell;)I"⟩
def dkwX6_setting_1 : List UInt8 := [46, 172]
abbrev dktX6_setting_1 : List UInt8 := dkwX6_setting_1 ++ []
def dkwX6_setting_0 : List UInt8 := [42, 180, 0, 13, 180, 0, 17, 43, 180, 0, 23, 42, 180, 0, 1, 180, 0, 29, 104, 43, 180, 0, 34, 96]
abbrev dktX6_setting_0 : List UInt8 := dkwX6_setting_0 ++ dktX6_setting_1
theorem dksX6_setting_0 : cX6_setting.data.toList.drop 0 = dktX6_setting_0 := by decide +kernel
theorem dksX6_setting_1 : cX6_setting.data.toList.drop 24 = dktX6_setting_1 := dk_seg dksX6_setting_0 24 rfl rfl
theorem dX6_setting_0 : decode cX6_setting 0 = .ok (.aload_n 0, 1) := dk_42 (dk_at dksX6_setting_0 0 rfl rfl)
theorem dX6_setting_1 : decode cX6_setting 1 = .ok (.getfield 13, 3) := dk_180 0 13 (dk_at dksX6_setting_0 1 rfl rfl)
theorem dX6_setting_4 : decode cX6_setting 4 = .ok (.getfield 17, 3) := dk_180 0 17 (dk_at dksX6_setting_0 4 rfl rfl)
theorem dX6_setting_7 : decode cX6_setting 7 = .ok (.aload_n 1, 1) := dk_43 (dk_at dksX6_setting_0 7 rfl rfl)
theorem dX6_setting_8 : decode cX6_setting 8 = .ok (.getfield 23, 3) := dk_180 0 23 (dk_at dksX6_setting_0 8 rfl rfl)
theorem dX6_setting_11 : decode cX6_setting 11 = .ok (.aload_n 0, 1) := dk_42 (dk_at dksX6_setting_0 11 rfl rfl)
theorem dX6_setting_12 : decode cX6_setting 12 = .ok (.getfield 1, 3) := dk_180 0 1 (dk_at dksX6_setting_0 12 rfl rfl)
theorem dX6_setting_15 : decode cX6_setting 15 = .ok (.getfield 29, 3) := dk_180 0 29 (dk_at dksX6_setting_0 15 rfl rfl)
theorem dX6_setting_18 : decode cX6_setting 18 = .ok (.imul, 1) := dk_104 (dk_at dksX6_setting_0 18 rfl rfl)
theorem dX6_setting_19 : decode cX6_setting 19 = .ok (.aload_n 1, 1) := dk_43 (dk_at dksX6_setting_0 19 rfl rfl)
theorem dX6_setting_20 : decode cX6_setting 20 = .ok (.getfield 34, 3) := dk_180 0 34 (dk_at dksX6_setting_0 20 rfl rfl)
theorem dX6_setting_23 : decode cX6_setting 23 = .ok (.iadd, 1) := dk_96 (dk_at dksX6_setting_0 23 rfl rfl)
theorem dX6_setting_24 : decode cX6_setting 24 = .ok (.iaload, 1) := dk_46 (dk_at dksX6_setting_1 0 rfl rfl)
theorem dX6_setting_25 : decode cX6_setting 25 = .ok (.ireturn, 1) := dk_172 (dk_at dksX6_setting_1 1 rfl rfl)
abbrev cX6_offset : ByteArray := prog_2_method_3_code
def yX6_offset : MethodName := ⟨RX6, "offset", "(LLightPlate$Cell;)I"⟩
def dkwX6_offset_0 : List UInt8 := [42, 180, 0, 1, 43, 42, 180, 0, 13, 180, 0, 37, 182, 0, 40, 172]
abbrev dktX6_offset_0 : List UInt8 := dkwX6_offset_0 ++ []
theorem dksX6_offset_0 : cX6_offset.data.toList.drop 0 = dktX6_offset_0 := by decide +kernel
theorem dX6_offset_0 : decode cX6_offset 0 = .ok (.aload_n 0, 1) := dk_42 (dk_at dksX6_offset_0 0 rfl rfl)
theorem dX6_offset_1 : decode cX6_offset 1 = .ok (.getfield 1, 3) := dk_180 0 1 (dk_at dksX6_offset_0 1 rfl rfl)
theorem dX6_offset_4 : decode cX6_offset 4 = .ok (.aload_n 1, 1) := dk_43 (dk_at dksX6_offset_0 4 rfl rfl)
theorem dX6_offset_5 : decode cX6_offset 5 = .ok (.aload_n 0, 1) := dk_42 (dk_at dksX6_offset_0 5 rfl rfl)
theorem dX6_offset_6 : decode cX6_offset 6 = .ok (.getfield 13, 3) := dk_180 0 13 (dk_at dksX6_offset_0 6 rfl rfl)
theorem dX6_offset_9 : decode cX6_offset 9 = .ok (.getfield 37, 3) := dk_180 0 37 (dk_at dksX6_offset_0 9 rfl rfl)
theorem dX6_offset_12 : decode cX6_offset 12 = .ok (.invokevirtual 40, 3) := dk_182 0 40 (dk_at dksX6_offset_0 12 rfl rfl)
theorem dX6_offset_15 : decode cX6_offset 15 = .ok (.ireturn, 1) := dk_172 (dk_at dksX6_offset_0 15 rfl rfl)
theorem q66 : (Jvm.Cond.initialized "LightPlate$Again") ∈ lw_all := lw_g (lw_at lw_m1 7 rfl) rfl
theorem q170 : (Jvm.Cond.instantiable "LightPlate$Again" (3 : Nat)) ∈ lw_all := lw_g (lw_at lw_m1 111 rfl) rfl
theorem q172 : (Jvm.Cond.instanceMethod ({ cls := "LightPlate$Again", name := "<init>", desc := "(LLightPlate;)V" } : Jvm.MethodName)) ∈ lw_all := lw_g (lw_at lw_m1 113 rfl) rfl
theorem q173 : (Jvm.Cond.code ({ cls := "LightPlate$Again", name := "<init>", desc := "(LLightPlate;)V" } : Jvm.MethodName) prog_2_method_1_code (2 : Nat) (Option.none : Option Jvm.ClassFile.FieldType)) ∈ lw_all := lw_g (lw_at lw_m1 114 rfl) rfl
theorem q174 : (Jvm.Cond.methodLinkNest "LightPlate$Again" (7 : Nat) ({ cls := "LightPlate$Look", name := "<init>", desc := "(LLightPlate;)V" } : Jvm.MethodName) "LightPlate") ∈ lw_tbl := lw_at lw_m1 115 rfl
theorem q175 : (Jvm.Cond.fieldLink "LightPlate$Again" (13 : Nat) "LightPlate$Again" "run" "LLightPlate$Run;") ∈ lw_all := lw_g (lw_at lw_m1 116 rfl) rfl
theorem q177 : (Jvm.Cond.fieldLink "LightPlate$Again" (1 : Nat) "LightPlate$Again" "this$0" "LLightPlate;") ∈ lw_all := lw_g (lw_at lw_m1 118 rfl) rfl
theorem q178 : (Jvm.Cond.lays "LightPlate$Again" "LightPlate$Again" "run" "LLightPlate$Run;") ∈ lw_all := lw_g (lw_at lw_m1 119 rfl) rfl
theorem q179 : (Jvm.Cond.soleField "LightPlate$Again" "run") ∈ lw_all := lw_g (lw_at lw_m1 120 rfl) rfl
theorem q180 : (Jvm.Cond.laysFinal "LightPlate$Again" "LightPlate$Again" "this$0" "LLightPlate;") ∈ lw_all := lw_g (lw_at lw_m1 121 rfl) rfl
theorem q181 : (Jvm.Cond.soleField "LightPlate$Again" "this$0") ∈ lw_all := lw_g (lw_at lw_m1 122 rfl) rfl
theorem q182 : (Jvm.Cond.laysFinal "LightPlate$Again" "LightPlate$Look" "this$0" "LLightPlate;") ∈ lw_all := lw_g (lw_at lw_m1 123 rfl) rfl
theorem q183 : (Jvm.Cond.superclass "LightPlate$Again" "LightPlate$Look") ∈ lw_all := lw_g (lw_at lw_m1 124 rfl) rfl
theorem q246 : (Jvm.Cond.fieldLinkNest "LightPlate$Again" (23 : Nat) "LightPlate$Cell" "layer" "I" "LightPlate") ∈ lw_tbl := lw_at lw_m1 187 rfl
theorem q250 : (Jvm.Cond.fieldLinkNest "LightPlate$Again" (34 : Nat) "LightPlate$Cell" "lane" "I" "LightPlate") ∈ lw_tbl := lw_at lw_m1 191 rfl
theorem q283 : (Jvm.Cond.fieldLinkNest "LightPlate$Again" (29 : Nat) "LightPlate" "lanes" "I" "LightPlate") ∈ lw_tbl := lw_at lw_m1 224 rfl
theorem q442 : (Jvm.Cond.selects "LightPlate$Again" ({ cls := "LightPlate$Look", name := "isWarm", desc := "()Z" } : Jvm.MethodName) ({ cls := "LightPlate$Look", name := "isWarm", desc := "()Z" } : Jvm.MethodName)) ∈ lw_all := lw_g (lw_at lw_m2 143 rfl) rfl
theorem q460 : (Jvm.Cond.selects "LightPlate$Again" ({ cls := "LightPlate$Look", name := "setting", desc := "(LLightPlate$Cell;)I" } : Jvm.MethodName) ({ cls := "LightPlate$Again", name := "setting", desc := "(LLightPlate$Cell;)I" } : Jvm.MethodName)) ∈ lw_all := lw_g (lw_at lw_m2 161 rfl) rfl
theorem q461 : (Jvm.Cond.instanceMethod ({ cls := "LightPlate$Again", name := "setting", desc := "(LLightPlate$Cell;)I" } : Jvm.MethodName)) ∈ lw_all := lw_g (lw_at lw_m2 162 rfl) rfl
theorem q462 : (Jvm.Cond.code ({ cls := "LightPlate$Again", name := "setting", desc := "(LLightPlate$Cell;)I" } : Jvm.MethodName) prog_2_method_2_code (2 : Nat) (Option.some Jvm.ClassFile.FieldType.int)) ∈ lw_all := lw_g (lw_at lw_m2 163 rfl) rfl
theorem q472 : (Jvm.Cond.selects "LightPlate$Again" ({ cls := "LightPlate$Look", name := "offset", desc := "(LLightPlate$Cell;)I" } : Jvm.MethodName) ({ cls := "LightPlate$Again", name := "offset", desc := "(LLightPlate$Cell;)I" } : Jvm.MethodName)) ∈ lw_all := lw_g (lw_at lw_m2 173 rfl) rfl
theorem q473 : (Jvm.Cond.instanceMethod ({ cls := "LightPlate$Again", name := "offset", desc := "(LLightPlate$Cell;)I" } : Jvm.MethodName)) ∈ lw_all := lw_g (lw_at lw_m2 174 rfl) rfl
theorem q474 : (Jvm.Cond.code ({ cls := "LightPlate$Again", name := "offset", desc := "(LLightPlate$Cell;)I" } : Jvm.MethodName) prog_2_method_3_code (2 : Nat) (Option.some Jvm.ClassFile.FieldType.int)) ∈ lw_all := lw_g (lw_at lw_m2 175 rfl) rfl
theorem q475 : (Jvm.Cond.methodLinkNest "LightPlate$Again" (40 : Nat) ({ cls := "LightPlate", name := "known", desc := "(LLightPlate$Cell;I)I" } : Jvm.MethodName) "LightPlate") ∈ lw_tbl := lw_at lw_m2 176 rfl
theorem q521 : (Jvm.Cond.selects "LightPlate$Again" ({ cls := "LightPlate$Look", name := "go", desc := "([I)V" } : Jvm.MethodName) ({ cls := "LightPlate$Look", name := "go", desc := "([I)V" } : Jvm.MethodName)) ∈ lw_all := lw_g (lw_at lw_m2 222 rfl) rfl
theorem q817 : (Jvm.Cond.selects "LightPlate$Again" ({ cls := "java/lang/Object", name := "getClass", desc := "()Ljava/lang/Class;" } : Jvm.MethodName) ({ cls := "java/lang/Object", name := "getClass", desc := "()Ljava/lang/Class;" } : Jvm.MethodName)) ∈ lw_all := lw_g (lw_at lw_m4 38 rfl) rfl
theorem q907 : (Jvm.Cond.fieldLinkNest "LightPlate$Again" (37 : Nat) "LightPlate$Run" "tick" "I" "LightPlate") ∈ lw_tbl := lw_at lw_m4 128 rfl
theorem q914 : (Jvm.Cond.fieldLinkNest "LightPlate$Again" (17 : Nat) "LightPlate$Run" "settings" "[I" "LightPlate") ∈ lw_tbl := lw_at lw_m4 135 rfl
theorem q950 : (Jvm.Cond.sameMethod "LightPlate$Again" "LightPlate$Look" "go" "([I)V") ∈ lw_all := lw_g (lw_at lw_m4 171 rfl) rfl
theorem q951 : (Jvm.Cond.selects "LightPlate$Again" ({ cls := "LightPlate$Again", name := "go", desc := "([I)V" } : Jvm.MethodName) ({ cls := "LightPlate$Look", name := "go", desc := "([I)V" } : Jvm.MethodName)) ∈ lw_all := lw_g (lw_at lw_m4 172 rfl) rfl
theorem q1476 : (Jvm.Cond.selects "LightPlate$Again" ({ cls := "LightPlate$Look", name := "turn", desc := "(LLightPlate$Cell;)I" } : Jvm.MethodName) ({ cls := "LightPlate$Look", name := "turn", desc := "(LLightPlate$Cell;)I" } : Jvm.MethodName)) ∈ lw_all := lw_g (lw_at lw_m6 217 rfl) rfl
theorem q1492 : (Jvm.Cond.castable "LightPlate$Again" "java/lang/Object") ∈ lw_tbl := lw_at lw_m6 233 rfl
theorem in_X6 : ∀ w ∈ wsX60, w ∈ lw_all := lw_in wsX60 [182, 178, 180] (by decide +kernel) (by decide +kernel)
/-! LightPlate$Reader -/
set_option maxRecDepth 100000
def RX7 : String := "LightPlate$Reader"
def TX7 : u_T := fun k => match k with
  | 0 => ("LightPlate$Reader", "names", "[LLightPlate$Node;", true)
  | 1 => ("LightPlate$Reader", "at", "I", false)
  | 2 => ("LightPlate$Reader", "lacking", "I", false)
  | _ => ("LightPlate$Reader", "this$0", "LLightPlate;", true)
def tyX7 : Nat → FieldType := fun k => match k with
  | 0 => .array (.object "LightPlate$Node")
  | 1 => .int
  | 2 => .int
  | _ => .object "LightPlate"
abbrev wsX70 : List Cond := u_ws RX7 TX7 4
theorem nmX7 : ∀ a, a < 4 → ∀ b, b < 4 → a ≠ b → (TX7 a).2.1 ≠ (TX7 b).2.1 := by decide +kernel
theorem tyX7_ok : ∀ k, k < 4 → parseFieldDescriptor (TX7 k).2.2.1 = some (tyX7 k) := by decide +kernel
abbrev cX7_init : ByteArray := prog_11_method_1_code
def yX7_init : MethodName := ⟨RX7, "<init>", "(LLightPlate;)V"⟩
def dkwX7_init_0 : List UInt8 := [42, 43, 181, 0, 3, 42, 183, 0, 9, 42, 16, 6, 189, 0, 15, 181, 0, 17, 177]
abbrev dktX7_init_0 : List UInt8 := dkwX7_init_0 ++ []
theorem dksX7_init_0 : cX7_init.data.toList.drop 0 = dktX7_init_0 := by decide +kernel
theorem dX7_init_0 : decode cX7_init 0 = .ok (.aload_n 0, 1) := dk_42 (dk_at dksX7_init_0 0 rfl rfl)
theorem dX7_init_1 : decode cX7_init 1 = .ok (.aload_n 1, 1) := dk_43 (dk_at dksX7_init_0 1 rfl rfl)
theorem dX7_init_2 : decode cX7_init 2 = .ok (.putfield 3, 3) := dk_181 0 3 (dk_at dksX7_init_0 2 rfl rfl)
theorem dX7_init_5 : decode cX7_init 5 = .ok (.aload_n 0, 1) := dk_42 (dk_at dksX7_init_0 5 rfl rfl)
theorem dX7_init_6 : decode cX7_init 6 = .ok (.invokespecial 9, 3) := dk_183 0 9 (dk_at dksX7_init_0 6 rfl rfl)
theorem dX7_init_9 : decode cX7_init 9 = .ok (.aload_n 0, 1) := dk_42 (dk_at dksX7_init_0 9 rfl rfl)
theorem dX7_init_10 : decode cX7_init 10 = .ok (.bipush 6, 2) := dk_16 6 (dk_at dksX7_init_0 10 rfl rfl)
theorem dX7_init_12 : decode cX7_init 12 = .ok (.anewarray 15, 3) := dk_189 0 15 (dk_at dksX7_init_0 12 rfl rfl)
theorem dX7_init_15 : decode cX7_init 15 = .ok (.putfield 17, 3) := dk_181 0 17 (dk_at dksX7_init_0 15 rfl rfl)
theorem dX7_init_18 : decode cX7_init 18 = .ok (.return_, 1) := dk_177 (dk_at dksX7_init_0 18 rfl rfl)
abbrev cX7_program : ByteArray := prog_11_method_10_code
def yX7_program : MethodName := ⟨RX7, "program", "()LLightPlate$Node;"⟩
def dkwX7_program_4 : List UInt8 := [191, 43, 182, 0, 99, 16, 10, 164, 0, 13, 187, 0, 36, 89, 6, 3, 183, 0, 38, 191, 43, 176]
abbrev dktX7_program_4 : List UInt8 := dkwX7_program_4 ++ []
def dkwX7_program_3 : List UInt8 := [183, 0, 38, 191, 42, 180, 0, 64, 2, 159, 0, 16, 187, 0, 36, 89, 5, 42, 180, 0, 64, 183, 0, 38]
abbrev dktX7_program_3 : List UInt8 := dkwX7_program_3 ++ dktX7_program_4
def dkwX7_program_2 : List UInt8 := [42, 180, 0, 21, 42, 180, 0, 3, 180, 0, 25, 162, 0, 16, 187, 0, 36, 89, 4, 42, 180, 0, 21]
abbrev dktX7_program_2 : List UInt8 := dkwX7_program_2 ++ dktX7_program_3
def dkwX7_program_1 : List UInt8 := [83, 132, 1, 1, 167, 255, 240, 187, 0, 53, 89, 42, 180, 0, 3, 4, 42, 182, 0, 49, 183, 0, 58, 76]
abbrev dktX7_program_1 : List UInt8 := dkwX7_program_1 ++ dktX7_program_2
def dkwX7_program_0 : List UInt8 := [42, 3, 181, 0, 21, 42, 2, 181, 0, 64, 3, 60, 27, 16, 6, 162, 0, 16, 42, 180, 0, 17, 27, 1]
abbrev dktX7_program_0 : List UInt8 := dkwX7_program_0 ++ dktX7_program_1
theorem dksX7_program_0 : cX7_program.data.toList.drop 0 = dktX7_program_0 := by decide +kernel
theorem dksX7_program_1 : cX7_program.data.toList.drop 24 = dktX7_program_1 := dk_seg dksX7_program_0 24 rfl rfl
theorem dksX7_program_2 : cX7_program.data.toList.drop 48 = dktX7_program_2 := dk_seg dksX7_program_1 24 rfl rfl
theorem dksX7_program_3 : cX7_program.data.toList.drop 71 = dktX7_program_3 := dk_seg dksX7_program_2 23 rfl rfl
theorem dksX7_program_4 : cX7_program.data.toList.drop 95 = dktX7_program_4 := dk_seg dksX7_program_3 24 rfl rfl
theorem dX7_program_0 : decode cX7_program 0 = .ok (.aload_n 0, 1) := dk_42 (dk_at dksX7_program_0 0 rfl rfl)
theorem dX7_program_1 : decode cX7_program 1 = .ok (.iconst 0, 1) := dk_3 (dk_at dksX7_program_0 1 rfl rfl)
theorem dX7_program_2 : decode cX7_program 2 = .ok (.putfield 21, 3) := dk_181 0 21 (dk_at dksX7_program_0 2 rfl rfl)
theorem dX7_program_5 : decode cX7_program 5 = .ok (.aload_n 0, 1) := dk_42 (dk_at dksX7_program_0 5 rfl rfl)
theorem dX7_program_6 : decode cX7_program 6 = .ok (.iconst (-1), 1) := dk_2 (dk_at dksX7_program_0 6 rfl rfl)
theorem dX7_program_7 : decode cX7_program 7 = .ok (.putfield 64, 3) := dk_181 0 64 (dk_at dksX7_program_0 7 rfl rfl)
theorem dX7_program_10 : decode cX7_program 10 = .ok (.iconst 0, 1) := dk_3 (dk_at dksX7_program_0 10 rfl rfl)
theorem dX7_program_11 : decode cX7_program 11 = .ok (.istore_n 1, 1) := dk_60 (dk_at dksX7_program_0 11 rfl rfl)
theorem dX7_program_12 : decode cX7_program 12 = .ok (.iload_n 1, 1) := dk_27 (dk_at dksX7_program_0 12 rfl rfl)
theorem dX7_program_13 : decode cX7_program 13 = .ok (.bipush 6, 2) := dk_16 6 (dk_at dksX7_program_0 13 rfl rfl)
theorem dX7_program_15 : decode cX7_program 15 = .ok (.if_icmp .ge 16, 3) := dk_162 0 16 (dk_at dksX7_program_0 15 rfl rfl)
theorem dX7_program_18 : decode cX7_program 18 = .ok (.aload_n 0, 1) := dk_42 (dk_at dksX7_program_0 18 rfl rfl)
theorem dX7_program_19 : decode cX7_program 19 = .ok (.getfield 17, 3) := dk_180 0 17 (dk_at dksX7_program_0 19 rfl rfl)
theorem dX7_program_22 : decode cX7_program 22 = .ok (.iload_n 1, 1) := dk_27 (dk_at dksX7_program_0 22 rfl rfl)
theorem dX7_program_23 : decode cX7_program 23 = .ok (.aconst_null, 1) := dk_1 (dk_at dksX7_program_0 23 rfl rfl)
theorem dX7_program_24 : decode cX7_program 24 = .ok (.aastore, 1) := dk_83 (dk_at dksX7_program_1 0 rfl rfl)
theorem dX7_program_25 : decode cX7_program 25 = .ok (.iinc 1 1, 3) := dk_132 1 1 (dk_at dksX7_program_1 1 rfl rfl)
theorem dX7_program_28 : decode cX7_program 28 = .ok (.goto (-16), 3) := dk_167 255 240 (dk_at dksX7_program_1 4 rfl rfl)
theorem dX7_program_31 : decode cX7_program 31 = .ok (.new 53, 3) := dk_187 0 53 (dk_at dksX7_program_1 7 rfl rfl)
theorem dX7_program_34 : decode cX7_program 34 = .ok (.dup, 1) := dk_89 (dk_at dksX7_program_1 10 rfl rfl)
theorem dX7_program_35 : decode cX7_program 35 = .ok (.aload_n 0, 1) := dk_42 (dk_at dksX7_program_1 11 rfl rfl)
theorem dX7_program_36 : decode cX7_program 36 = .ok (.getfield 3, 3) := dk_180 0 3 (dk_at dksX7_program_1 12 rfl rfl)
theorem dX7_program_39 : decode cX7_program 39 = .ok (.iconst 1, 1) := dk_4 (dk_at dksX7_program_1 15 rfl rfl)
theorem dX7_program_40 : decode cX7_program 40 = .ok (.aload_n 0, 1) := dk_42 (dk_at dksX7_program_1 16 rfl rfl)
theorem dX7_program_41 : decode cX7_program 41 = .ok (.invokevirtual 49, 3) := dk_182 0 49 (dk_at dksX7_program_1 17 rfl rfl)
theorem dX7_program_44 : decode cX7_program 44 = .ok (.invokespecial 58, 3) := dk_183 0 58 (dk_at dksX7_program_1 20 rfl rfl)
theorem dX7_program_47 : decode cX7_program 47 = .ok (.astore_n 1, 1) := dk_76 (dk_at dksX7_program_1 23 rfl rfl)
theorem dX7_program_48 : decode cX7_program 48 = .ok (.aload_n 0, 1) := dk_42 (dk_at dksX7_program_2 0 rfl rfl)
theorem dX7_program_49 : decode cX7_program 49 = .ok (.getfield 21, 3) := dk_180 0 21 (dk_at dksX7_program_2 1 rfl rfl)
theorem dX7_program_52 : decode cX7_program 52 = .ok (.aload_n 0, 1) := dk_42 (dk_at dksX7_program_2 4 rfl rfl)
theorem dX7_program_53 : decode cX7_program 53 = .ok (.getfield 3, 3) := dk_180 0 3 (dk_at dksX7_program_2 5 rfl rfl)
theorem dX7_program_56 : decode cX7_program 56 = .ok (.getfield 25, 3) := dk_180 0 25 (dk_at dksX7_program_2 8 rfl rfl)
theorem dX7_program_59 : decode cX7_program 59 = .ok (.if_icmp .ge 16, 3) := dk_162 0 16 (dk_at dksX7_program_2 11 rfl rfl)
theorem dX7_program_62 : decode cX7_program 62 = .ok (.new 36, 3) := dk_187 0 36 (dk_at dksX7_program_2 14 rfl rfl)
theorem dX7_program_65 : decode cX7_program 65 = .ok (.dup, 1) := dk_89 (dk_at dksX7_program_2 17 rfl rfl)
theorem dX7_program_66 : decode cX7_program 66 = .ok (.iconst 1, 1) := dk_4 (dk_at dksX7_program_2 18 rfl rfl)
theorem dX7_program_67 : decode cX7_program 67 = .ok (.aload_n 0, 1) := dk_42 (dk_at dksX7_program_2 19 rfl rfl)
theorem dX7_program_68 : decode cX7_program 68 = .ok (.getfield 21, 3) := dk_180 0 21 (dk_at dksX7_program_2 20 rfl rfl)
theorem dX7_program_71 : decode cX7_program 71 = .ok (.invokespecial 38, 3) := dk_183 0 38 (dk_at dksX7_program_3 0 rfl rfl)
theorem dX7_program_74 : decode cX7_program 74 = .ok (.athrow, 1) := dk_191 (dk_at dksX7_program_3 3 rfl rfl)
theorem dX7_program_75 : decode cX7_program 75 = .ok (.aload_n 0, 1) := dk_42 (dk_at dksX7_program_3 4 rfl rfl)
theorem dX7_program_76 : decode cX7_program 76 = .ok (.getfield 64, 3) := dk_180 0 64 (dk_at dksX7_program_3 5 rfl rfl)
theorem dX7_program_79 : decode cX7_program 79 = .ok (.iconst (-1), 1) := dk_2 (dk_at dksX7_program_3 8 rfl rfl)
theorem dX7_program_80 : decode cX7_program 80 = .ok (.if_icmp .eq 16, 3) := dk_159 0 16 (dk_at dksX7_program_3 9 rfl rfl)
theorem dX7_program_83 : decode cX7_program 83 = .ok (.new 36, 3) := dk_187 0 36 (dk_at dksX7_program_3 12 rfl rfl)
theorem dX7_program_86 : decode cX7_program 86 = .ok (.dup, 1) := dk_89 (dk_at dksX7_program_3 15 rfl rfl)
theorem dX7_program_87 : decode cX7_program 87 = .ok (.iconst 2, 1) := dk_5 (dk_at dksX7_program_3 16 rfl rfl)
theorem dX7_program_88 : decode cX7_program 88 = .ok (.aload_n 0, 1) := dk_42 (dk_at dksX7_program_3 17 rfl rfl)
theorem dX7_program_89 : decode cX7_program 89 = .ok (.getfield 64, 3) := dk_180 0 64 (dk_at dksX7_program_3 18 rfl rfl)
theorem dX7_program_92 : decode cX7_program 92 = .ok (.invokespecial 38, 3) := dk_183 0 38 (dk_at dksX7_program_3 21 rfl rfl)
theorem dX7_program_95 : decode cX7_program 95 = .ok (.athrow, 1) := dk_191 (dk_at dksX7_program_4 0 rfl rfl)
theorem dX7_program_96 : decode cX7_program 96 = .ok (.aload_n 1, 1) := dk_43 (dk_at dksX7_program_4 1 rfl rfl)
theorem dX7_program_97 : decode cX7_program 97 = .ok (.invokevirtual 99, 3) := dk_182 0 99 (dk_at dksX7_program_4 2 rfl rfl)
theorem dX7_program_100 : decode cX7_program 100 = .ok (.bipush 10, 2) := dk_16 10 (dk_at dksX7_program_4 5 rfl rfl)
theorem dX7_program_102 : decode cX7_program 102 = .ok (.if_icmp .le 13, 3) := dk_164 0 13 (dk_at dksX7_program_4 7 rfl rfl)
theorem dX7_program_105 : decode cX7_program 105 = .ok (.new 36, 3) := dk_187 0 36 (dk_at dksX7_program_4 10 rfl rfl)
theorem dX7_program_108 : decode cX7_program 108 = .ok (.dup, 1) := dk_89 (dk_at dksX7_program_4 13 rfl rfl)
theorem dX7_program_109 : decode cX7_program 109 = .ok (.iconst 3, 1) := dk_6 (dk_at dksX7_program_4 14 rfl rfl)
theorem dX7_program_110 : decode cX7_program 110 = .ok (.iconst 0, 1) := dk_3 (dk_at dksX7_program_4 15 rfl rfl)
theorem dX7_program_111 : decode cX7_program 111 = .ok (.invokespecial 38, 3) := dk_183 0 38 (dk_at dksX7_program_4 16 rfl rfl)
theorem dX7_program_114 : decode cX7_program 114 = .ok (.athrow, 1) := dk_191 (dk_at dksX7_program_4 19 rfl rfl)
theorem dX7_program_115 : decode cX7_program 115 = .ok (.aload_n 1, 1) := dk_43 (dk_at dksX7_program_4 20 rfl rfl)
theorem dX7_program_116 : decode cX7_program 116 = .ok (.areturn, 1) := dk_176 (dk_at dksX7_program_4 21 rfl rfl)
abbrev cX7_statements : ByteArray := prog_11_method_9_code
def yX7_statements : MethodName := ⟨RX7, "statements", "()Ljava/util/ArrayList;"⟩
def dkwX7_statements_2 : List UInt8 := [167, 255, 228, 43, 176]
abbrev dktX7_statements_2 : List UInt8 := dkwX7_statements_2 ++ []
def dkwX7_statements_1 : List UInt8 := [160, 0, 25, 42, 89, 180, 0, 21, 4, 96, 181, 0, 21, 43, 42, 182, 0, 91, 182, 0, 95, 87]
abbrev dktX7_statements_1 : List UInt8 := dkwX7_statements_1 ++ dktX7_statements_2
def dkwX7_statements_0 : List UInt8 := [187, 0, 61, 89, 183, 0, 63, 76, 43, 42, 182, 0, 91, 182, 0, 95, 87, 42, 182, 0, 32, 16, 59]
abbrev dktX7_statements_0 : List UInt8 := dkwX7_statements_0 ++ dktX7_statements_1
theorem dksX7_statements_0 : cX7_statements.data.toList.drop 0 = dktX7_statements_0 := by decide +kernel
theorem dksX7_statements_1 : cX7_statements.data.toList.drop 23 = dktX7_statements_1 := dk_seg dksX7_statements_0 23 rfl rfl
theorem dksX7_statements_2 : cX7_statements.data.toList.drop 45 = dktX7_statements_2 := dk_seg dksX7_statements_1 22 rfl rfl
theorem dX7_statements_0 : decode cX7_statements 0 = .ok (.new 61, 3) := dk_187 0 61 (dk_at dksX7_statements_0 0 rfl rfl)
theorem dX7_statements_3 : decode cX7_statements 3 = .ok (.dup, 1) := dk_89 (dk_at dksX7_statements_0 3 rfl rfl)
theorem dX7_statements_4 : decode cX7_statements 4 = .ok (.invokespecial 63, 3) := dk_183 0 63 (dk_at dksX7_statements_0 4 rfl rfl)
theorem dX7_statements_7 : decode cX7_statements 7 = .ok (.astore_n 1, 1) := dk_76 (dk_at dksX7_statements_0 7 rfl rfl)
theorem dX7_statements_8 : decode cX7_statements 8 = .ok (.aload_n 1, 1) := dk_43 (dk_at dksX7_statements_0 8 rfl rfl)
theorem dX7_statements_9 : decode cX7_statements 9 = .ok (.aload_n 0, 1) := dk_42 (dk_at dksX7_statements_0 9 rfl rfl)
theorem dX7_statements_10 : decode cX7_statements 10 = .ok (.invokevirtual 91, 3) := dk_182 0 91 (dk_at dksX7_statements_0 10 rfl rfl)
theorem dX7_statements_13 : decode cX7_statements 13 = .ok (.invokevirtual 95, 3) := dk_182 0 95 (dk_at dksX7_statements_0 13 rfl rfl)
theorem dX7_statements_16 : decode cX7_statements 16 = .ok (.pop, 1) := dk_87 (dk_at dksX7_statements_0 16 rfl rfl)
theorem dX7_statements_17 : decode cX7_statements 17 = .ok (.aload_n 0, 1) := dk_42 (dk_at dksX7_statements_0 17 rfl rfl)
theorem dX7_statements_18 : decode cX7_statements 18 = .ok (.invokevirtual 32, 3) := dk_182 0 32 (dk_at dksX7_statements_0 18 rfl rfl)
theorem dX7_statements_21 : decode cX7_statements 21 = .ok (.bipush 59, 2) := dk_16 59 (dk_at dksX7_statements_0 21 rfl rfl)
theorem dX7_statements_23 : decode cX7_statements 23 = .ok (.if_icmp .ne 25, 3) := dk_160 0 25 (dk_at dksX7_statements_1 0 rfl rfl)
theorem dX7_statements_26 : decode cX7_statements 26 = .ok (.aload_n 0, 1) := dk_42 (dk_at dksX7_statements_1 3 rfl rfl)
theorem dX7_statements_27 : decode cX7_statements 27 = .ok (.dup, 1) := dk_89 (dk_at dksX7_statements_1 4 rfl rfl)
theorem dX7_statements_28 : decode cX7_statements 28 = .ok (.getfield 21, 3) := dk_180 0 21 (dk_at dksX7_statements_1 5 rfl rfl)
theorem dX7_statements_31 : decode cX7_statements 31 = .ok (.iconst 1, 1) := dk_4 (dk_at dksX7_statements_1 8 rfl rfl)
theorem dX7_statements_32 : decode cX7_statements 32 = .ok (.iadd, 1) := dk_96 (dk_at dksX7_statements_1 9 rfl rfl)
theorem dX7_statements_33 : decode cX7_statements 33 = .ok (.putfield 21, 3) := dk_181 0 21 (dk_at dksX7_statements_1 10 rfl rfl)
theorem dX7_statements_36 : decode cX7_statements 36 = .ok (.aload_n 1, 1) := dk_43 (dk_at dksX7_statements_1 13 rfl rfl)
theorem dX7_statements_37 : decode cX7_statements 37 = .ok (.aload_n 0, 1) := dk_42 (dk_at dksX7_statements_1 14 rfl rfl)
theorem dX7_statements_38 : decode cX7_statements 38 = .ok (.invokevirtual 91, 3) := dk_182 0 91 (dk_at dksX7_statements_1 15 rfl rfl)
theorem dX7_statements_41 : decode cX7_statements 41 = .ok (.invokevirtual 95, 3) := dk_182 0 95 (dk_at dksX7_statements_1 18 rfl rfl)
theorem dX7_statements_44 : decode cX7_statements 44 = .ok (.pop, 1) := dk_87 (dk_at dksX7_statements_1 21 rfl rfl)
theorem dX7_statements_45 : decode cX7_statements 45 = .ok (.goto (-28), 3) := dk_167 255 228 (dk_at dksX7_statements_2 0 rfl rfl)
theorem dX7_statements_48 : decode cX7_statements 48 = .ok (.aload_n 1, 1) := dk_43 (dk_at dksX7_statements_2 3 rfl rfl)
theorem dX7_statements_49 : decode cX7_statements 49 = .ok (.areturn, 1) := dk_176 (dk_at dksX7_statements_2 4 rfl rfl)
abbrev cX7_statement : ByteArray := prog_11_method_8_code
def yX7_statement : MethodName := ⟨RX7, "statement", "()LLightPlate$Node;"⟩
def dkwX7_statement_8 : List UInt8 := [28, 29, 183, 0, 90, 176]
abbrev dktX7_statement_8 : List UInt8 := dkwX7_statement_8 ++ []
def dkwX7_statement_7 : List UInt8 := [187, 0, 83, 89, 42, 180, 0, 3, 28, 29, 183, 0, 85, 167, 0, 16, 187, 0, 88, 89, 42, 180, 0, 3]
abbrev dktX7_statement_7 : List UInt8 := dkwX7_statement_7 ++ dktX7_statement_8
def dkwX7_statement_6 : List UInt8 := [42, 180, 0, 3, 28, 183, 0, 80, 176, 42, 16, 95, 182, 0, 74, 62, 27, 16, 116, 160, 0, 19]
abbrev dktX7_statement_6 : List UInt8 := dkwX7_statement_6 ++ dktX7_statement_7
def dkwX7_statement_5 : List UInt8 := [42, 42, 180, 0, 3, 180, 0, 71, 5, 100, 182, 0, 74, 61, 27, 16, 115, 160, 0, 16, 187, 0, 78, 89]
abbrev dktX7_statement_5 : List UInt8 := dkwX7_statement_5 ++ dktX7_statement_6
def dkwX7_statement_4 : List UInt8 := [159, 0, 24, 27, 16, 117, 159, 0, 18, 187, 0, 36, 89, 4, 42, 180, 0, 21, 4, 100, 183, 0, 38, 191]
abbrev dktX7_statement_4 : List UInt8 := dkwX7_statement_4 ++ dktX7_statement_5
def dkwX7_statement_3 : List UInt8 := [180, 0, 3, 27, 16, 48, 100, 42, 182, 0, 55, 183, 0, 58, 176, 27, 16, 116, 159, 0, 30, 27, 16, 115]
abbrev dktX7_statement_3 : List UInt8 := dkwX7_statement_3 ++ dktX7_statement_4
def dkwX7_statement_2 : List UInt8 := [16, 97, 100, 182, 0, 67, 176, 27, 16, 48, 161, 0, 29, 27, 16, 57, 163, 0, 23, 187, 0, 53, 89, 42]
abbrev dktX7_statement_2 : List UInt8 := dkwX7_statement_2 ++ dktX7_statement_3
def dkwX7_statement_1 : List UInt8 := [89, 180, 0, 21, 4, 96, 181, 0, 21, 27, 16, 97, 161, 0, 18, 27, 16, 103, 162, 0, 12, 42, 27]
abbrev dktX7_statement_1 : List UInt8 := dkwX7_statement_1 ++ dktX7_statement_2
def dkwX7_statement_0 : List UInt8 := [42, 182, 0, 32, 60, 27, 2, 160, 0, 16, 187, 0, 36, 89, 4, 42, 180, 0, 21, 183, 0, 38, 191, 42]
abbrev dktX7_statement_0 : List UInt8 := dkwX7_statement_0 ++ dktX7_statement_1
theorem dksX7_statement_0 : cX7_statement.data.toList.drop 0 = dktX7_statement_0 := by decide +kernel
theorem dksX7_statement_1 : cX7_statement.data.toList.drop 24 = dktX7_statement_1 := dk_seg dksX7_statement_0 24 rfl rfl
theorem dksX7_statement_2 : cX7_statement.data.toList.drop 47 = dktX7_statement_2 := dk_seg dksX7_statement_1 23 rfl rfl
theorem dksX7_statement_3 : cX7_statement.data.toList.drop 71 = dktX7_statement_3 := dk_seg dksX7_statement_2 24 rfl rfl
theorem dksX7_statement_4 : cX7_statement.data.toList.drop 95 = dktX7_statement_4 := dk_seg dksX7_statement_3 24 rfl rfl
theorem dksX7_statement_5 : cX7_statement.data.toList.drop 119 = dktX7_statement_5 := dk_seg dksX7_statement_4 24 rfl rfl
theorem dksX7_statement_6 : cX7_statement.data.toList.drop 143 = dktX7_statement_6 := dk_seg dksX7_statement_5 24 rfl rfl
theorem dksX7_statement_7 : cX7_statement.data.toList.drop 165 = dktX7_statement_7 := dk_seg dksX7_statement_6 22 rfl rfl
theorem dksX7_statement_8 : cX7_statement.data.toList.drop 189 = dktX7_statement_8 := dk_seg dksX7_statement_7 24 rfl rfl
theorem dX7_statement_0 : decode cX7_statement 0 = .ok (.aload_n 0, 1) := dk_42 (dk_at dksX7_statement_0 0 rfl rfl)
theorem dX7_statement_1 : decode cX7_statement 1 = .ok (.invokevirtual 32, 3) := dk_182 0 32 (dk_at dksX7_statement_0 1 rfl rfl)
theorem dX7_statement_4 : decode cX7_statement 4 = .ok (.istore_n 1, 1) := dk_60 (dk_at dksX7_statement_0 4 rfl rfl)
theorem dX7_statement_5 : decode cX7_statement 5 = .ok (.iload_n 1, 1) := dk_27 (dk_at dksX7_statement_0 5 rfl rfl)
theorem dX7_statement_6 : decode cX7_statement 6 = .ok (.iconst (-1), 1) := dk_2 (dk_at dksX7_statement_0 6 rfl rfl)
theorem dX7_statement_7 : decode cX7_statement 7 = .ok (.if_icmp .ne 16, 3) := dk_160 0 16 (dk_at dksX7_statement_0 7 rfl rfl)
theorem dX7_statement_10 : decode cX7_statement 10 = .ok (.new 36, 3) := dk_187 0 36 (dk_at dksX7_statement_0 10 rfl rfl)
theorem dX7_statement_13 : decode cX7_statement 13 = .ok (.dup, 1) := dk_89 (dk_at dksX7_statement_0 13 rfl rfl)
theorem dX7_statement_14 : decode cX7_statement 14 = .ok (.iconst 1, 1) := dk_4 (dk_at dksX7_statement_0 14 rfl rfl)
theorem dX7_statement_15 : decode cX7_statement 15 = .ok (.aload_n 0, 1) := dk_42 (dk_at dksX7_statement_0 15 rfl rfl)
theorem dX7_statement_16 : decode cX7_statement 16 = .ok (.getfield 21, 3) := dk_180 0 21 (dk_at dksX7_statement_0 16 rfl rfl)
theorem dX7_statement_19 : decode cX7_statement 19 = .ok (.invokespecial 38, 3) := dk_183 0 38 (dk_at dksX7_statement_0 19 rfl rfl)
theorem dX7_statement_22 : decode cX7_statement 22 = .ok (.athrow, 1) := dk_191 (dk_at dksX7_statement_0 22 rfl rfl)
theorem dX7_statement_23 : decode cX7_statement 23 = .ok (.aload_n 0, 1) := dk_42 (dk_at dksX7_statement_0 23 rfl rfl)
theorem dX7_statement_24 : decode cX7_statement 24 = .ok (.dup, 1) := dk_89 (dk_at dksX7_statement_1 0 rfl rfl)
theorem dX7_statement_25 : decode cX7_statement 25 = .ok (.getfield 21, 3) := dk_180 0 21 (dk_at dksX7_statement_1 1 rfl rfl)
theorem dX7_statement_28 : decode cX7_statement 28 = .ok (.iconst 1, 1) := dk_4 (dk_at dksX7_statement_1 4 rfl rfl)
theorem dX7_statement_29 : decode cX7_statement 29 = .ok (.iadd, 1) := dk_96 (dk_at dksX7_statement_1 5 rfl rfl)
theorem dX7_statement_30 : decode cX7_statement 30 = .ok (.putfield 21, 3) := dk_181 0 21 (dk_at dksX7_statement_1 6 rfl rfl)
theorem dX7_statement_33 : decode cX7_statement 33 = .ok (.iload_n 1, 1) := dk_27 (dk_at dksX7_statement_1 9 rfl rfl)
theorem dX7_statement_34 : decode cX7_statement 34 = .ok (.bipush 97, 2) := dk_16 97 (dk_at dksX7_statement_1 10 rfl rfl)
theorem dX7_statement_36 : decode cX7_statement 36 = .ok (.if_icmp .lt 18, 3) := dk_161 0 18 (dk_at dksX7_statement_1 12 rfl rfl)
theorem dX7_statement_39 : decode cX7_statement 39 = .ok (.iload_n 1, 1) := dk_27 (dk_at dksX7_statement_1 15 rfl rfl)
theorem dX7_statement_40 : decode cX7_statement 40 = .ok (.bipush 103, 2) := dk_16 103 (dk_at dksX7_statement_1 16 rfl rfl)
theorem dX7_statement_42 : decode cX7_statement 42 = .ok (.if_icmp .ge 12, 3) := dk_162 0 12 (dk_at dksX7_statement_1 18 rfl rfl)
theorem dX7_statement_45 : decode cX7_statement 45 = .ok (.aload_n 0, 1) := dk_42 (dk_at dksX7_statement_1 21 rfl rfl)
theorem dX7_statement_46 : decode cX7_statement 46 = .ok (.iload_n 1, 1) := dk_27 (dk_at dksX7_statement_1 22 rfl rfl)
theorem dX7_statement_47 : decode cX7_statement 47 = .ok (.bipush 97, 2) := dk_16 97 (dk_at dksX7_statement_2 0 rfl rfl)
theorem dX7_statement_49 : decode cX7_statement 49 = .ok (.isub, 1) := dk_100 (dk_at dksX7_statement_2 2 rfl rfl)
theorem dX7_statement_50 : decode cX7_statement 50 = .ok (.invokevirtual 67, 3) := dk_182 0 67 (dk_at dksX7_statement_2 3 rfl rfl)
theorem dX7_statement_53 : decode cX7_statement 53 = .ok (.areturn, 1) := dk_176 (dk_at dksX7_statement_2 6 rfl rfl)
theorem dX7_statement_54 : decode cX7_statement 54 = .ok (.iload_n 1, 1) := dk_27 (dk_at dksX7_statement_2 7 rfl rfl)
theorem dX7_statement_55 : decode cX7_statement 55 = .ok (.bipush 48, 2) := dk_16 48 (dk_at dksX7_statement_2 8 rfl rfl)
theorem dX7_statement_57 : decode cX7_statement 57 = .ok (.if_icmp .lt 29, 3) := dk_161 0 29 (dk_at dksX7_statement_2 10 rfl rfl)
theorem dX7_statement_60 : decode cX7_statement 60 = .ok (.iload_n 1, 1) := dk_27 (dk_at dksX7_statement_2 13 rfl rfl)
theorem dX7_statement_61 : decode cX7_statement 61 = .ok (.bipush 57, 2) := dk_16 57 (dk_at dksX7_statement_2 14 rfl rfl)
theorem dX7_statement_63 : decode cX7_statement 63 = .ok (.if_icmp .gt 23, 3) := dk_163 0 23 (dk_at dksX7_statement_2 16 rfl rfl)
theorem dX7_statement_66 : decode cX7_statement 66 = .ok (.new 53, 3) := dk_187 0 53 (dk_at dksX7_statement_2 19 rfl rfl)
theorem dX7_statement_69 : decode cX7_statement 69 = .ok (.dup, 1) := dk_89 (dk_at dksX7_statement_2 22 rfl rfl)
theorem dX7_statement_70 : decode cX7_statement 70 = .ok (.aload_n 0, 1) := dk_42 (dk_at dksX7_statement_2 23 rfl rfl)
theorem dX7_statement_71 : decode cX7_statement 71 = .ok (.getfield 3, 3) := dk_180 0 3 (dk_at dksX7_statement_3 0 rfl rfl)
theorem dX7_statement_74 : decode cX7_statement 74 = .ok (.iload_n 1, 1) := dk_27 (dk_at dksX7_statement_3 3 rfl rfl)
theorem dX7_statement_75 : decode cX7_statement 75 = .ok (.bipush 48, 2) := dk_16 48 (dk_at dksX7_statement_3 4 rfl rfl)
theorem dX7_statement_77 : decode cX7_statement 77 = .ok (.isub, 1) := dk_100 (dk_at dksX7_statement_3 6 rfl rfl)
theorem dX7_statement_78 : decode cX7_statement 78 = .ok (.aload_n 0, 1) := dk_42 (dk_at dksX7_statement_3 7 rfl rfl)
theorem dX7_statement_79 : decode cX7_statement 79 = .ok (.invokevirtual 55, 3) := dk_182 0 55 (dk_at dksX7_statement_3 8 rfl rfl)
theorem dX7_statement_82 : decode cX7_statement 82 = .ok (.invokespecial 58, 3) := dk_183 0 58 (dk_at dksX7_statement_3 11 rfl rfl)
theorem dX7_statement_85 : decode cX7_statement 85 = .ok (.areturn, 1) := dk_176 (dk_at dksX7_statement_3 14 rfl rfl)
theorem dX7_statement_86 : decode cX7_statement 86 = .ok (.iload_n 1, 1) := dk_27 (dk_at dksX7_statement_3 15 rfl rfl)
theorem dX7_statement_87 : decode cX7_statement 87 = .ok (.bipush 116, 2) := dk_16 116 (dk_at dksX7_statement_3 16 rfl rfl)
theorem dX7_statement_89 : decode cX7_statement 89 = .ok (.if_icmp .eq 30, 3) := dk_159 0 30 (dk_at dksX7_statement_3 18 rfl rfl)
theorem dX7_statement_92 : decode cX7_statement 92 = .ok (.iload_n 1, 1) := dk_27 (dk_at dksX7_statement_3 21 rfl rfl)
theorem dX7_statement_93 : decode cX7_statement 93 = .ok (.bipush 115, 2) := dk_16 115 (dk_at dksX7_statement_3 22 rfl rfl)
theorem dX7_statement_95 : decode cX7_statement 95 = .ok (.if_icmp .eq 24, 3) := dk_159 0 24 (dk_at dksX7_statement_4 0 rfl rfl)
theorem dX7_statement_98 : decode cX7_statement 98 = .ok (.iload_n 1, 1) := dk_27 (dk_at dksX7_statement_4 3 rfl rfl)
theorem dX7_statement_99 : decode cX7_statement 99 = .ok (.bipush 117, 2) := dk_16 117 (dk_at dksX7_statement_4 4 rfl rfl)
theorem dX7_statement_101 : decode cX7_statement 101 = .ok (.if_icmp .eq 18, 3) := dk_159 0 18 (dk_at dksX7_statement_4 6 rfl rfl)
theorem dX7_statement_104 : decode cX7_statement 104 = .ok (.new 36, 3) := dk_187 0 36 (dk_at dksX7_statement_4 9 rfl rfl)
theorem dX7_statement_107 : decode cX7_statement 107 = .ok (.dup, 1) := dk_89 (dk_at dksX7_statement_4 12 rfl rfl)
theorem dX7_statement_108 : decode cX7_statement 108 = .ok (.iconst 1, 1) := dk_4 (dk_at dksX7_statement_4 13 rfl rfl)
theorem dX7_statement_109 : decode cX7_statement 109 = .ok (.aload_n 0, 1) := dk_42 (dk_at dksX7_statement_4 14 rfl rfl)
theorem dX7_statement_110 : decode cX7_statement 110 = .ok (.getfield 21, 3) := dk_180 0 21 (dk_at dksX7_statement_4 15 rfl rfl)
theorem dX7_statement_113 : decode cX7_statement 113 = .ok (.iconst 1, 1) := dk_4 (dk_at dksX7_statement_4 18 rfl rfl)
theorem dX7_statement_114 : decode cX7_statement 114 = .ok (.isub, 1) := dk_100 (dk_at dksX7_statement_4 19 rfl rfl)
theorem dX7_statement_115 : decode cX7_statement 115 = .ok (.invokespecial 38, 3) := dk_183 0 38 (dk_at dksX7_statement_4 20 rfl rfl)
theorem dX7_statement_118 : decode cX7_statement 118 = .ok (.athrow, 1) := dk_191 (dk_at dksX7_statement_4 23 rfl rfl)
theorem dX7_statement_119 : decode cX7_statement 119 = .ok (.aload_n 0, 1) := dk_42 (dk_at dksX7_statement_5 0 rfl rfl)
theorem dX7_statement_120 : decode cX7_statement 120 = .ok (.aload_n 0, 1) := dk_42 (dk_at dksX7_statement_5 1 rfl rfl)
theorem dX7_statement_121 : decode cX7_statement 121 = .ok (.getfield 3, 3) := dk_180 0 3 (dk_at dksX7_statement_5 2 rfl rfl)
theorem dX7_statement_124 : decode cX7_statement 124 = .ok (.getfield 71, 3) := dk_180 0 71 (dk_at dksX7_statement_5 5 rfl rfl)
theorem dX7_statement_127 : decode cX7_statement 127 = .ok (.iconst 2, 1) := dk_5 (dk_at dksX7_statement_5 8 rfl rfl)
theorem dX7_statement_128 : decode cX7_statement 128 = .ok (.isub, 1) := dk_100 (dk_at dksX7_statement_5 9 rfl rfl)
theorem dX7_statement_129 : decode cX7_statement 129 = .ok (.invokevirtual 74, 3) := dk_182 0 74 (dk_at dksX7_statement_5 10 rfl rfl)
theorem dX7_statement_132 : decode cX7_statement 132 = .ok (.istore_n 2, 1) := dk_61 (dk_at dksX7_statement_5 13 rfl rfl)
theorem dX7_statement_133 : decode cX7_statement 133 = .ok (.iload_n 1, 1) := dk_27 (dk_at dksX7_statement_5 14 rfl rfl)
theorem dX7_statement_134 : decode cX7_statement 134 = .ok (.bipush 115, 2) := dk_16 115 (dk_at dksX7_statement_5 15 rfl rfl)
theorem dX7_statement_136 : decode cX7_statement 136 = .ok (.if_icmp .ne 16, 3) := dk_160 0 16 (dk_at dksX7_statement_5 17 rfl rfl)
theorem dX7_statement_139 : decode cX7_statement 139 = .ok (.new 78, 3) := dk_187 0 78 (dk_at dksX7_statement_5 20 rfl rfl)
theorem dX7_statement_142 : decode cX7_statement 142 = .ok (.dup, 1) := dk_89 (dk_at dksX7_statement_5 23 rfl rfl)
theorem dX7_statement_143 : decode cX7_statement 143 = .ok (.aload_n 0, 1) := dk_42 (dk_at dksX7_statement_6 0 rfl rfl)
theorem dX7_statement_144 : decode cX7_statement 144 = .ok (.getfield 3, 3) := dk_180 0 3 (dk_at dksX7_statement_6 1 rfl rfl)
theorem dX7_statement_147 : decode cX7_statement 147 = .ok (.iload_n 2, 1) := dk_28 (dk_at dksX7_statement_6 4 rfl rfl)
theorem dX7_statement_148 : decode cX7_statement 148 = .ok (.invokespecial 80, 3) := dk_183 0 80 (dk_at dksX7_statement_6 5 rfl rfl)
theorem dX7_statement_151 : decode cX7_statement 151 = .ok (.areturn, 1) := dk_176 (dk_at dksX7_statement_6 8 rfl rfl)
theorem dX7_statement_152 : decode cX7_statement 152 = .ok (.aload_n 0, 1) := dk_42 (dk_at dksX7_statement_6 9 rfl rfl)
theorem dX7_statement_153 : decode cX7_statement 153 = .ok (.bipush 95, 2) := dk_16 95 (dk_at dksX7_statement_6 10 rfl rfl)
theorem dX7_statement_155 : decode cX7_statement 155 = .ok (.invokevirtual 74, 3) := dk_182 0 74 (dk_at dksX7_statement_6 12 rfl rfl)
theorem dX7_statement_158 : decode cX7_statement 158 = .ok (.istore_n 3, 1) := dk_62 (dk_at dksX7_statement_6 15 rfl rfl)
theorem dX7_statement_159 : decode cX7_statement 159 = .ok (.iload_n 1, 1) := dk_27 (dk_at dksX7_statement_6 16 rfl rfl)
theorem dX7_statement_160 : decode cX7_statement 160 = .ok (.bipush 116, 2) := dk_16 116 (dk_at dksX7_statement_6 17 rfl rfl)
theorem dX7_statement_162 : decode cX7_statement 162 = .ok (.if_icmp .ne 19, 3) := dk_160 0 19 (dk_at dksX7_statement_6 19 rfl rfl)
theorem dX7_statement_165 : decode cX7_statement 165 = .ok (.new 83, 3) := dk_187 0 83 (dk_at dksX7_statement_7 0 rfl rfl)
theorem dX7_statement_168 : decode cX7_statement 168 = .ok (.dup, 1) := dk_89 (dk_at dksX7_statement_7 3 rfl rfl)
theorem dX7_statement_169 : decode cX7_statement 169 = .ok (.aload_n 0, 1) := dk_42 (dk_at dksX7_statement_7 4 rfl rfl)
theorem dX7_statement_170 : decode cX7_statement 170 = .ok (.getfield 3, 3) := dk_180 0 3 (dk_at dksX7_statement_7 5 rfl rfl)
theorem dX7_statement_173 : decode cX7_statement 173 = .ok (.iload_n 2, 1) := dk_28 (dk_at dksX7_statement_7 8 rfl rfl)
theorem dX7_statement_174 : decode cX7_statement 174 = .ok (.iload_n 3, 1) := dk_29 (dk_at dksX7_statement_7 9 rfl rfl)
theorem dX7_statement_175 : decode cX7_statement 175 = .ok (.invokespecial 85, 3) := dk_183 0 85 (dk_at dksX7_statement_7 10 rfl rfl)
theorem dX7_statement_178 : decode cX7_statement 178 = .ok (.goto 16, 3) := dk_167 0 16 (dk_at dksX7_statement_7 13 rfl rfl)
theorem dX7_statement_181 : decode cX7_statement 181 = .ok (.new 88, 3) := dk_187 0 88 (dk_at dksX7_statement_7 16 rfl rfl)
theorem dX7_statement_184 : decode cX7_statement 184 = .ok (.dup, 1) := dk_89 (dk_at dksX7_statement_7 19 rfl rfl)
theorem dX7_statement_185 : decode cX7_statement 185 = .ok (.aload_n 0, 1) := dk_42 (dk_at dksX7_statement_7 20 rfl rfl)
theorem dX7_statement_186 : decode cX7_statement 186 = .ok (.getfield 3, 3) := dk_180 0 3 (dk_at dksX7_statement_7 21 rfl rfl)
theorem dX7_statement_189 : decode cX7_statement 189 = .ok (.iload_n 2, 1) := dk_28 (dk_at dksX7_statement_8 0 rfl rfl)
theorem dX7_statement_190 : decode cX7_statement 190 = .ok (.iload_n 3, 1) := dk_29 (dk_at dksX7_statement_8 1 rfl rfl)
theorem dX7_statement_191 : decode cX7_statement 191 = .ok (.invokespecial 90, 3) := dk_183 0 90 (dk_at dksX7_statement_8 2 rfl rfl)
theorem dX7_statement_194 : decode cX7_statement 194 = .ok (.areturn, 1) := dk_176 (dk_at dksX7_statement_8 5 rfl rfl)
abbrev cX7_next : ByteArray := prog_11_method_2_code
def yX7_next : MethodName := ⟨RX7, "next", "()I"⟩
def dkwX7_next_1 : List UInt8 := [180, 0, 21, 51, 167, 0, 4, 2, 172]
abbrev dktX7_next_1 : List UInt8 := dkwX7_next_1 ++ []
def dkwX7_next_0 : List UInt8 := [42, 180, 0, 21, 42, 180, 0, 3, 180, 0, 25, 162, 0, 18, 42, 180, 0, 3, 180, 0, 28, 42]
abbrev dktX7_next_0 : List UInt8 := dkwX7_next_0 ++ dktX7_next_1
theorem dksX7_next_0 : cX7_next.data.toList.drop 0 = dktX7_next_0 := by decide +kernel
theorem dksX7_next_1 : cX7_next.data.toList.drop 22 = dktX7_next_1 := dk_seg dksX7_next_0 22 rfl rfl
theorem dX7_next_0 : decode cX7_next 0 = .ok (.aload_n 0, 1) := dk_42 (dk_at dksX7_next_0 0 rfl rfl)
theorem dX7_next_1 : decode cX7_next 1 = .ok (.getfield 21, 3) := dk_180 0 21 (dk_at dksX7_next_0 1 rfl rfl)
theorem dX7_next_4 : decode cX7_next 4 = .ok (.aload_n 0, 1) := dk_42 (dk_at dksX7_next_0 4 rfl rfl)
theorem dX7_next_5 : decode cX7_next 5 = .ok (.getfield 3, 3) := dk_180 0 3 (dk_at dksX7_next_0 5 rfl rfl)
theorem dX7_next_8 : decode cX7_next 8 = .ok (.getfield 25, 3) := dk_180 0 25 (dk_at dksX7_next_0 8 rfl rfl)
theorem dX7_next_11 : decode cX7_next 11 = .ok (.if_icmp .ge 18, 3) := dk_162 0 18 (dk_at dksX7_next_0 11 rfl rfl)
theorem dX7_next_14 : decode cX7_next 14 = .ok (.aload_n 0, 1) := dk_42 (dk_at dksX7_next_0 14 rfl rfl)
theorem dX7_next_15 : decode cX7_next 15 = .ok (.getfield 3, 3) := dk_180 0 3 (dk_at dksX7_next_0 15 rfl rfl)
theorem dX7_next_18 : decode cX7_next 18 = .ok (.getfield 28, 3) := dk_180 0 28 (dk_at dksX7_next_0 18 rfl rfl)
theorem dX7_next_21 : decode cX7_next 21 = .ok (.aload_n 0, 1) := dk_42 (dk_at dksX7_next_0 21 rfl rfl)
theorem dX7_next_22 : decode cX7_next 22 = .ok (.getfield 21, 3) := dk_180 0 21 (dk_at dksX7_next_1 0 rfl rfl)
theorem dX7_next_25 : decode cX7_next 25 = .ok (.baload, 1) := dk_51 (dk_at dksX7_next_1 3 rfl rfl)
theorem dX7_next_26 : decode cX7_next 26 = .ok (.goto 4, 3) := dk_167 0 4 (dk_at dksX7_next_1 4 rfl rfl)
theorem dX7_next_29 : decode cX7_next 29 = .ok (.iconst (-1), 1) := dk_2 (dk_at dksX7_next_1 7 rfl rfl)
theorem dX7_next_30 : decode cX7_next 30 = .ok (.ireturn, 1) := dk_172 (dk_at dksX7_next_1 8 rfl rfl)
abbrev cX7_name : ByteArray := prog_11_method_7_code
def yX7_name : MethodName := ⟨RX7, "name", "(I)LLightPlate$Node;"⟩
def dkwX7_name_4 : List UInt8 := [28, 181, 0, 64, 187, 0, 53, 89, 42, 180, 0, 3, 3, 187, 0, 61, 89, 183, 0, 63, 183, 0, 58, 176]
abbrev dktX7_name_4 : List UInt8 := dkwX7_name_4 ++ []
def dkwX7_name_3 : List UInt8 := [180, 0, 17, 27, 50, 198, 0, 10, 42, 180, 0, 17, 27, 50, 176, 42, 180, 0, 64, 2, 160, 0, 8, 42]
abbrev dktX7_name_3 : List UInt8 := dkwX7_name_3 ++ dktX7_name_4
def dkwX7_name_2 : List UInt8 := [83, 187, 0, 53, 89, 42, 180, 0, 3, 3, 187, 0, 61, 89, 183, 0, 63, 183, 0, 58, 176, 42]
abbrev dktX7_name_2 : List UInt8 := dkwX7_name_2 ++ dktX7_name_3
def dkwX7_name_1 : List UInt8 := [181, 0, 21, 42, 180, 0, 17, 27, 187, 0, 53, 89, 42, 180, 0, 3, 4, 42, 182, 0, 55, 183, 0, 58]
abbrev dktX7_name_1 : List UInt8 := dkwX7_name_1 ++ dktX7_name_2
def dkwX7_name_0 : List UInt8 := [42, 180, 0, 21, 4, 100, 61, 42, 182, 0, 32, 16, 61, 160, 0, 55, 42, 89, 180, 0, 21, 4, 96]
abbrev dktX7_name_0 : List UInt8 := dkwX7_name_0 ++ dktX7_name_1
theorem dksX7_name_0 : cX7_name.data.toList.drop 0 = dktX7_name_0 := by decide +kernel
theorem dksX7_name_1 : cX7_name.data.toList.drop 23 = dktX7_name_1 := dk_seg dksX7_name_0 23 rfl rfl
theorem dksX7_name_2 : cX7_name.data.toList.drop 47 = dktX7_name_2 := dk_seg dksX7_name_1 24 rfl rfl
theorem dksX7_name_3 : cX7_name.data.toList.drop 69 = dktX7_name_3 := dk_seg dksX7_name_2 22 rfl rfl
theorem dksX7_name_4 : cX7_name.data.toList.drop 93 = dktX7_name_4 := dk_seg dksX7_name_3 24 rfl rfl
theorem dX7_name_0 : decode cX7_name 0 = .ok (.aload_n 0, 1) := dk_42 (dk_at dksX7_name_0 0 rfl rfl)
theorem dX7_name_1 : decode cX7_name 1 = .ok (.getfield 21, 3) := dk_180 0 21 (dk_at dksX7_name_0 1 rfl rfl)
theorem dX7_name_4 : decode cX7_name 4 = .ok (.iconst 1, 1) := dk_4 (dk_at dksX7_name_0 4 rfl rfl)
theorem dX7_name_5 : decode cX7_name 5 = .ok (.isub, 1) := dk_100 (dk_at dksX7_name_0 5 rfl rfl)
theorem dX7_name_6 : decode cX7_name 6 = .ok (.istore_n 2, 1) := dk_61 (dk_at dksX7_name_0 6 rfl rfl)
theorem dX7_name_7 : decode cX7_name 7 = .ok (.aload_n 0, 1) := dk_42 (dk_at dksX7_name_0 7 rfl rfl)
theorem dX7_name_8 : decode cX7_name 8 = .ok (.invokevirtual 32, 3) := dk_182 0 32 (dk_at dksX7_name_0 8 rfl rfl)
theorem dX7_name_11 : decode cX7_name 11 = .ok (.bipush 61, 2) := dk_16 61 (dk_at dksX7_name_0 11 rfl rfl)
theorem dX7_name_13 : decode cX7_name 13 = .ok (.if_icmp .ne 55, 3) := dk_160 0 55 (dk_at dksX7_name_0 13 rfl rfl)
theorem dX7_name_16 : decode cX7_name 16 = .ok (.aload_n 0, 1) := dk_42 (dk_at dksX7_name_0 16 rfl rfl)
theorem dX7_name_17 : decode cX7_name 17 = .ok (.dup, 1) := dk_89 (dk_at dksX7_name_0 17 rfl rfl)
theorem dX7_name_18 : decode cX7_name 18 = .ok (.getfield 21, 3) := dk_180 0 21 (dk_at dksX7_name_0 18 rfl rfl)
theorem dX7_name_21 : decode cX7_name 21 = .ok (.iconst 1, 1) := dk_4 (dk_at dksX7_name_0 21 rfl rfl)
theorem dX7_name_22 : decode cX7_name 22 = .ok (.iadd, 1) := dk_96 (dk_at dksX7_name_0 22 rfl rfl)
theorem dX7_name_23 : decode cX7_name 23 = .ok (.putfield 21, 3) := dk_181 0 21 (dk_at dksX7_name_1 0 rfl rfl)
theorem dX7_name_26 : decode cX7_name 26 = .ok (.aload_n 0, 1) := dk_42 (dk_at dksX7_name_1 3 rfl rfl)
theorem dX7_name_27 : decode cX7_name 27 = .ok (.getfield 17, 3) := dk_180 0 17 (dk_at dksX7_name_1 4 rfl rfl)
theorem dX7_name_30 : decode cX7_name 30 = .ok (.iload_n 1, 1) := dk_27 (dk_at dksX7_name_1 7 rfl rfl)
theorem dX7_name_31 : decode cX7_name 31 = .ok (.new 53, 3) := dk_187 0 53 (dk_at dksX7_name_1 8 rfl rfl)
theorem dX7_name_34 : decode cX7_name 34 = .ok (.dup, 1) := dk_89 (dk_at dksX7_name_1 11 rfl rfl)
theorem dX7_name_35 : decode cX7_name 35 = .ok (.aload_n 0, 1) := dk_42 (dk_at dksX7_name_1 12 rfl rfl)
theorem dX7_name_36 : decode cX7_name 36 = .ok (.getfield 3, 3) := dk_180 0 3 (dk_at dksX7_name_1 13 rfl rfl)
theorem dX7_name_39 : decode cX7_name 39 = .ok (.iconst 1, 1) := dk_4 (dk_at dksX7_name_1 16 rfl rfl)
theorem dX7_name_40 : decode cX7_name 40 = .ok (.aload_n 0, 1) := dk_42 (dk_at dksX7_name_1 17 rfl rfl)
theorem dX7_name_41 : decode cX7_name 41 = .ok (.invokevirtual 55, 3) := dk_182 0 55 (dk_at dksX7_name_1 18 rfl rfl)
theorem dX7_name_44 : decode cX7_name 44 = .ok (.invokespecial 58, 3) := dk_183 0 58 (dk_at dksX7_name_1 21 rfl rfl)
theorem dX7_name_47 : decode cX7_name 47 = .ok (.aastore, 1) := dk_83 (dk_at dksX7_name_2 0 rfl rfl)
theorem dX7_name_48 : decode cX7_name 48 = .ok (.new 53, 3) := dk_187 0 53 (dk_at dksX7_name_2 1 rfl rfl)
theorem dX7_name_51 : decode cX7_name 51 = .ok (.dup, 1) := dk_89 (dk_at dksX7_name_2 4 rfl rfl)
theorem dX7_name_52 : decode cX7_name 52 = .ok (.aload_n 0, 1) := dk_42 (dk_at dksX7_name_2 5 rfl rfl)
theorem dX7_name_53 : decode cX7_name 53 = .ok (.getfield 3, 3) := dk_180 0 3 (dk_at dksX7_name_2 6 rfl rfl)
theorem dX7_name_56 : decode cX7_name 56 = .ok (.iconst 0, 1) := dk_3 (dk_at dksX7_name_2 9 rfl rfl)
theorem dX7_name_57 : decode cX7_name 57 = .ok (.new 61, 3) := dk_187 0 61 (dk_at dksX7_name_2 10 rfl rfl)
theorem dX7_name_60 : decode cX7_name 60 = .ok (.dup, 1) := dk_89 (dk_at dksX7_name_2 13 rfl rfl)
theorem dX7_name_61 : decode cX7_name 61 = .ok (.invokespecial 63, 3) := dk_183 0 63 (dk_at dksX7_name_2 14 rfl rfl)
theorem dX7_name_64 : decode cX7_name 64 = .ok (.invokespecial 58, 3) := dk_183 0 58 (dk_at dksX7_name_2 17 rfl rfl)
theorem dX7_name_67 : decode cX7_name 67 = .ok (.areturn, 1) := dk_176 (dk_at dksX7_name_2 20 rfl rfl)
theorem dX7_name_68 : decode cX7_name 68 = .ok (.aload_n 0, 1) := dk_42 (dk_at dksX7_name_2 21 rfl rfl)
theorem dX7_name_69 : decode cX7_name 69 = .ok (.getfield 17, 3) := dk_180 0 17 (dk_at dksX7_name_3 0 rfl rfl)
theorem dX7_name_72 : decode cX7_name 72 = .ok (.iload_n 1, 1) := dk_27 (dk_at dksX7_name_3 3 rfl rfl)
theorem dX7_name_73 : decode cX7_name 73 = .ok (.aaload, 1) := dk_50 (dk_at dksX7_name_3 4 rfl rfl)
theorem dX7_name_74 : decode cX7_name 74 = .ok (.ifnull 10, 3) := dk_198 0 10 (dk_at dksX7_name_3 5 rfl rfl)
theorem dX7_name_77 : decode cX7_name 77 = .ok (.aload_n 0, 1) := dk_42 (dk_at dksX7_name_3 8 rfl rfl)
theorem dX7_name_78 : decode cX7_name 78 = .ok (.getfield 17, 3) := dk_180 0 17 (dk_at dksX7_name_3 9 rfl rfl)
theorem dX7_name_81 : decode cX7_name 81 = .ok (.iload_n 1, 1) := dk_27 (dk_at dksX7_name_3 12 rfl rfl)
theorem dX7_name_82 : decode cX7_name 82 = .ok (.aaload, 1) := dk_50 (dk_at dksX7_name_3 13 rfl rfl)
theorem dX7_name_83 : decode cX7_name 83 = .ok (.areturn, 1) := dk_176 (dk_at dksX7_name_3 14 rfl rfl)
theorem dX7_name_84 : decode cX7_name 84 = .ok (.aload_n 0, 1) := dk_42 (dk_at dksX7_name_3 15 rfl rfl)
theorem dX7_name_85 : decode cX7_name 85 = .ok (.getfield 64, 3) := dk_180 0 64 (dk_at dksX7_name_3 16 rfl rfl)
theorem dX7_name_88 : decode cX7_name 88 = .ok (.iconst (-1), 1) := dk_2 (dk_at dksX7_name_3 19 rfl rfl)
theorem dX7_name_89 : decode cX7_name 89 = .ok (.if_icmp .ne 8, 3) := dk_160 0 8 (dk_at dksX7_name_3 20 rfl rfl)
theorem dX7_name_92 : decode cX7_name 92 = .ok (.aload_n 0, 1) := dk_42 (dk_at dksX7_name_3 23 rfl rfl)
theorem dX7_name_93 : decode cX7_name 93 = .ok (.iload_n 2, 1) := dk_28 (dk_at dksX7_name_4 0 rfl rfl)
theorem dX7_name_94 : decode cX7_name 94 = .ok (.putfield 64, 3) := dk_181 0 64 (dk_at dksX7_name_4 1 rfl rfl)
theorem dX7_name_97 : decode cX7_name 97 = .ok (.new 53, 3) := dk_187 0 53 (dk_at dksX7_name_4 4 rfl rfl)
theorem dX7_name_100 : decode cX7_name 100 = .ok (.dup, 1) := dk_89 (dk_at dksX7_name_4 7 rfl rfl)
theorem dX7_name_101 : decode cX7_name 101 = .ok (.aload_n 0, 1) := dk_42 (dk_at dksX7_name_4 8 rfl rfl)
theorem dX7_name_102 : decode cX7_name 102 = .ok (.getfield 3, 3) := dk_180 0 3 (dk_at dksX7_name_4 9 rfl rfl)
theorem dX7_name_105 : decode cX7_name 105 = .ok (.iconst 0, 1) := dk_3 (dk_at dksX7_name_4 12 rfl rfl)
theorem dX7_name_106 : decode cX7_name 106 = .ok (.new 61, 3) := dk_187 0 61 (dk_at dksX7_name_4 13 rfl rfl)
theorem dX7_name_109 : decode cX7_name 109 = .ok (.dup, 1) := dk_89 (dk_at dksX7_name_4 16 rfl rfl)
theorem dX7_name_110 : decode cX7_name 110 = .ok (.invokespecial 63, 3) := dk_183 0 63 (dk_at dksX7_name_4 17 rfl rfl)
theorem dX7_name_113 : decode cX7_name 113 = .ok (.invokespecial 58, 3) := dk_183 0 58 (dk_at dksX7_name_4 20 rfl rfl)
theorem dX7_name_116 : decode cX7_name 116 = .ok (.areturn, 1) := dk_176 (dk_at dksX7_name_4 23 rfl rfl)
abbrev cX7_inside : ByteArray := prog_11_method_6_code
def yX7_inside : MethodName := ⟨RX7, "inside", "()Ljava/util/ArrayList;"⟩
def dkwX7_inside_0 : List UInt8 := [42, 16, 40, 182, 0, 41, 42, 182, 0, 49, 76, 42, 16, 41, 182, 0, 41, 43, 176]
abbrev dktX7_inside_0 : List UInt8 := dkwX7_inside_0 ++ []
theorem dksX7_inside_0 : cX7_inside.data.toList.drop 0 = dktX7_inside_0 := by decide +kernel
theorem dX7_inside_0 : decode cX7_inside 0 = .ok (.aload_n 0, 1) := dk_42 (dk_at dksX7_inside_0 0 rfl rfl)
theorem dX7_inside_1 : decode cX7_inside 1 = .ok (.bipush 40, 2) := dk_16 40 (dk_at dksX7_inside_0 1 rfl rfl)
theorem dX7_inside_3 : decode cX7_inside 3 = .ok (.invokevirtual 41, 3) := dk_182 0 41 (dk_at dksX7_inside_0 3 rfl rfl)
theorem dX7_inside_6 : decode cX7_inside 6 = .ok (.aload_n 0, 1) := dk_42 (dk_at dksX7_inside_0 6 rfl rfl)
theorem dX7_inside_7 : decode cX7_inside 7 = .ok (.invokevirtual 49, 3) := dk_182 0 49 (dk_at dksX7_inside_0 7 rfl rfl)
theorem dX7_inside_10 : decode cX7_inside 10 = .ok (.astore_n 1, 1) := dk_76 (dk_at dksX7_inside_0 10 rfl rfl)
theorem dX7_inside_11 : decode cX7_inside 11 = .ok (.aload_n 0, 1) := dk_42 (dk_at dksX7_inside_0 11 rfl rfl)
theorem dX7_inside_12 : decode cX7_inside 12 = .ok (.bipush 41, 2) := dk_16 41 (dk_at dksX7_inside_0 12 rfl rfl)
theorem dX7_inside_14 : decode cX7_inside 14 = .ok (.invokevirtual 41, 3) := dk_182 0 41 (dk_at dksX7_inside_0 14 rfl rfl)
theorem dX7_inside_17 : decode cX7_inside 17 = .ok (.aload_n 1, 1) := dk_43 (dk_at dksX7_inside_0 17 rfl rfl)
theorem dX7_inside_18 : decode cX7_inside 18 = .ok (.areturn, 1) := dk_176 (dk_at dksX7_inside_0 18 rfl rfl)
abbrev cX7_sign : ByteArray := prog_11_method_3_code
def yX7_sign : MethodName := ⟨RX7, "sign", "(I)V"⟩
def dkwX7_sign_1 : List UInt8 := [180, 0, 21, 4, 96, 181, 0, 21, 177]
abbrev dktX7_sign_1 : List UInt8 := dkwX7_sign_1 ++ []
def dkwX7_sign_0 : List UInt8 := [42, 182, 0, 32, 27, 159, 0, 16, 187, 0, 36, 89, 4, 42, 180, 0, 21, 183, 0, 38, 191, 42, 89]
abbrev dktX7_sign_0 : List UInt8 := dkwX7_sign_0 ++ dktX7_sign_1
theorem dksX7_sign_0 : cX7_sign.data.toList.drop 0 = dktX7_sign_0 := by decide +kernel
theorem dksX7_sign_1 : cX7_sign.data.toList.drop 23 = dktX7_sign_1 := dk_seg dksX7_sign_0 23 rfl rfl
theorem dX7_sign_0 : decode cX7_sign 0 = .ok (.aload_n 0, 1) := dk_42 (dk_at dksX7_sign_0 0 rfl rfl)
theorem dX7_sign_1 : decode cX7_sign 1 = .ok (.invokevirtual 32, 3) := dk_182 0 32 (dk_at dksX7_sign_0 1 rfl rfl)
theorem dX7_sign_4 : decode cX7_sign 4 = .ok (.iload_n 1, 1) := dk_27 (dk_at dksX7_sign_0 4 rfl rfl)
theorem dX7_sign_5 : decode cX7_sign 5 = .ok (.if_icmp .eq 16, 3) := dk_159 0 16 (dk_at dksX7_sign_0 5 rfl rfl)
theorem dX7_sign_8 : decode cX7_sign 8 = .ok (.new 36, 3) := dk_187 0 36 (dk_at dksX7_sign_0 8 rfl rfl)
theorem dX7_sign_11 : decode cX7_sign 11 = .ok (.dup, 1) := dk_89 (dk_at dksX7_sign_0 11 rfl rfl)
theorem dX7_sign_12 : decode cX7_sign 12 = .ok (.iconst 1, 1) := dk_4 (dk_at dksX7_sign_0 12 rfl rfl)
theorem dX7_sign_13 : decode cX7_sign 13 = .ok (.aload_n 0, 1) := dk_42 (dk_at dksX7_sign_0 13 rfl rfl)
theorem dX7_sign_14 : decode cX7_sign 14 = .ok (.getfield 21, 3) := dk_180 0 21 (dk_at dksX7_sign_0 14 rfl rfl)
theorem dX7_sign_17 : decode cX7_sign 17 = .ok (.invokespecial 38, 3) := dk_183 0 38 (dk_at dksX7_sign_0 17 rfl rfl)
theorem dX7_sign_20 : decode cX7_sign 20 = .ok (.athrow, 1) := dk_191 (dk_at dksX7_sign_0 20 rfl rfl)
theorem dX7_sign_21 : decode cX7_sign 21 = .ok (.aload_n 0, 1) := dk_42 (dk_at dksX7_sign_0 21 rfl rfl)
theorem dX7_sign_22 : decode cX7_sign 22 = .ok (.dup, 1) := dk_89 (dk_at dksX7_sign_0 22 rfl rfl)
theorem dX7_sign_23 : decode cX7_sign 23 = .ok (.getfield 21, 3) := dk_180 0 21 (dk_at dksX7_sign_1 0 rfl rfl)
theorem dX7_sign_26 : decode cX7_sign 26 = .ok (.iconst 1, 1) := dk_4 (dk_at dksX7_sign_1 3 rfl rfl)
theorem dX7_sign_27 : decode cX7_sign 27 = .ok (.iadd, 1) := dk_96 (dk_at dksX7_sign_1 4 rfl rfl)
theorem dX7_sign_28 : decode cX7_sign 28 = .ok (.putfield 21, 3) := dk_181 0 21 (dk_at dksX7_sign_1 5 rfl rfl)
theorem dX7_sign_31 : decode cX7_sign 31 = .ok (.return_, 1) := dk_177 (dk_at dksX7_sign_1 8 rfl rfl)
abbrev cX7_number : ByteArray := prog_11_method_5_code
def yX7_number : MethodName := ⟨RX7, "number", "(I)I"⟩
def dkwX7_number_4 : List UInt8 := [132, 3, 1, 167, 255, 192, 28, 172]
abbrev dktX7_number_4 : List UInt8 := dkwX7_number_4 ++ []
def dkwX7_number_3 : List UInt8 := [187, 0, 36, 89, 4, 42, 180, 0, 21, 183, 0, 38, 191, 42, 89, 180, 0, 21, 4, 96, 181, 0, 21]
abbrev dktX7_number_3 : List UInt8 := dkwX7_number_3 ++ dktX7_number_4
def dkwX7_number_2 : List UInt8 := [28, 158, 0, 50, 16, 10, 28, 104, 42, 182, 0, 32, 96, 16, 48, 100, 61, 28, 27, 164, 0, 16]
abbrev dktX7_number_2 : List UInt8 := dkwX7_number_2 ++ dktX7_number_3
def dkwX7_number_1 : List UInt8 := [183, 0, 38, 191, 3, 61, 3, 62, 29, 5, 162, 0, 65, 42, 182, 0, 45, 153, 0, 58, 29, 153, 0, 7]
abbrev dktX7_number_1 : List UInt8 := dkwX7_number_1 ++ dktX7_number_2
def dkwX7_number_0 : List UInt8 := [42, 16, 32, 182, 0, 41, 42, 182, 0, 45, 154, 0, 16, 187, 0, 36, 89, 4, 42, 180, 0, 21]
abbrev dktX7_number_0 : List UInt8 := dkwX7_number_0 ++ dktX7_number_1
theorem dksX7_number_0 : cX7_number.data.toList.drop 0 = dktX7_number_0 := by decide +kernel
theorem dksX7_number_1 : cX7_number.data.toList.drop 22 = dktX7_number_1 := dk_seg dksX7_number_0 22 rfl rfl
theorem dksX7_number_2 : cX7_number.data.toList.drop 46 = dktX7_number_2 := dk_seg dksX7_number_1 24 rfl rfl
theorem dksX7_number_3 : cX7_number.data.toList.drop 68 = dktX7_number_3 := dk_seg dksX7_number_2 22 rfl rfl
theorem dksX7_number_4 : cX7_number.data.toList.drop 91 = dktX7_number_4 := dk_seg dksX7_number_3 23 rfl rfl
theorem dX7_number_0 : decode cX7_number 0 = .ok (.aload_n 0, 1) := dk_42 (dk_at dksX7_number_0 0 rfl rfl)
theorem dX7_number_1 : decode cX7_number 1 = .ok (.bipush 32, 2) := dk_16 32 (dk_at dksX7_number_0 1 rfl rfl)
theorem dX7_number_3 : decode cX7_number 3 = .ok (.invokevirtual 41, 3) := dk_182 0 41 (dk_at dksX7_number_0 3 rfl rfl)
theorem dX7_number_6 : decode cX7_number 6 = .ok (.aload_n 0, 1) := dk_42 (dk_at dksX7_number_0 6 rfl rfl)
theorem dX7_number_7 : decode cX7_number 7 = .ok (.invokevirtual 45, 3) := dk_182 0 45 (dk_at dksX7_number_0 7 rfl rfl)
theorem dX7_number_10 : decode cX7_number 10 = .ok (.ifCond .ne 16, 3) := dk_154 0 16 (dk_at dksX7_number_0 10 rfl rfl)
theorem dX7_number_13 : decode cX7_number 13 = .ok (.new 36, 3) := dk_187 0 36 (dk_at dksX7_number_0 13 rfl rfl)
theorem dX7_number_16 : decode cX7_number 16 = .ok (.dup, 1) := dk_89 (dk_at dksX7_number_0 16 rfl rfl)
theorem dX7_number_17 : decode cX7_number 17 = .ok (.iconst 1, 1) := dk_4 (dk_at dksX7_number_0 17 rfl rfl)
theorem dX7_number_18 : decode cX7_number 18 = .ok (.aload_n 0, 1) := dk_42 (dk_at dksX7_number_0 18 rfl rfl)
theorem dX7_number_19 : decode cX7_number 19 = .ok (.getfield 21, 3) := dk_180 0 21 (dk_at dksX7_number_0 19 rfl rfl)
theorem dX7_number_22 : decode cX7_number 22 = .ok (.invokespecial 38, 3) := dk_183 0 38 (dk_at dksX7_number_1 0 rfl rfl)
theorem dX7_number_25 : decode cX7_number 25 = .ok (.athrow, 1) := dk_191 (dk_at dksX7_number_1 3 rfl rfl)
theorem dX7_number_26 : decode cX7_number 26 = .ok (.iconst 0, 1) := dk_3 (dk_at dksX7_number_1 4 rfl rfl)
theorem dX7_number_27 : decode cX7_number 27 = .ok (.istore_n 2, 1) := dk_61 (dk_at dksX7_number_1 5 rfl rfl)
theorem dX7_number_28 : decode cX7_number 28 = .ok (.iconst 0, 1) := dk_3 (dk_at dksX7_number_1 6 rfl rfl)
theorem dX7_number_29 : decode cX7_number 29 = .ok (.istore_n 3, 1) := dk_62 (dk_at dksX7_number_1 7 rfl rfl)
theorem dX7_number_30 : decode cX7_number 30 = .ok (.iload_n 3, 1) := dk_29 (dk_at dksX7_number_1 8 rfl rfl)
theorem dX7_number_31 : decode cX7_number 31 = .ok (.iconst 2, 1) := dk_5 (dk_at dksX7_number_1 9 rfl rfl)
theorem dX7_number_32 : decode cX7_number 32 = .ok (.if_icmp .ge 65, 3) := dk_162 0 65 (dk_at dksX7_number_1 10 rfl rfl)
theorem dX7_number_35 : decode cX7_number 35 = .ok (.aload_n 0, 1) := dk_42 (dk_at dksX7_number_1 13 rfl rfl)
theorem dX7_number_36 : decode cX7_number 36 = .ok (.invokevirtual 45, 3) := dk_182 0 45 (dk_at dksX7_number_1 14 rfl rfl)
theorem dX7_number_39 : decode cX7_number 39 = .ok (.ifCond .eq 58, 3) := dk_153 0 58 (dk_at dksX7_number_1 17 rfl rfl)
theorem dX7_number_42 : decode cX7_number 42 = .ok (.iload_n 3, 1) := dk_29 (dk_at dksX7_number_1 20 rfl rfl)
theorem dX7_number_43 : decode cX7_number 43 = .ok (.ifCond .eq 7, 3) := dk_153 0 7 (dk_at dksX7_number_1 21 rfl rfl)
theorem dX7_number_46 : decode cX7_number 46 = .ok (.iload_n 2, 1) := dk_28 (dk_at dksX7_number_2 0 rfl rfl)
theorem dX7_number_47 : decode cX7_number 47 = .ok (.ifCond .le 50, 3) := dk_158 0 50 (dk_at dksX7_number_2 1 rfl rfl)
theorem dX7_number_50 : decode cX7_number 50 = .ok (.bipush 10, 2) := dk_16 10 (dk_at dksX7_number_2 4 rfl rfl)
theorem dX7_number_52 : decode cX7_number 52 = .ok (.iload_n 2, 1) := dk_28 (dk_at dksX7_number_2 6 rfl rfl)
theorem dX7_number_53 : decode cX7_number 53 = .ok (.imul, 1) := dk_104 (dk_at dksX7_number_2 7 rfl rfl)
theorem dX7_number_54 : decode cX7_number 54 = .ok (.aload_n 0, 1) := dk_42 (dk_at dksX7_number_2 8 rfl rfl)
theorem dX7_number_55 : decode cX7_number 55 = .ok (.invokevirtual 32, 3) := dk_182 0 32 (dk_at dksX7_number_2 9 rfl rfl)
theorem dX7_number_58 : decode cX7_number 58 = .ok (.iadd, 1) := dk_96 (dk_at dksX7_number_2 12 rfl rfl)
theorem dX7_number_59 : decode cX7_number 59 = .ok (.bipush 48, 2) := dk_16 48 (dk_at dksX7_number_2 13 rfl rfl)
theorem dX7_number_61 : decode cX7_number 61 = .ok (.isub, 1) := dk_100 (dk_at dksX7_number_2 15 rfl rfl)
theorem dX7_number_62 : decode cX7_number 62 = .ok (.istore_n 2, 1) := dk_61 (dk_at dksX7_number_2 16 rfl rfl)
theorem dX7_number_63 : decode cX7_number 63 = .ok (.iload_n 2, 1) := dk_28 (dk_at dksX7_number_2 17 rfl rfl)
theorem dX7_number_64 : decode cX7_number 64 = .ok (.iload_n 1, 1) := dk_27 (dk_at dksX7_number_2 18 rfl rfl)
theorem dX7_number_65 : decode cX7_number 65 = .ok (.if_icmp .le 16, 3) := dk_164 0 16 (dk_at dksX7_number_2 19 rfl rfl)
theorem dX7_number_68 : decode cX7_number 68 = .ok (.new 36, 3) := dk_187 0 36 (dk_at dksX7_number_3 0 rfl rfl)
theorem dX7_number_71 : decode cX7_number 71 = .ok (.dup, 1) := dk_89 (dk_at dksX7_number_3 3 rfl rfl)
theorem dX7_number_72 : decode cX7_number 72 = .ok (.iconst 1, 1) := dk_4 (dk_at dksX7_number_3 4 rfl rfl)
theorem dX7_number_73 : decode cX7_number 73 = .ok (.aload_n 0, 1) := dk_42 (dk_at dksX7_number_3 5 rfl rfl)
theorem dX7_number_74 : decode cX7_number 74 = .ok (.getfield 21, 3) := dk_180 0 21 (dk_at dksX7_number_3 6 rfl rfl)
theorem dX7_number_77 : decode cX7_number 77 = .ok (.invokespecial 38, 3) := dk_183 0 38 (dk_at dksX7_number_3 9 rfl rfl)
theorem dX7_number_80 : decode cX7_number 80 = .ok (.athrow, 1) := dk_191 (dk_at dksX7_number_3 12 rfl rfl)
theorem dX7_number_81 : decode cX7_number 81 = .ok (.aload_n 0, 1) := dk_42 (dk_at dksX7_number_3 13 rfl rfl)
theorem dX7_number_82 : decode cX7_number 82 = .ok (.dup, 1) := dk_89 (dk_at dksX7_number_3 14 rfl rfl)
theorem dX7_number_83 : decode cX7_number 83 = .ok (.getfield 21, 3) := dk_180 0 21 (dk_at dksX7_number_3 15 rfl rfl)
theorem dX7_number_86 : decode cX7_number 86 = .ok (.iconst 1, 1) := dk_4 (dk_at dksX7_number_3 18 rfl rfl)
theorem dX7_number_87 : decode cX7_number 87 = .ok (.iadd, 1) := dk_96 (dk_at dksX7_number_3 19 rfl rfl)
theorem dX7_number_88 : decode cX7_number 88 = .ok (.putfield 21, 3) := dk_181 0 21 (dk_at dksX7_number_3 20 rfl rfl)
theorem dX7_number_91 : decode cX7_number 91 = .ok (.iinc 3 1, 3) := dk_132 3 1 (dk_at dksX7_number_4 0 rfl rfl)
theorem dX7_number_94 : decode cX7_number 94 = .ok (.goto (-64), 3) := dk_167 255 192 (dk_at dksX7_number_4 3 rfl rfl)
theorem dX7_number_97 : decode cX7_number 97 = .ok (.iload_n 2, 1) := dk_28 (dk_at dksX7_number_4 6 rfl rfl)
theorem dX7_number_98 : decode cX7_number 98 = .ok (.ireturn, 1) := dk_172 (dk_at dksX7_number_4 7 rfl rfl)
abbrev cX7_isDigit : ByteArray := prog_11_method_4_code
def yX7_isDigit : MethodName := ⟨RX7, "isDigit", "()Z"⟩
def dkwX7_isDigit_0 : List UInt8 := [42, 182, 0, 32, 16, 48, 161, 0, 16, 42, 182, 0, 32, 16, 57, 163, 0, 7, 4, 167, 0, 4, 3, 172]
abbrev dktX7_isDigit_0 : List UInt8 := dkwX7_isDigit_0 ++ []
theorem dksX7_isDigit_0 : cX7_isDigit.data.toList.drop 0 = dktX7_isDigit_0 := by decide +kernel
theorem dX7_isDigit_0 : decode cX7_isDigit 0 = .ok (.aload_n 0, 1) := dk_42 (dk_at dksX7_isDigit_0 0 rfl rfl)
theorem dX7_isDigit_1 : decode cX7_isDigit 1 = .ok (.invokevirtual 32, 3) := dk_182 0 32 (dk_at dksX7_isDigit_0 1 rfl rfl)
theorem dX7_isDigit_4 : decode cX7_isDigit 4 = .ok (.bipush 48, 2) := dk_16 48 (dk_at dksX7_isDigit_0 4 rfl rfl)
theorem dX7_isDigit_6 : decode cX7_isDigit 6 = .ok (.if_icmp .lt 16, 3) := dk_161 0 16 (dk_at dksX7_isDigit_0 6 rfl rfl)
theorem dX7_isDigit_9 : decode cX7_isDigit 9 = .ok (.aload_n 0, 1) := dk_42 (dk_at dksX7_isDigit_0 9 rfl rfl)
theorem dX7_isDigit_10 : decode cX7_isDigit 10 = .ok (.invokevirtual 32, 3) := dk_182 0 32 (dk_at dksX7_isDigit_0 10 rfl rfl)
theorem dX7_isDigit_13 : decode cX7_isDigit 13 = .ok (.bipush 57, 2) := dk_16 57 (dk_at dksX7_isDigit_0 13 rfl rfl)
theorem dX7_isDigit_15 : decode cX7_isDigit 15 = .ok (.if_icmp .gt 7, 3) := dk_163 0 7 (dk_at dksX7_isDigit_0 15 rfl rfl)
theorem dX7_isDigit_18 : decode cX7_isDigit 18 = .ok (.iconst 1, 1) := dk_4 (dk_at dksX7_isDigit_0 18 rfl rfl)
theorem dX7_isDigit_19 : decode cX7_isDigit 19 = .ok (.goto 4, 3) := dk_167 0 4 (dk_at dksX7_isDigit_0 19 rfl rfl)
theorem dX7_isDigit_22 : decode cX7_isDigit 22 = .ok (.iconst 0, 1) := dk_3 (dk_at dksX7_isDigit_0 22 rfl rfl)
theorem dX7_isDigit_23 : decode cX7_isDigit 23 = .ok (.ireturn, 1) := dk_172 (dk_at dksX7_isDigit_0 23 rfl rfl)
theorem q67 : (Jvm.Cond.initialized "LightPlate$Reader") ∈ lw_all := lw_g (lw_at lw_m1 8 rfl) rfl
theorem q189 : (Jvm.Cond.instantiable "LightPlate$Reader" (4 : Nat)) ∈ lw_all := lw_g (lw_at lw_m1 130 rfl) rfl
theorem q191 : (Jvm.Cond.instanceMethod ({ cls := "LightPlate$Reader", name := "<init>", desc := "(LLightPlate;)V" } : Jvm.MethodName)) ∈ lw_all := lw_g (lw_at lw_m1 132 rfl) rfl
theorem q192 : (Jvm.Cond.code ({ cls := "LightPlate$Reader", name := "<init>", desc := "(LLightPlate;)V" } : Jvm.MethodName) prog_11_method_1_code (2 : Nat) (Option.none : Option Jvm.ClassFile.FieldType)) ∈ lw_all := lw_g (lw_at lw_m1 133 rfl) rfl
theorem q193 : (Jvm.Cond.methodLink "LightPlate$Reader" (9 : Nat) ({ cls := "java/lang/Object", name := "<init>", desc := "()V" } : Jvm.MethodName)) ∈ lw_all := lw_g (lw_at lw_m1 134 rfl) rfl
theorem q194 : (Jvm.Cond.classLink "LightPlate$Reader" (15 : Nat) "LightPlate$Node") ∈ lw_all := lw_g (lw_at lw_m1 135 rfl) rfl
theorem q196 : (Jvm.Cond.fieldLink "LightPlate$Reader" (17 : Nat) "LightPlate$Reader" "names" "[LLightPlate$Node;") ∈ lw_all := lw_g (lw_at lw_m1 137 rfl) rfl
theorem q197 : (Jvm.Cond.fieldLink "LightPlate$Reader" (21 : Nat) "LightPlate$Reader" "at" "I") ∈ lw_all := lw_g (lw_at lw_m1 138 rfl) rfl
theorem q198 : (Jvm.Cond.fieldLink "LightPlate$Reader" (64 : Nat) "LightPlate$Reader" "lacking" "I") ∈ lw_all := lw_g (lw_at lw_m1 139 rfl) rfl
theorem q199 : (Jvm.Cond.fieldLink "LightPlate$Reader" (3 : Nat) "LightPlate$Reader" "this$0" "LLightPlate;") ∈ lw_all := lw_g (lw_at lw_m1 140 rfl) rfl
theorem q200 : (Jvm.Cond.laysFinal "LightPlate$Reader" "LightPlate$Reader" "names" "[LLightPlate$Node;") ∈ lw_all := lw_g (lw_at lw_m1 141 rfl) rfl
theorem q201 : (Jvm.Cond.soleField "LightPlate$Reader" "names") ∈ lw_all := lw_g (lw_at lw_m1 142 rfl) rfl
theorem q202 : (Jvm.Cond.lays "LightPlate$Reader" "LightPlate$Reader" "at" "I") ∈ lw_all := lw_g (lw_at lw_m1 143 rfl) rfl
theorem q203 : (Jvm.Cond.soleField "LightPlate$Reader" "at") ∈ lw_all := lw_g (lw_at lw_m1 144 rfl) rfl
theorem q204 : (Jvm.Cond.lays "LightPlate$Reader" "LightPlate$Reader" "lacking" "I") ∈ lw_all := lw_g (lw_at lw_m1 145 rfl) rfl
theorem q205 : (Jvm.Cond.soleField "LightPlate$Reader" "lacking") ∈ lw_all := lw_g (lw_at lw_m1 146 rfl) rfl
theorem q206 : (Jvm.Cond.laysFinal "LightPlate$Reader" "LightPlate$Reader" "this$0" "LLightPlate;") ∈ lw_all := lw_g (lw_at lw_m1 147 rfl) rfl
theorem q207 : (Jvm.Cond.soleField "LightPlate$Reader" "this$0") ∈ lw_all := lw_g (lw_at lw_m1 148 rfl) rfl
theorem q208 : (Jvm.Cond.superclass "LightPlate$Reader" "java/lang/Object") ∈ lw_all := lw_g (lw_at lw_m1 149 rfl) rfl
theorem q285 : (Jvm.Cond.fieldLinkNest "LightPlate$Reader" (71 : Nat) "LightPlate" "lanes" "I" "LightPlate") ∈ lw_tbl := lw_at lw_m1 226 rfl
theorem q310 : (Jvm.Cond.fieldLinkNest "LightPlate$Reader" (28 : Nat) "LightPlate" "tape" "[B" "LightPlate") ∈ lw_tbl := lw_at lw_m2 11 rfl
theorem q312 : (Jvm.Cond.fieldLinkNest "LightPlate$Reader" (25 : Nat) "LightPlate" "taped" "I" "LightPlate") ∈ lw_tbl := lw_at lw_m2 13 rfl
theorem q612 : (Jvm.Cond.instanceMethod ({ cls := "LightPlate$Reader", name := "program", desc := "()LLightPlate$Node;" } : Jvm.MethodName)) ∈ lw_all := lw_g (lw_at lw_m3 73 rfl) rfl
theorem q613 : (Jvm.Cond.selects "LightPlate$Reader" ({ cls := "LightPlate$Reader", name := "program", desc := "()LLightPlate$Node;" } : Jvm.MethodName) ({ cls := "LightPlate$Reader", name := "program", desc := "()LLightPlate$Node;" } : Jvm.MethodName)) ∈ lw_all := lw_g (lw_at lw_m3 74 rfl) rfl
theorem q614 : (Jvm.Cond.code ({ cls := "LightPlate$Reader", name := "program", desc := "()LLightPlate$Node;" } : Jvm.MethodName) prog_11_method_10_code (2 : Nat) (Option.some (Jvm.ClassFile.FieldType.object "LightPlate$Node"))) ∈ lw_all := lw_g (lw_at lw_m3 75 rfl) rfl
theorem q615 : (Jvm.Cond.classLink "LightPlate$Reader" (53 : Nat) "LightPlate$Times") ∈ lw_all := lw_g (lw_at lw_m3 76 rfl) rfl
theorem q617 : (Jvm.Cond.methodLink "LightPlate$Reader" (49 : Nat) ({ cls := "LightPlate$Reader", name := "statements", desc := "()Ljava/util/ArrayList;" } : Jvm.MethodName)) ∈ lw_all := lw_g (lw_at lw_m3 78 rfl) rfl
theorem q618 : (Jvm.Cond.privateMethod ({ cls := "LightPlate$Reader", name := "statements", desc := "()Ljava/util/ArrayList;" } : Jvm.MethodName)) ∈ lw_tbl := lw_at lw_m3 79 rfl
theorem q619 : (Jvm.Cond.instanceMethod ({ cls := "LightPlate$Reader", name := "statements", desc := "()Ljava/util/ArrayList;" } : Jvm.MethodName)) ∈ lw_all := lw_g (lw_at lw_m3 80 rfl) rfl
theorem q620 : (Jvm.Cond.code ({ cls := "LightPlate$Reader", name := "statements", desc := "()Ljava/util/ArrayList;" } : Jvm.MethodName) prog_11_method_9_code (2 : Nat) (Option.some (Jvm.ClassFile.FieldType.object "java/util/ArrayList"))) ∈ lw_all := lw_g (lw_at lw_m3 81 rfl) rfl
theorem q621 : (Jvm.Cond.classLink "LightPlate$Reader" (61 : Nat) "java/util/ArrayList") ∈ lw_all := lw_g (lw_at lw_m3 82 rfl) rfl
theorem q622 : (Jvm.Cond.methodLink "LightPlate$Reader" (63 : Nat) ({ cls := "java/util/ArrayList", name := "<init>", desc := "()V" } : Jvm.MethodName)) ∈ lw_all := lw_g (lw_at lw_m3 83 rfl) rfl
theorem q623 : (Jvm.Cond.methodLink "LightPlate$Reader" (91 : Nat) ({ cls := "LightPlate$Reader", name := "statement", desc := "()LLightPlate$Node;" } : Jvm.MethodName)) ∈ lw_all := lw_g (lw_at lw_m3 84 rfl) rfl
theorem q624 : (Jvm.Cond.privateMethod ({ cls := "LightPlate$Reader", name := "statement", desc := "()LLightPlate$Node;" } : Jvm.MethodName)) ∈ lw_tbl := lw_at lw_m3 85 rfl
theorem q625 : (Jvm.Cond.instanceMethod ({ cls := "LightPlate$Reader", name := "statement", desc := "()LLightPlate$Node;" } : Jvm.MethodName)) ∈ lw_all := lw_g (lw_at lw_m3 86 rfl) rfl
theorem q626 : (Jvm.Cond.code ({ cls := "LightPlate$Reader", name := "statement", desc := "()LLightPlate$Node;" } : Jvm.MethodName) prog_11_method_8_code (4 : Nat) (Option.some (Jvm.ClassFile.FieldType.object "LightPlate$Node"))) ∈ lw_all := lw_g (lw_at lw_m3 87 rfl) rfl
theorem q627 : (Jvm.Cond.methodLink "LightPlate$Reader" (32 : Nat) ({ cls := "LightPlate$Reader", name := "next", desc := "()I" } : Jvm.MethodName)) ∈ lw_all := lw_g (lw_at lw_m3 88 rfl) rfl
theorem q628 : (Jvm.Cond.privateMethod ({ cls := "LightPlate$Reader", name := "next", desc := "()I" } : Jvm.MethodName)) ∈ lw_tbl := lw_at lw_m3 89 rfl
theorem q629 : (Jvm.Cond.instanceMethod ({ cls := "LightPlate$Reader", name := "next", desc := "()I" } : Jvm.MethodName)) ∈ lw_all := lw_g (lw_at lw_m3 90 rfl) rfl
theorem q630 : (Jvm.Cond.code ({ cls := "LightPlate$Reader", name := "next", desc := "()I" } : Jvm.MethodName) prog_11_method_2_code (1 : Nat) (Option.some Jvm.ClassFile.FieldType.int)) ∈ lw_all := lw_g (lw_at lw_m3 91 rfl) rfl
theorem q631 : (Jvm.Cond.classLink "LightPlate$Reader" (36 : Nat) "LightPlate$Wrong") ∈ lw_all := lw_g (lw_at lw_m3 92 rfl) rfl
theorem q668 : (Jvm.Cond.methodLink "LightPlate$Reader" (38 : Nat) ({ cls := "LightPlate$Wrong", name := "<init>", desc := "(II)V" } : Jvm.MethodName)) ∈ lw_all := lw_g (lw_at lw_m3 129 rfl) rfl
theorem q698 : (Jvm.Cond.methodLink "LightPlate$Reader" (67 : Nat) ({ cls := "LightPlate$Reader", name := "name", desc := "(I)LLightPlate$Node;" } : Jvm.MethodName)) ∈ lw_all := lw_g (lw_at lw_m3 159 rfl) rfl
theorem q699 : (Jvm.Cond.privateMethod ({ cls := "LightPlate$Reader", name := "name", desc := "(I)LLightPlate$Node;" } : Jvm.MethodName)) ∈ lw_tbl := lw_at lw_m3 160 rfl
theorem q700 : (Jvm.Cond.instanceMethod ({ cls := "LightPlate$Reader", name := "name", desc := "(I)LLightPlate$Node;" } : Jvm.MethodName)) ∈ lw_all := lw_g (lw_at lw_m3 161 rfl) rfl
theorem q701 : (Jvm.Cond.code ({ cls := "LightPlate$Reader", name := "name", desc := "(I)LLightPlate$Node;" } : Jvm.MethodName) prog_11_method_7_code (3 : Nat) (Option.some (Jvm.ClassFile.FieldType.object "LightPlate$Node"))) ∈ lw_all := lw_g (lw_at lw_m3 162 rfl) rfl
theorem q702 : (Jvm.Cond.methodLink "LightPlate$Reader" (55 : Nat) ({ cls := "LightPlate$Reader", name := "inside", desc := "()Ljava/util/ArrayList;" } : Jvm.MethodName)) ∈ lw_all := lw_g (lw_at lw_m3 163 rfl) rfl
theorem q703 : (Jvm.Cond.privateMethod ({ cls := "LightPlate$Reader", name := "inside", desc := "()Ljava/util/ArrayList;" } : Jvm.MethodName)) ∈ lw_tbl := lw_at lw_m3 164 rfl
theorem q704 : (Jvm.Cond.instanceMethod ({ cls := "LightPlate$Reader", name := "inside", desc := "()Ljava/util/ArrayList;" } : Jvm.MethodName)) ∈ lw_all := lw_g (lw_at lw_m3 165 rfl) rfl
theorem q705 : (Jvm.Cond.code ({ cls := "LightPlate$Reader", name := "inside", desc := "()Ljava/util/ArrayList;" } : Jvm.MethodName) prog_11_method_6_code (2 : Nat) (Option.some (Jvm.ClassFile.FieldType.object "java/util/ArrayList"))) ∈ lw_all := lw_g (lw_at lw_m3 166 rfl) rfl
theorem q706 : (Jvm.Cond.methodLink "LightPlate$Reader" (41 : Nat) ({ cls := "LightPlate$Reader", name := "sign", desc := "(I)V" } : Jvm.MethodName)) ∈ lw_all := lw_g (lw_at lw_m3 167 rfl) rfl
theorem q707 : (Jvm.Cond.privateMethod ({ cls := "LightPlate$Reader", name := "sign", desc := "(I)V" } : Jvm.MethodName)) ∈ lw_tbl := lw_at lw_m3 168 rfl
theorem q708 : (Jvm.Cond.instanceMethod ({ cls := "LightPlate$Reader", name := "sign", desc := "(I)V" } : Jvm.MethodName)) ∈ lw_all := lw_g (lw_at lw_m3 169 rfl) rfl
theorem q709 : (Jvm.Cond.code ({ cls := "LightPlate$Reader", name := "sign", desc := "(I)V" } : Jvm.MethodName) prog_11_method_3_code (2 : Nat) (Option.none : Option Jvm.ClassFile.FieldType)) ∈ lw_all := lw_g (lw_at lw_m3 170 rfl) rfl
theorem q710 : (Jvm.Cond.methodLink "LightPlate$Reader" (58 : Nat) ({ cls := "LightPlate$Times", name := "<init>", desc := "(LLightPlate;ILjava/util/ArrayList;)V" } : Jvm.MethodName)) ∈ lw_all := lw_g (lw_at lw_m3 171 rfl) rfl
theorem q730 : (Jvm.Cond.methodLink "LightPlate$Reader" (74 : Nat) ({ cls := "LightPlate$Reader", name := "number", desc := "(I)I" } : Jvm.MethodName)) ∈ lw_all := lw_g (lw_at lw_m3 191 rfl) rfl
theorem q731 : (Jvm.Cond.privateMethod ({ cls := "LightPlate$Reader", name := "number", desc := "(I)I" } : Jvm.MethodName)) ∈ lw_tbl := lw_at lw_m3 192 rfl
theorem q732 : (Jvm.Cond.instanceMethod ({ cls := "LightPlate$Reader", name := "number", desc := "(I)I" } : Jvm.MethodName)) ∈ lw_all := lw_g (lw_at lw_m3 193 rfl) rfl
theorem q733 : (Jvm.Cond.code ({ cls := "LightPlate$Reader", name := "number", desc := "(I)I" } : Jvm.MethodName) prog_11_method_5_code (4 : Nat) (Option.some Jvm.ClassFile.FieldType.int)) ∈ lw_all := lw_g (lw_at lw_m3 194 rfl) rfl
theorem q734 : (Jvm.Cond.methodLink "LightPlate$Reader" (45 : Nat) ({ cls := "LightPlate$Reader", name := "isDigit", desc := "()Z" } : Jvm.MethodName)) ∈ lw_all := lw_g (lw_at lw_m3 195 rfl) rfl
theorem q735 : (Jvm.Cond.privateMethod ({ cls := "LightPlate$Reader", name := "isDigit", desc := "()Z" } : Jvm.MethodName)) ∈ lw_tbl := lw_at lw_m3 196 rfl
theorem q736 : (Jvm.Cond.instanceMethod ({ cls := "LightPlate$Reader", name := "isDigit", desc := "()Z" } : Jvm.MethodName)) ∈ lw_all := lw_g (lw_at lw_m3 197 rfl) rfl
theorem q737 : (Jvm.Cond.code ({ cls := "LightPlate$Reader", name := "isDigit", desc := "()Z" } : Jvm.MethodName) prog_11_method_4_code (1 : Nat) (Option.some Jvm.ClassFile.FieldType.boolean)) ∈ lw_all := lw_g (lw_at lw_m3 198 rfl) rfl
theorem q738 : (Jvm.Cond.classLink "LightPlate$Reader" (78 : Nat) "LightPlate$Swap") ∈ lw_all := lw_g (lw_at lw_m3 199 rfl) rfl
theorem q740 : (Jvm.Cond.methodLink "LightPlate$Reader" (80 : Nat) ({ cls := "LightPlate$Swap", name := "<init>", desc := "(LLightPlate;I)V" } : Jvm.MethodName)) ∈ lw_all := lw_g (lw_at lw_m3 201 rfl) rfl
theorem q767 : (Jvm.Cond.classLink "LightPlate$Reader" (83 : Nat) "LightPlate$Turning") ∈ lw_all := lw_g (lw_at lw_m3 228 rfl) rfl
theorem q769 : (Jvm.Cond.methodLink "LightPlate$Reader" (85 : Nat) ({ cls := "LightPlate$Turning", name := "<init>", desc := "(LLightPlate;II)V" } : Jvm.MethodName)) ∈ lw_all := lw_g (lw_at lw_m3 230 rfl) rfl
theorem q775 : (Jvm.Cond.classLink "LightPlate$Reader" (88 : Nat) "LightPlate$Back") ∈ lw_all := lw_g (lw_at lw_m3 236 rfl) rfl
theorem q777 : (Jvm.Cond.methodLink "LightPlate$Reader" (90 : Nat) ({ cls := "LightPlate$Back", name := "<init>", desc := "(LLightPlate;II)V" } : Jvm.MethodName)) ∈ lw_all := lw_g (lw_at lw_m3 238 rfl) rfl
theorem q784 : (Jvm.Cond.methodLink "LightPlate$Reader" (95 : Nat) ({ cls := "java/util/ArrayList", name := "add", desc := "(Ljava/lang/Object;)Z" } : Jvm.MethodName)) ∈ lw_all := lw_g (lw_at lw_m4 5 rfl) rfl
theorem q824 : (Jvm.Cond.selects "LightPlate$Reader" ({ cls := "java/lang/Object", name := "getClass", desc := "()Ljava/lang/Class;" } : Jvm.MethodName) ({ cls := "java/lang/Object", name := "getClass", desc := "()Ljava/lang/Class;" } : Jvm.MethodName)) ∈ lw_all := lw_g (lw_at lw_m4 45 rfl) rfl
theorem q844 : (Jvm.Cond.methodLink "LightPlate$Reader" (99 : Nat) ({ cls := "LightPlate$Node", name := "many", desc := "()I" } : Jvm.MethodName)) ∈ lw_all := lw_g (lw_at lw_m4 65 rfl) rfl
theorem q1493 : (Jvm.Cond.castable "LightPlate$Reader" "java/lang/Object") ∈ lw_tbl := lw_at lw_m6 234 rfl
theorem in_X7 : ∀ w ∈ wsX70, w ∈ lw_all := lw_in wsX70 [200, 202, 204, 206] (by decide +kernel) (by decide +kernel)
/-! LightPlate$Cell -/
set_option maxRecDepth 100000
def RX8 : String := "LightPlate$Cell"
def TX8 : u_T := fun k => match k with
  | 0 => ("LightPlate$Cell", "layer", "I", true)
  | 1 => ("LightPlate$Cell", "lane", "I", true)
  | 2 => ("LightPlate$Cell", "setting", "I", false)
  | 3 => ("LightPlate$Cell", "stuck", "I", false)
  | 4 => ("LightPlate$Cell", "offset", "I", false)
  | 5 => ("LightPlate$Cell", "user", "I", false)
  | _ => ("LightPlate$Cell", "this$0", "LLightPlate;", true)
def tyX8 : Nat → FieldType := fun k => match k with
  | 0 => .int
  | 1 => .int
  | 2 => .int
  | 3 => .int
  | 4 => .int
  | 5 => .int
  | _ => .object "LightPlate"
abbrev wsX80 : List Cond := u_ws RX8 TX8 7
theorem nmX8 : ∀ a, a < 7 → ∀ b, b < 7 → a ≠ b → (TX8 a).2.1 ≠ (TX8 b).2.1 := by decide +kernel
theorem tyX8_ok : ∀ k, k < 7 → parseFieldDescriptor (TX8 k).2.2.1 = some (tyX8 k) := by decide +kernel
abbrev cX8_init : ByteArray := prog_4_method_1_code
def yX8_init : MethodName := ⟨RX8, "<init>", "(LLightPlate;II)V"⟩
def dkwX8_init_1 : List UInt8 := [42, 29, 181, 0, 25, 177]
abbrev dktX8_init_1 : List UInt8 := dkwX8_init_1 ++ []
def dkwX8_init_0 : List UInt8 := [42, 43, 181, 0, 3, 42, 183, 0, 9, 42, 2, 181, 0, 15, 42, 2, 181, 0, 19, 42, 28, 181, 0, 22]
abbrev dktX8_init_0 : List UInt8 := dkwX8_init_0 ++ dktX8_init_1
theorem dksX8_init_0 : cX8_init.data.toList.drop 0 = dktX8_init_0 := by decide +kernel
theorem dksX8_init_1 : cX8_init.data.toList.drop 24 = dktX8_init_1 := dk_seg dksX8_init_0 24 rfl rfl
theorem dX8_init_0 : decode cX8_init 0 = .ok (.aload_n 0, 1) := dk_42 (dk_at dksX8_init_0 0 rfl rfl)
theorem dX8_init_1 : decode cX8_init 1 = .ok (.aload_n 1, 1) := dk_43 (dk_at dksX8_init_0 1 rfl rfl)
theorem dX8_init_2 : decode cX8_init 2 = .ok (.putfield 3, 3) := dk_181 0 3 (dk_at dksX8_init_0 2 rfl rfl)
theorem dX8_init_5 : decode cX8_init 5 = .ok (.aload_n 0, 1) := dk_42 (dk_at dksX8_init_0 5 rfl rfl)
theorem dX8_init_6 : decode cX8_init 6 = .ok (.invokespecial 9, 3) := dk_183 0 9 (dk_at dksX8_init_0 6 rfl rfl)
theorem dX8_init_9 : decode cX8_init 9 = .ok (.aload_n 0, 1) := dk_42 (dk_at dksX8_init_0 9 rfl rfl)
theorem dX8_init_10 : decode cX8_init 10 = .ok (.iconst (-1), 1) := dk_2 (dk_at dksX8_init_0 10 rfl rfl)
theorem dX8_init_11 : decode cX8_init 11 = .ok (.putfield 15, 3) := dk_181 0 15 (dk_at dksX8_init_0 11 rfl rfl)
theorem dX8_init_14 : decode cX8_init 14 = .ok (.aload_n 0, 1) := dk_42 (dk_at dksX8_init_0 14 rfl rfl)
theorem dX8_init_15 : decode cX8_init 15 = .ok (.iconst (-1), 1) := dk_2 (dk_at dksX8_init_0 15 rfl rfl)
theorem dX8_init_16 : decode cX8_init 16 = .ok (.putfield 19, 3) := dk_181 0 19 (dk_at dksX8_init_0 16 rfl rfl)
theorem dX8_init_19 : decode cX8_init 19 = .ok (.aload_n 0, 1) := dk_42 (dk_at dksX8_init_0 19 rfl rfl)
theorem dX8_init_20 : decode cX8_init 20 = .ok (.iload_n 2, 1) := dk_28 (dk_at dksX8_init_0 20 rfl rfl)
theorem dX8_init_21 : decode cX8_init 21 = .ok (.putfield 22, 3) := dk_181 0 22 (dk_at dksX8_init_0 21 rfl rfl)
theorem dX8_init_24 : decode cX8_init 24 = .ok (.aload_n 0, 1) := dk_42 (dk_at dksX8_init_1 0 rfl rfl)
theorem dX8_init_25 : decode cX8_init 25 = .ok (.iload_n 3, 1) := dk_29 (dk_at dksX8_init_1 1 rfl rfl)
theorem dX8_init_26 : decode cX8_init 26 = .ok (.putfield 25, 3) := dk_181 0 25 (dk_at dksX8_init_1 2 rfl rfl)
theorem dX8_init_29 : decode cX8_init 29 = .ok (.return_, 1) := dk_177 (dk_at dksX8_init_1 5 rfl rfl)
abbrev cX8_isDead : ByteArray := prog_4_method_2_code
def yX8_isDead : MethodName := ⟨RX8, "isDead", "()Z"⟩
def dkwX8_isDead_0 : List UInt8 := [42, 180, 0, 15, 2, 159, 0, 7, 4, 167, 0, 4, 3, 172]
abbrev dktX8_isDead_0 : List UInt8 := dkwX8_isDead_0 ++ []
theorem dksX8_isDead_0 : cX8_isDead.data.toList.drop 0 = dktX8_isDead_0 := by decide +kernel
theorem dX8_isDead_0 : decode cX8_isDead 0 = .ok (.aload_n 0, 1) := dk_42 (dk_at dksX8_isDead_0 0 rfl rfl)
theorem dX8_isDead_1 : decode cX8_isDead 1 = .ok (.getfield 15, 3) := dk_180 0 15 (dk_at dksX8_isDead_0 1 rfl rfl)
theorem dX8_isDead_4 : decode cX8_isDead 4 = .ok (.iconst (-1), 1) := dk_2 (dk_at dksX8_isDead_0 4 rfl rfl)
theorem dX8_isDead_5 : decode cX8_isDead 5 = .ok (.if_icmp .eq 7, 3) := dk_159 0 7 (dk_at dksX8_isDead_0 5 rfl rfl)
theorem dX8_isDead_8 : decode cX8_isDead 8 = .ok (.iconst 1, 1) := dk_4 (dk_at dksX8_isDead_0 8 rfl rfl)
theorem dX8_isDead_9 : decode cX8_isDead 9 = .ok (.goto 4, 3) := dk_167 0 4 (dk_at dksX8_isDead_0 9 rfl rfl)
theorem dX8_isDead_12 : decode cX8_isDead 12 = .ok (.iconst 0, 1) := dk_3 (dk_at dksX8_isDead_0 12 rfl rfl)
theorem dX8_isDead_13 : decode cX8_isDead 13 = .ok (.ireturn, 1) := dk_172 (dk_at dksX8_isDead_0 13 rfl rfl)
abbrev cX8_does : ByteArray := prog_4_method_3_code
def yX8_does : MethodName := ⟨RX8, "does", "()I"⟩
def dkwX8_does_0 : List UInt8 := [42, 182, 0, 28, 153, 0, 10, 42, 180, 0, 15, 167, 0, 7, 42, 180, 0, 32, 172]
abbrev dktX8_does_0 : List UInt8 := dkwX8_does_0 ++ []
theorem dksX8_does_0 : cX8_does.data.toList.drop 0 = dktX8_does_0 := by decide +kernel
theorem dX8_does_0 : decode cX8_does 0 = .ok (.aload_n 0, 1) := dk_42 (dk_at dksX8_does_0 0 rfl rfl)
theorem dX8_does_1 : decode cX8_does 1 = .ok (.invokevirtual 28, 3) := dk_182 0 28 (dk_at dksX8_does_0 1 rfl rfl)
theorem dX8_does_4 : decode cX8_does 4 = .ok (.ifCond .eq 10, 3) := dk_153 0 10 (dk_at dksX8_does_0 4 rfl rfl)
theorem dX8_does_7 : decode cX8_does 7 = .ok (.aload_n 0, 1) := dk_42 (dk_at dksX8_does_0 7 rfl rfl)
theorem dX8_does_8 : decode cX8_does 8 = .ok (.getfield 15, 3) := dk_180 0 15 (dk_at dksX8_does_0 8 rfl rfl)
theorem dX8_does_11 : decode cX8_does 11 = .ok (.goto 7, 3) := dk_167 0 7 (dk_at dksX8_does_0 11 rfl rfl)
theorem dX8_does_14 : decode cX8_does 14 = .ok (.aload_n 0, 1) := dk_42 (dk_at dksX8_does_0 14 rfl rfl)
theorem dX8_does_15 : decode cX8_does 15 = .ok (.getfield 32, 3) := dk_180 0 32 (dk_at dksX8_does_0 15 rfl rfl)
theorem dX8_does_18 : decode cX8_does 18 = .ok (.ireturn, 1) := dk_172 (dk_at dksX8_does_0 18 rfl rfl)
theorem q71 : (Jvm.Cond.initialized "LightPlate$Cell") ∈ lw_all := lw_g (lw_at lw_m1 12 rfl) rfl
theorem q239 : (Jvm.Cond.instantiable "LightPlate$Cell" (7 : Nat)) ∈ lw_all := lw_g (lw_at lw_m1 180 rfl) rfl
theorem q241 : (Jvm.Cond.instanceMethod ({ cls := "LightPlate$Cell", name := "<init>", desc := "(LLightPlate;II)V" } : Jvm.MethodName)) ∈ lw_all := lw_g (lw_at lw_m1 182 rfl) rfl
theorem q242 : (Jvm.Cond.code ({ cls := "LightPlate$Cell", name := "<init>", desc := "(LLightPlate;II)V" } : Jvm.MethodName) prog_4_method_1_code (4 : Nat) (Option.none : Option Jvm.ClassFile.FieldType)) ∈ lw_all := lw_g (lw_at lw_m1 183 rfl) rfl
theorem q243 : (Jvm.Cond.methodLink "LightPlate$Cell" (9 : Nat) ({ cls := "java/lang/Object", name := "<init>", desc := "()V" } : Jvm.MethodName)) ∈ lw_all := lw_g (lw_at lw_m1 184 rfl) rfl
theorem q244 : (Jvm.Cond.fieldLink "LightPlate$Cell" (22 : Nat) "LightPlate$Cell" "layer" "I") ∈ lw_all := lw_g (lw_at lw_m1 185 rfl) rfl
theorem q248 : (Jvm.Cond.fieldLink "LightPlate$Cell" (25 : Nat) "LightPlate$Cell" "lane" "I") ∈ lw_all := lw_g (lw_at lw_m1 189 rfl) rfl
theorem q255 : (Jvm.Cond.fieldLink "LightPlate$Cell" (32 : Nat) "LightPlate$Cell" "setting" "I") ∈ lw_all := lw_g (lw_at lw_m1 196 rfl) rfl
theorem q257 : (Jvm.Cond.fieldLink "LightPlate$Cell" (15 : Nat) "LightPlate$Cell" "stuck" "I") ∈ lw_all := lw_g (lw_at lw_m1 198 rfl) rfl
theorem q262 : (Jvm.Cond.fieldLink "LightPlate$Cell" (19 : Nat) "LightPlate$Cell" "user" "I") ∈ lw_all := lw_g (lw_at lw_m1 203 rfl) rfl
theorem q264 : (Jvm.Cond.fieldLink "LightPlate$Cell" (3 : Nat) "LightPlate$Cell" "this$0" "LLightPlate;") ∈ lw_all := lw_g (lw_at lw_m1 205 rfl) rfl
theorem q265 : (Jvm.Cond.laysFinal "LightPlate$Cell" "LightPlate$Cell" "layer" "I") ∈ lw_all := lw_g (lw_at lw_m1 206 rfl) rfl
theorem q266 : (Jvm.Cond.soleField "LightPlate$Cell" "layer") ∈ lw_all := lw_g (lw_at lw_m1 207 rfl) rfl
theorem q267 : (Jvm.Cond.laysFinal "LightPlate$Cell" "LightPlate$Cell" "lane" "I") ∈ lw_all := lw_g (lw_at lw_m1 208 rfl) rfl
theorem q268 : (Jvm.Cond.soleField "LightPlate$Cell" "lane") ∈ lw_all := lw_g (lw_at lw_m1 209 rfl) rfl
theorem q269 : (Jvm.Cond.lays "LightPlate$Cell" "LightPlate$Cell" "setting" "I") ∈ lw_all := lw_g (lw_at lw_m1 210 rfl) rfl
theorem q270 : (Jvm.Cond.soleField "LightPlate$Cell" "setting") ∈ lw_all := lw_g (lw_at lw_m1 211 rfl) rfl
theorem q271 : (Jvm.Cond.lays "LightPlate$Cell" "LightPlate$Cell" "stuck" "I") ∈ lw_all := lw_g (lw_at lw_m1 212 rfl) rfl
theorem q272 : (Jvm.Cond.soleField "LightPlate$Cell" "stuck") ∈ lw_all := lw_g (lw_at lw_m1 213 rfl) rfl
theorem q273 : (Jvm.Cond.lays "LightPlate$Cell" "LightPlate$Cell" "offset" "I") ∈ lw_all := lw_g (lw_at lw_m1 214 rfl) rfl
theorem q274 : (Jvm.Cond.soleField "LightPlate$Cell" "offset") ∈ lw_all := lw_g (lw_at lw_m1 215 rfl) rfl
theorem q275 : (Jvm.Cond.lays "LightPlate$Cell" "LightPlate$Cell" "user" "I") ∈ lw_all := lw_g (lw_at lw_m1 216 rfl) rfl
theorem q276 : (Jvm.Cond.soleField "LightPlate$Cell" "user") ∈ lw_all := lw_g (lw_at lw_m1 217 rfl) rfl
theorem q277 : (Jvm.Cond.laysFinal "LightPlate$Cell" "LightPlate$Cell" "this$0" "LLightPlate;") ∈ lw_all := lw_g (lw_at lw_m1 218 rfl) rfl
theorem q278 : (Jvm.Cond.soleField "LightPlate$Cell" "this$0") ∈ lw_all := lw_g (lw_at lw_m1 219 rfl) rfl
theorem q279 : (Jvm.Cond.superclass "LightPlate$Cell" "java/lang/Object") ∈ lw_all := lw_g (lw_at lw_m1 220 rfl) rfl
theorem q409 : (Jvm.Cond.instanceMethod ({ cls := "LightPlate$Cell", name := "isDead", desc := "()Z" } : Jvm.MethodName)) ∈ lw_all := lw_g (lw_at lw_m2 110 rfl) rfl
theorem q410 : (Jvm.Cond.selects "LightPlate$Cell" ({ cls := "LightPlate$Cell", name := "isDead", desc := "()Z" } : Jvm.MethodName) ({ cls := "LightPlate$Cell", name := "isDead", desc := "()Z" } : Jvm.MethodName)) ∈ lw_all := lw_g (lw_at lw_m2 111 rfl) rfl
theorem q411 : (Jvm.Cond.code ({ cls := "LightPlate$Cell", name := "isDead", desc := "()Z" } : Jvm.MethodName) prog_4_method_2_code (1 : Nat) (Option.some Jvm.ClassFile.FieldType.boolean)) ∈ lw_all := lw_g (lw_at lw_m2 112 rfl) rfl
theorem q421 : (Jvm.Cond.instanceMethod ({ cls := "LightPlate$Cell", name := "does", desc := "()I" } : Jvm.MethodName)) ∈ lw_all := lw_g (lw_at lw_m2 122 rfl) rfl
theorem q422 : (Jvm.Cond.selects "LightPlate$Cell" ({ cls := "LightPlate$Cell", name := "does", desc := "()I" } : Jvm.MethodName) ({ cls := "LightPlate$Cell", name := "does", desc := "()I" } : Jvm.MethodName)) ∈ lw_all := lw_g (lw_at lw_m2 123 rfl) rfl
theorem q423 : (Jvm.Cond.code ({ cls := "LightPlate$Cell", name := "does", desc := "()I" } : Jvm.MethodName) prog_4_method_3_code (1 : Nat) (Option.some Jvm.ClassFile.FieldType.int)) ∈ lw_all := lw_g (lw_at lw_m2 124 rfl) rfl
theorem q424 : (Jvm.Cond.methodLink "LightPlate$Cell" (28 : Nat) ({ cls := "LightPlate$Cell", name := "isDead", desc := "()Z" } : Jvm.MethodName)) ∈ lw_all := lw_g (lw_at lw_m2 125 rfl) rfl
theorem q819 : (Jvm.Cond.selects "LightPlate$Cell" ({ cls := "java/lang/Object", name := "getClass", desc := "()Ljava/lang/Class;" } : Jvm.MethodName) ({ cls := "java/lang/Object", name := "getClass", desc := "()Ljava/lang/Class;" } : Jvm.MethodName)) ∈ lw_all := lw_g (lw_at lw_m4 40 rfl) rfl
theorem q1487 : (Jvm.Cond.castable "LightPlate$Cell" "java/lang/Object") ∈ lw_tbl := lw_at lw_m6 228 rfl
theorem in_X8 : ∀ w ∈ wsX80, w ∈ lw_all := lw_in wsX80 [265, 267, 269, 271, 273, 275, 277] (by decide +kernel) (by decide +kernel)
theorem q1513 : (Jvm.Cond.castable "[B" "java/lang/Object") ∈ lw_tbl := lw_at lw_m7 14 rfl
set_option maxRecDepth 100000
theorem q1508 : (Jvm.Cond.castable "[I" "java/lang/Object") ∈ lw_tbl := lw_at lw_m7 9 rfl
set_option maxRecDepth 100000
theorem q1514 : (Jvm.Cond.castable "[LLightPlate$Cell;" "java/lang/Object") ∈ lw_tbl := lw_at lw_m7 15 rfl
set_option maxRecDepth 100000
theorem q1511 : (Jvm.Cond.castable "[LLightPlate$Node;" "java/lang/Object") ∈ lw_tbl := lw_at lw_m7 12 rfl
set_option maxRecDepth 100000
theorem q1505 : (Jvm.Cond.sameMethod "[Ljava/lang/Object;" "java/lang/Object" "getClass" "()Ljava/lang/Class;") ∈ lw_all := lw_g (lw_at lw_m7 6 rfl) rfl
set_option maxRecDepth 100000
theorem q1506 : (Jvm.Cond.selects "[Ljava/lang/Object;" ({ cls := "java/lang/Object", name := "getClass", desc := "()Ljava/lang/Class;" } : Jvm.MethodName) ({ cls := "java/lang/Object", name := "getClass", desc := "()Ljava/lang/Class;" } : Jvm.MethodName)) ∈ lw_all := lw_g (lw_at lw_m7 7 rfl) rfl
theorem q1515 : (Jvm.Cond.castable "[Ljava/lang/Object;" "java/lang/Object") ∈ lw_tbl := lw_at lw_m7 16 rfl
theorem q1512 : (Jvm.Cond.castable "[Z" "java/lang/Object") ∈ lw_tbl := lw_at lw_m7 13 rfl
set_option maxRecDepth 100000
theorem q1509 : (Jvm.Cond.castable "[[I" "java/lang/Object") ∈ lw_tbl := lw_at lw_m7 10 rfl
set_option maxRecDepth 100000
theorem q1510 : (Jvm.Cond.castable "[[Z" "java/lang/Object") ∈ lw_tbl := lw_at lw_m7 11 rfl
set_option maxRecDepth 100000
theorem q75 : (Jvm.Cond.initialized "java/lang/System") ∈ lw_all := lw_g (lw_at lw_m1 16 rfl) rfl
set_option maxRecDepth 100000
theorem q548 : (Jvm.Cond.static ({ cls := "java/lang/System", name := "arraycopy", desc := "(Ljava/lang/Object;ILjava/lang/Object;II)V" } : Jvm.MethodName)) ∈ lw_all := lw_g (lw_at lw_m3 9 rfl) rfl
theorem q549 : (Jvm.Cond.native ({ cls := "java/lang/System", name := "arraycopy", desc := "(Ljava/lang/Object;ILjava/lang/Object;II)V" } : Jvm.MethodName)) ∈ lw_all := lw_g (lw_at lw_m3 10 rfl) rfl
theorem q135 : (Jvm.Cond.arrayClass Jvm.ClassFile.FieldType.int) ∈ lw_all := lw_g (lw_at lw_m1 76 rfl) rfl
set_option maxRecDepth 100000
theorem q185 : (Jvm.Cond.arrayOver (Jvm.ClassFile.FieldType.array Jvm.ClassFile.FieldType.int)) ∈ lw_tbl := lw_at lw_m1 126 rfl
theorem q187 : (Jvm.Cond.arrayOver (Jvm.ClassFile.FieldType.array Jvm.ClassFile.FieldType.boolean)) ∈ lw_tbl := lw_at lw_m1 128 rfl
theorem q195 : (Jvm.Cond.arrayOver (Jvm.ClassFile.FieldType.object "LightPlate$Node")) ∈ lw_tbl := lw_at lw_m1 136 rfl
theorem q209 : (Jvm.Cond.arrayClass Jvm.ClassFile.FieldType.boolean) ∈ lw_all := lw_g (lw_at lw_m1 150 rfl) rfl
theorem q210 : (Jvm.Cond.arrayClass Jvm.ClassFile.FieldType.byte) ∈ lw_all := lw_g (lw_at lw_m1 151 rfl) rfl
theorem q238 : (Jvm.Cond.arrayOver (Jvm.ClassFile.FieldType.object "LightPlate$Cell")) ∈ lw_tbl := lw_at lw_m1 179 rfl
theorem q838 : (Jvm.Cond.arrayOver (Jvm.ClassFile.FieldType.object "java/lang/Object")) ∈ lw_tbl := lw_at lw_m4 59 rfl
