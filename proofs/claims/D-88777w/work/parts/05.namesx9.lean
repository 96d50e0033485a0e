/-! LightPlateModel -/
set_option maxRecDepth 100000
def RX9 : String := "LightPlateModel"
def TX9 : u_T := fun k => match k with
  | 0 => ("LightPlateModel", "n", "I", true)
  | 1 => ("LightPlateModel", "c", "[I", true)
  | 2 => ("LightPlateModel", "s", "[I", true)
  | 3 => ("LightPlateModel", "setting", "[I", true)
  | 4 => ("LightPlateModel", "stuck", "[I", true)
  | 5 => ("LightPlateModel", "user", "[I", true)
  | 6 => ("LightPlateModel", "offset", "[I", true)
  | 7 => ("LightPlateModel", "creep", "I", false)
  | 8 => ("LightPlateModel", "by", "[I", true)
  | 9 => ("LightPlateModel", "offsets", "[I", true)
  | 10 => ("LightPlateModel", "light", "[I", true)
  | 11 => ("LightPlateModel", "told", "[I", true)
  | 12 => ("LightPlateModel", "split", "[I", true)
  | 13 => ("LightPlateModel", "stepLane", "[I", true)
  | 14 => ("LightPlateModel", "stepTurn", "[I", true)
  | 15 => ("LightPlateModel", "sign", "[I", true)
  | 16 => ("LightPlateModel", "steps", "I", false)
  | 17 => ("LightPlateModel", "wasSplit", "Z", false)
  | 18 => ("LightPlateModel", "hasLack", "Z", false)
  | 19 => ("LightPlateModel", "workLane", "[I", true)
  | 20 => ("LightPlateModel", "workTurn", "[I", true)
  | 21 => ("LightPlateModel", "works", "I", false)
  | 22 => ("LightPlateModel", "can", "[Z", true)
  | 23 => ("LightPlateModel", "tape", "[I", true)
  | 24 => ("LightPlateModel", "list", "[I", true)
  | 25 => ("LightPlateModel", "listSize", "[I", true)
  | 26 => ("LightPlateModel", "times", "[I", true)
  | 27 => ("LightPlateModel", "nameList", "[I", true)
  | 28 => ("LightPlateModel", "nameSize", "[I", true)
  | 29 => ("LightPlateModel", "isTold", "[Z", true)
  | 30 => ("LightPlateModel", "taped", "I", false)
  | 31 => ("LightPlateModel", "at", "I", false)
  | 32 => ("LightPlateModel", "deep", "I", false)
  | 33 => ("LightPlateModel", "noName", "I", false)
  | 34 => ("LightPlateModel", "number", "I", false)
  | 35 => ("LightPlateModel", "runIn", "[I", true)
  | 36 => ("LightPlateModel", "runOut", "[I", true)
  | 37 => ("LightPlateModel", "runSetting", "[I", true)
  | 38 => ("LightPlateModel", "foundCell", "[I", true)
  | 39 => ("LightPlateModel", "foundAs", "[I", true)
  | 40 => ("LightPlateModel", "foundFrom", "[I", true)
  | 41 => ("LightPlateModel", "runs", "I", false)
  | 42 => ("LightPlateModel", "entries", "I", false)
  | 43 => ("LightPlateModel", "finds", "I", false)
  | 44 => ("LightPlateModel", "maybe", "[I", true)
  | 45 => ("LightPlateModel", "comes", "[I", true)
  | 46 => ("LightPlateModel", "isHeld", "[Z", true)
  | 47 => ("LightPlateModel", "maybes", "I", false)
  | 48 => ("LightPlateModel", "hypotheses", "I", false)
  | 49 => ("LightPlateModel", "probed", "I", false)
  | 50 => ("LightPlateModel", "isProbing", "Z", false)
  | _ => ("LightPlateModel", "group", "[I", true)
def tyX9 : Nat → FieldType := fun k => match k with
  | 0 => .int
  | 1 => .array .int
  | 2 => .array .int
  | 3 => .array .int
  | 4 => .array .int
  | 5 => .array .int
  | 6 => .array .int
  | 7 => .int
  | 8 => .array .int
  | 9 => .array .int
  | 10 => .array .int
  | 11 => .array .int
  | 12 => .array .int
  | 13 => .array .int
  | 14 => .array .int
  | 15 => .array .int
  | 16 => .int
  | 17 => .boolean
  | 18 => .boolean
  | 19 => .array .int
  | 20 => .array .int
  | 21 => .int
  | 22 => .array .boolean
  | 23 => .array .int
  | 24 => .array .int
  | 25 => .array .int
  | 26 => .array .int
  | 27 => .array .int
  | 28 => .array .int
  | 29 => .array .boolean
  | 30 => .int
  | 31 => .int
  | 32 => .int
  | 33 => .int
  | 34 => .int
  | 35 => .array .int
  | 36 => .array .int
  | 37 => .array .int
  | 38 => .array .int
  | 39 => .array .int
  | 40 => .array .int
  | 41 => .int
  | 42 => .int
  | 43 => .int
  | 44 => .array .int
  | 45 => .array .int
  | 46 => .array .boolean
  | 47 => .int
  | 48 => .int
  | 49 => .int
  | 50 => .boolean
  | _ => .array .int
abbrev wsX90 : List Cond := u_ws RX9 TX9 52
set_option maxRecDepth 100000 in
theorem nmX9 : ∀ a, a < 52 → ∀ b, b < 52 → a ≠ b → (TX9 a).2.1 ≠ (TX9 b).2.1 := by decide +kernel
set_option maxRecDepth 100000 in
theorem tyX9_ok : ∀ k, k < 52 → parseFieldDescriptor (TX9 k).2.2.1 = some (tyX9 k) := by decide +kernel
abbrev cX9_init : ByteArray := prog_19_method_1_code
def yX9_init : MethodName := ⟨RX9, "<init>", "(I)V"⟩
def dkwX9_init_17 : List UInt8 := [162, 0, 23, 42, 180, 0, 19, 29, 2, 79, 42, 180, 0, 22, 29, 2, 79, 132, 3, 1, 167, 255, 233, 177]
abbrev dktX9_init_17 : List UInt8 := dkwX9_init_17 ++ []
def dkwX9_init_16 : List UInt8 := [29, 4, 100, 46, 16, 83, 104, 96, 184, 0, 120, 79, 132, 3, 1, 167, 255, 183, 3, 62, 29, 16, 72]
abbrev dktX9_init_16 : List UInt8 := dkwX9_init_16 ++ dktX9_init_17
def dkwX9_init_15 : List UInt8 := [184, 0, 120, 79, 42, 180, 0, 13, 29, 42, 180, 0, 13, 29, 4, 100, 46, 16, 22, 104, 42, 180, 0, 7]
abbrev dktX9_init_15 : List UInt8 := dkwX9_init_15 ++ dktX9_init_16
def dkwX9_init_14 : List UInt8 := [180, 0, 7, 29, 4, 100, 46, 16, 22, 104, 42, 180, 0, 13, 29, 4, 100, 46, 16, 83, 104, 100]
abbrev dktX9_init_14 : List UInt8 := dkwX9_init_14 ++ dktX9_init_15
def dkwX9_init_13 : List UInt8 := [181, 0, 117, 42, 180, 0, 7, 3, 4, 79, 4, 62, 29, 16, 96, 162, 0, 73, 42, 180, 0, 7, 29, 42]
abbrev dktX9_init_13 : List UInt8 := dkwX9_init_13 ++ dktX9_init_14
def dkwX9_init_12 : List UInt8 := [188, 10, 181, 0, 114, 27, 8, 112, 61, 42, 28, 156, 0, 9, 28, 8, 96, 167, 0, 4, 28, 5, 96]
abbrev dktX9_init_12 : List UInt8 := dkwX9_init_12 ++ dktX9_init_13
def dkwX9_init_11 : List UInt8 := [181, 0, 105, 42, 17, 1, 33, 188, 10, 181, 0, 108, 42, 17, 1, 33, 188, 4, 181, 0, 111, 42, 16, 97]
abbrev dktX9_init_11 : List UInt8 := dkwX9_init_11 ++ dktX9_init_12
def dkwX9_init_10 : List UInt8 := [181, 0, 96, 42, 16, 60, 188, 10, 181, 0, 99, 42, 16, 60, 188, 10, 181, 0, 102, 42, 16, 72, 188, 10]
abbrev dktX9_init_10 : List UInt8 := dkwX9_init_10 ++ dktX9_init_11
def dkwX9_init_9 : List UInt8 := [42, 17, 0, 240, 188, 10, 181, 0, 90, 42, 17, 11, 64, 188, 10, 181, 0, 93, 42, 16, 60, 188, 10]
abbrev dktX9_init_9 : List UInt8 := dkwX9_init_9 ++ dktX9_init_10
def dkwX9_init_8 : List UInt8 := [16, 6, 188, 10, 181, 0, 81, 42, 16, 6, 188, 4, 181, 0, 84, 42, 17, 0, 240, 188, 10, 181, 0, 87]
abbrev dktX9_init_8 : List UInt8 := dkwX9_init_8 ++ dktX9_init_9
def dkwX9_init_7 : List UInt8 := [16, 100, 188, 10, 181, 0, 72, 42, 16, 100, 188, 10, 181, 0, 75, 42, 16, 66, 188, 10, 181, 0, 78, 42]
abbrev dktX9_init_7 : List UInt8 := dkwX9_init_7 ++ dktX9_init_8
def dkwX9_init_6 : List UInt8 := [188, 4, 181, 0, 62, 42, 16, 100, 188, 10, 181, 0, 66, 42, 17, 5, 20, 188, 10, 181, 0, 69, 42]
abbrev dktX9_init_6 : List UInt8 := dkwX9_init_6 ++ dktX9_init_7
def dkwX9_init_5 : List UInt8 := [181, 0, 53, 42, 16, 11, 188, 10, 181, 0, 56, 42, 16, 11, 188, 10, 181, 0, 59, 42, 17, 52, 0]
abbrev dktX9_init_5 : List UInt8 := dkwX9_init_5 ++ dktX9_init_6
def dkwX9_init_4 : List UInt8 := [181, 0, 44, 42, 16, 15, 188, 10, 181, 0, 47, 42, 16, 15, 188, 10, 181, 0, 50, 42, 16, 6, 188, 10]
abbrev dktX9_init_4 : List UInt8 := dkwX9_init_4 ++ dktX9_init_5
def dkwX9_init_3 : List UInt8 := [181, 0, 35, 42, 16, 6, 188, 10, 181, 0, 38, 42, 16, 36, 188, 10, 181, 0, 41, 42, 16, 36, 188, 10]
abbrev dktX9_init_3 : List UInt8 := dkwX9_init_3 ++ dktX9_init_4
def dkwX9_init_2 : List UInt8 := [188, 10, 181, 0, 25, 42, 16, 99, 181, 0, 28, 42, 16, 72, 188, 10, 181, 0, 32, 42, 16, 72, 188, 10]
abbrev dktX9_init_2 : List UInt8 := dkwX9_init_2 ++ dktX9_init_3
def dkwX9_init_1 : List UInt8 := [188, 10, 181, 0, 16, 42, 16, 72, 188, 10, 181, 0, 19, 42, 16, 72, 188, 10, 181, 0, 22, 42, 16, 72]
abbrev dktX9_init_1 : List UInt8 := dkwX9_init_1 ++ dktX9_init_2
def dkwX9_init_0 : List UInt8 := [42, 183, 0, 1, 42, 16, 96, 188, 10, 181, 0, 7, 42, 16, 96, 188, 10, 181, 0, 13, 42, 16, 72]
abbrev dktX9_init_0 : List UInt8 := dkwX9_init_0 ++ dktX9_init_1
theorem dksX9_init_0 : cX9_init.data.toList.drop 0 = dktX9_init_0 := by decide +kernel
theorem dksX9_init_1 : cX9_init.data.toList.drop 23 = dktX9_init_1 := dk_seg dksX9_init_0 23 rfl rfl
theorem dksX9_init_2 : cX9_init.data.toList.drop 47 = dktX9_init_2 := dk_seg dksX9_init_1 24 rfl rfl
theorem dksX9_init_3 : cX9_init.data.toList.drop 71 = dktX9_init_3 := dk_seg dksX9_init_2 24 rfl rfl
theorem dksX9_init_4 : cX9_init.data.toList.drop 95 = dktX9_init_4 := dk_seg dksX9_init_3 24 rfl rfl
theorem dksX9_init_5 : cX9_init.data.toList.drop 119 = dktX9_init_5 := dk_seg dksX9_init_4 24 rfl rfl
theorem dksX9_init_6 : cX9_init.data.toList.drop 142 = dktX9_init_6 := dk_seg dksX9_init_5 23 rfl rfl
theorem dksX9_init_7 : cX9_init.data.toList.drop 165 = dktX9_init_7 := dk_seg dksX9_init_6 23 rfl rfl
theorem dksX9_init_8 : cX9_init.data.toList.drop 189 = dktX9_init_8 := dk_seg dksX9_init_7 24 rfl rfl
theorem dksX9_init_9 : cX9_init.data.toList.drop 213 = dktX9_init_9 := dk_seg dksX9_init_8 24 rfl rfl
theorem dksX9_init_10 : cX9_init.data.toList.drop 236 = dktX9_init_10 := dk_seg dksX9_init_9 23 rfl rfl
theorem dksX9_init_11 : cX9_init.data.toList.drop 260 = dktX9_init_11 := dk_seg dksX9_init_10 24 rfl rfl
theorem dksX9_init_12 : cX9_init.data.toList.drop 284 = dktX9_init_12 := dk_seg dksX9_init_11 24 rfl rfl
theorem dksX9_init_13 : cX9_init.data.toList.drop 307 = dktX9_init_13 := dk_seg dksX9_init_12 23 rfl rfl
theorem dksX9_init_14 : cX9_init.data.toList.drop 331 = dktX9_init_14 := dk_seg dksX9_init_13 24 rfl rfl
theorem dksX9_init_15 : cX9_init.data.toList.drop 353 = dktX9_init_15 := dk_seg dksX9_init_14 22 rfl rfl
theorem dksX9_init_16 : cX9_init.data.toList.drop 377 = dktX9_init_16 := dk_seg dksX9_init_15 24 rfl rfl
theorem dksX9_init_17 : cX9_init.data.toList.drop 400 = dktX9_init_17 := dk_seg dksX9_init_16 23 rfl rfl
theorem dX9_init_0 : decode cX9_init 0 = .ok (.aload_n 0, 1) := dk_42 (dk_at dksX9_init_0 0 rfl rfl)
theorem dX9_init_1 : decode cX9_init 1 = .ok (.invokespecial 1, 3) := dk_183 0 1 (dk_at dksX9_init_0 1 rfl rfl)
theorem dX9_init_4 : decode cX9_init 4 = .ok (.aload_n 0, 1) := dk_42 (dk_at dksX9_init_0 4 rfl rfl)
theorem dX9_init_5 : decode cX9_init 5 = .ok (.bipush 96, 2) := dk_16 96 (dk_at dksX9_init_0 5 rfl rfl)
theorem dX9_init_7 : decode cX9_init 7 = .ok (.newarray .int, 2) := dk_188_10 (dk_at dksX9_init_0 7 rfl rfl)
theorem dX9_init_9 : decode cX9_init 9 = .ok (.putfield 7, 3) := dk_181 0 7 (dk_at dksX9_init_0 9 rfl rfl)
theorem dX9_init_12 : decode cX9_init 12 = .ok (.aload_n 0, 1) := dk_42 (dk_at dksX9_init_0 12 rfl rfl)
theorem dX9_init_13 : decode cX9_init 13 = .ok (.bipush 96, 2) := dk_16 96 (dk_at dksX9_init_0 13 rfl rfl)
theorem dX9_init_15 : decode cX9_init 15 = .ok (.newarray .int, 2) := dk_188_10 (dk_at dksX9_init_0 15 rfl rfl)
theorem dX9_init_17 : decode cX9_init 17 = .ok (.putfield 13, 3) := dk_181 0 13 (dk_at dksX9_init_0 17 rfl rfl)
theorem dX9_init_20 : decode cX9_init 20 = .ok (.aload_n 0, 1) := dk_42 (dk_at dksX9_init_0 20 rfl rfl)
theorem dX9_init_21 : decode cX9_init 21 = .ok (.bipush 72, 2) := dk_16 72 (dk_at dksX9_init_0 21 rfl rfl)
theorem dX9_init_23 : decode cX9_init 23 = .ok (.newarray .int, 2) := dk_188_10 (dk_at dksX9_init_1 0 rfl rfl)
theorem dX9_init_25 : decode cX9_init 25 = .ok (.putfield 16, 3) := dk_181 0 16 (dk_at dksX9_init_1 2 rfl rfl)
theorem dX9_init_28 : decode cX9_init 28 = .ok (.aload_n 0, 1) := dk_42 (dk_at dksX9_init_1 5 rfl rfl)
theorem dX9_init_29 : decode cX9_init 29 = .ok (.bipush 72, 2) := dk_16 72 (dk_at dksX9_init_1 6 rfl rfl)
theorem dX9_init_31 : decode cX9_init 31 = .ok (.newarray .int, 2) := dk_188_10 (dk_at dksX9_init_1 8 rfl rfl)
theorem dX9_init_33 : decode cX9_init 33 = .ok (.putfield 19, 3) := dk_181 0 19 (dk_at dksX9_init_1 10 rfl rfl)
theorem dX9_init_36 : decode cX9_init 36 = .ok (.aload_n 0, 1) := dk_42 (dk_at dksX9_init_1 13 rfl rfl)
theorem dX9_init_37 : decode cX9_init 37 = .ok (.bipush 72, 2) := dk_16 72 (dk_at dksX9_init_1 14 rfl rfl)
theorem dX9_init_39 : decode cX9_init 39 = .ok (.newarray .int, 2) := dk_188_10 (dk_at dksX9_init_1 16 rfl rfl)
theorem dX9_init_41 : decode cX9_init 41 = .ok (.putfield 22, 3) := dk_181 0 22 (dk_at dksX9_init_1 18 rfl rfl)
theorem dX9_init_44 : decode cX9_init 44 = .ok (.aload_n 0, 1) := dk_42 (dk_at dksX9_init_1 21 rfl rfl)
theorem dX9_init_45 : decode cX9_init 45 = .ok (.bipush 72, 2) := dk_16 72 (dk_at dksX9_init_1 22 rfl rfl)
theorem dX9_init_47 : decode cX9_init 47 = .ok (.newarray .int, 2) := dk_188_10 (dk_at dksX9_init_2 0 rfl rfl)
theorem dX9_init_49 : decode cX9_init 49 = .ok (.putfield 25, 3) := dk_181 0 25 (dk_at dksX9_init_2 2 rfl rfl)
theorem dX9_init_52 : decode cX9_init 52 = .ok (.aload_n 0, 1) := dk_42 (dk_at dksX9_init_2 5 rfl rfl)
theorem dX9_init_53 : decode cX9_init 53 = .ok (.bipush 99, 2) := dk_16 99 (dk_at dksX9_init_2 6 rfl rfl)
theorem dX9_init_55 : decode cX9_init 55 = .ok (.putfield 28, 3) := dk_181 0 28 (dk_at dksX9_init_2 8 rfl rfl)
theorem dX9_init_58 : decode cX9_init 58 = .ok (.aload_n 0, 1) := dk_42 (dk_at dksX9_init_2 11 rfl rfl)
theorem dX9_init_59 : decode cX9_init 59 = .ok (.bipush 72, 2) := dk_16 72 (dk_at dksX9_init_2 12 rfl rfl)
theorem dX9_init_61 : decode cX9_init 61 = .ok (.newarray .int, 2) := dk_188_10 (dk_at dksX9_init_2 14 rfl rfl)
theorem dX9_init_63 : decode cX9_init 63 = .ok (.putfield 32, 3) := dk_181 0 32 (dk_at dksX9_init_2 16 rfl rfl)
theorem dX9_init_66 : decode cX9_init 66 = .ok (.aload_n 0, 1) := dk_42 (dk_at dksX9_init_2 19 rfl rfl)
theorem dX9_init_67 : decode cX9_init 67 = .ok (.bipush 72, 2) := dk_16 72 (dk_at dksX9_init_2 20 rfl rfl)
theorem dX9_init_69 : decode cX9_init 69 = .ok (.newarray .int, 2) := dk_188_10 (dk_at dksX9_init_2 22 rfl rfl)
theorem dX9_init_71 : decode cX9_init 71 = .ok (.putfield 35, 3) := dk_181 0 35 (dk_at dksX9_init_3 0 rfl rfl)
theorem dX9_init_74 : decode cX9_init 74 = .ok (.aload_n 0, 1) := dk_42 (dk_at dksX9_init_3 3 rfl rfl)
theorem dX9_init_75 : decode cX9_init 75 = .ok (.bipush 6, 2) := dk_16 6 (dk_at dksX9_init_3 4 rfl rfl)
theorem dX9_init_77 : decode cX9_init 77 = .ok (.newarray .int, 2) := dk_188_10 (dk_at dksX9_init_3 6 rfl rfl)
theorem dX9_init_79 : decode cX9_init 79 = .ok (.putfield 38, 3) := dk_181 0 38 (dk_at dksX9_init_3 8 rfl rfl)
theorem dX9_init_82 : decode cX9_init 82 = .ok (.aload_n 0, 1) := dk_42 (dk_at dksX9_init_3 11 rfl rfl)
theorem dX9_init_83 : decode cX9_init 83 = .ok (.bipush 36, 2) := dk_16 36 (dk_at dksX9_init_3 12 rfl rfl)
theorem dX9_init_85 : decode cX9_init 85 = .ok (.newarray .int, 2) := dk_188_10 (dk_at dksX9_init_3 14 rfl rfl)
theorem dX9_init_87 : decode cX9_init 87 = .ok (.putfield 41, 3) := dk_181 0 41 (dk_at dksX9_init_3 16 rfl rfl)
theorem dX9_init_90 : decode cX9_init 90 = .ok (.aload_n 0, 1) := dk_42 (dk_at dksX9_init_3 19 rfl rfl)
theorem dX9_init_91 : decode cX9_init 91 = .ok (.bipush 36, 2) := dk_16 36 (dk_at dksX9_init_3 20 rfl rfl)
theorem dX9_init_93 : decode cX9_init 93 = .ok (.newarray .int, 2) := dk_188_10 (dk_at dksX9_init_3 22 rfl rfl)
theorem dX9_init_95 : decode cX9_init 95 = .ok (.putfield 44, 3) := dk_181 0 44 (dk_at dksX9_init_4 0 rfl rfl)
theorem dX9_init_98 : decode cX9_init 98 = .ok (.aload_n 0, 1) := dk_42 (dk_at dksX9_init_4 3 rfl rfl)
theorem dX9_init_99 : decode cX9_init 99 = .ok (.bipush 15, 2) := dk_16 15 (dk_at dksX9_init_4 4 rfl rfl)
theorem dX9_init_101 : decode cX9_init 101 = .ok (.newarray .int, 2) := dk_188_10 (dk_at dksX9_init_4 6 rfl rfl)
theorem dX9_init_103 : decode cX9_init 103 = .ok (.putfield 47, 3) := dk_181 0 47 (dk_at dksX9_init_4 8 rfl rfl)
theorem dX9_init_106 : decode cX9_init 106 = .ok (.aload_n 0, 1) := dk_42 (dk_at dksX9_init_4 11 rfl rfl)
theorem dX9_init_107 : decode cX9_init 107 = .ok (.bipush 15, 2) := dk_16 15 (dk_at dksX9_init_4 12 rfl rfl)
theorem dX9_init_109 : decode cX9_init 109 = .ok (.newarray .int, 2) := dk_188_10 (dk_at dksX9_init_4 14 rfl rfl)
theorem dX9_init_111 : decode cX9_init 111 = .ok (.putfield 50, 3) := dk_181 0 50 (dk_at dksX9_init_4 16 rfl rfl)
theorem dX9_init_114 : decode cX9_init 114 = .ok (.aload_n 0, 1) := dk_42 (dk_at dksX9_init_4 19 rfl rfl)
theorem dX9_init_115 : decode cX9_init 115 = .ok (.bipush 6, 2) := dk_16 6 (dk_at dksX9_init_4 20 rfl rfl)
theorem dX9_init_117 : decode cX9_init 117 = .ok (.newarray .int, 2) := dk_188_10 (dk_at dksX9_init_4 22 rfl rfl)
theorem dX9_init_119 : decode cX9_init 119 = .ok (.putfield 53, 3) := dk_181 0 53 (dk_at dksX9_init_5 0 rfl rfl)
theorem dX9_init_122 : decode cX9_init 122 = .ok (.aload_n 0, 1) := dk_42 (dk_at dksX9_init_5 3 rfl rfl)
theorem dX9_init_123 : decode cX9_init 123 = .ok (.bipush 11, 2) := dk_16 11 (dk_at dksX9_init_5 4 rfl rfl)
theorem dX9_init_125 : decode cX9_init 125 = .ok (.newarray .int, 2) := dk_188_10 (dk_at dksX9_init_5 6 rfl rfl)
theorem dX9_init_127 : decode cX9_init 127 = .ok (.putfield 56, 3) := dk_181 0 56 (dk_at dksX9_init_5 8 rfl rfl)
theorem dX9_init_130 : decode cX9_init 130 = .ok (.aload_n 0, 1) := dk_42 (dk_at dksX9_init_5 11 rfl rfl)
theorem dX9_init_131 : decode cX9_init 131 = .ok (.bipush 11, 2) := dk_16 11 (dk_at dksX9_init_5 12 rfl rfl)
theorem dX9_init_133 : decode cX9_init 133 = .ok (.newarray .int, 2) := dk_188_10 (dk_at dksX9_init_5 14 rfl rfl)
theorem dX9_init_135 : decode cX9_init 135 = .ok (.putfield 59, 3) := dk_181 0 59 (dk_at dksX9_init_5 16 rfl rfl)
theorem dX9_init_138 : decode cX9_init 138 = .ok (.aload_n 0, 1) := dk_42 (dk_at dksX9_init_5 19 rfl rfl)
theorem dX9_init_139 : decode cX9_init 139 = .ok (.sipush 13312, 3) := dk_17 52 0 (dk_at dksX9_init_5 20 rfl rfl)
theorem dX9_init_142 : decode cX9_init 142 = .ok (.newarray .boolean, 2) := dk_188_4 (dk_at dksX9_init_6 0 rfl rfl)
theorem dX9_init_144 : decode cX9_init 144 = .ok (.putfield 62, 3) := dk_181 0 62 (dk_at dksX9_init_6 2 rfl rfl)
theorem dX9_init_147 : decode cX9_init 147 = .ok (.aload_n 0, 1) := dk_42 (dk_at dksX9_init_6 5 rfl rfl)
theorem dX9_init_148 : decode cX9_init 148 = .ok (.bipush 100, 2) := dk_16 100 (dk_at dksX9_init_6 6 rfl rfl)
theorem dX9_init_150 : decode cX9_init 150 = .ok (.newarray .int, 2) := dk_188_10 (dk_at dksX9_init_6 8 rfl rfl)
theorem dX9_init_152 : decode cX9_init 152 = .ok (.putfield 66, 3) := dk_181 0 66 (dk_at dksX9_init_6 10 rfl rfl)
theorem dX9_init_155 : decode cX9_init 155 = .ok (.aload_n 0, 1) := dk_42 (dk_at dksX9_init_6 13 rfl rfl)
theorem dX9_init_156 : decode cX9_init 156 = .ok (.sipush 1300, 3) := dk_17 5 20 (dk_at dksX9_init_6 14 rfl rfl)
theorem dX9_init_159 : decode cX9_init 159 = .ok (.newarray .int, 2) := dk_188_10 (dk_at dksX9_init_6 17 rfl rfl)
theorem dX9_init_161 : decode cX9_init 161 = .ok (.putfield 69, 3) := dk_181 0 69 (dk_at dksX9_init_6 19 rfl rfl)
theorem dX9_init_164 : decode cX9_init 164 = .ok (.aload_n 0, 1) := dk_42 (dk_at dksX9_init_6 22 rfl rfl)
theorem dX9_init_165 : decode cX9_init 165 = .ok (.bipush 100, 2) := dk_16 100 (dk_at dksX9_init_7 0 rfl rfl)
theorem dX9_init_167 : decode cX9_init 167 = .ok (.newarray .int, 2) := dk_188_10 (dk_at dksX9_init_7 2 rfl rfl)
theorem dX9_init_169 : decode cX9_init 169 = .ok (.putfield 72, 3) := dk_181 0 72 (dk_at dksX9_init_7 4 rfl rfl)
theorem dX9_init_172 : decode cX9_init 172 = .ok (.aload_n 0, 1) := dk_42 (dk_at dksX9_init_7 7 rfl rfl)
theorem dX9_init_173 : decode cX9_init 173 = .ok (.bipush 100, 2) := dk_16 100 (dk_at dksX9_init_7 8 rfl rfl)
theorem dX9_init_175 : decode cX9_init 175 = .ok (.newarray .int, 2) := dk_188_10 (dk_at dksX9_init_7 10 rfl rfl)
theorem dX9_init_177 : decode cX9_init 177 = .ok (.putfield 75, 3) := dk_181 0 75 (dk_at dksX9_init_7 12 rfl rfl)
theorem dX9_init_180 : decode cX9_init 180 = .ok (.aload_n 0, 1) := dk_42 (dk_at dksX9_init_7 15 rfl rfl)
theorem dX9_init_181 : decode cX9_init 181 = .ok (.bipush 66, 2) := dk_16 66 (dk_at dksX9_init_7 16 rfl rfl)
theorem dX9_init_183 : decode cX9_init 183 = .ok (.newarray .int, 2) := dk_188_10 (dk_at dksX9_init_7 18 rfl rfl)
theorem dX9_init_185 : decode cX9_init 185 = .ok (.putfield 78, 3) := dk_181 0 78 (dk_at dksX9_init_7 20 rfl rfl)
theorem dX9_init_188 : decode cX9_init 188 = .ok (.aload_n 0, 1) := dk_42 (dk_at dksX9_init_7 23 rfl rfl)
theorem dX9_init_189 : decode cX9_init 189 = .ok (.bipush 6, 2) := dk_16 6 (dk_at dksX9_init_8 0 rfl rfl)
theorem dX9_init_191 : decode cX9_init 191 = .ok (.newarray .int, 2) := dk_188_10 (dk_at dksX9_init_8 2 rfl rfl)
theorem dX9_init_193 : decode cX9_init 193 = .ok (.putfield 81, 3) := dk_181 0 81 (dk_at dksX9_init_8 4 rfl rfl)
theorem dX9_init_196 : decode cX9_init 196 = .ok (.aload_n 0, 1) := dk_42 (dk_at dksX9_init_8 7 rfl rfl)
theorem dX9_init_197 : decode cX9_init 197 = .ok (.bipush 6, 2) := dk_16 6 (dk_at dksX9_init_8 8 rfl rfl)
theorem dX9_init_199 : decode cX9_init 199 = .ok (.newarray .boolean, 2) := dk_188_4 (dk_at dksX9_init_8 10 rfl rfl)
theorem dX9_init_201 : decode cX9_init 201 = .ok (.putfield 84, 3) := dk_181 0 84 (dk_at dksX9_init_8 12 rfl rfl)
theorem dX9_init_204 : decode cX9_init 204 = .ok (.aload_n 0, 1) := dk_42 (dk_at dksX9_init_8 15 rfl rfl)
theorem dX9_init_205 : decode cX9_init 205 = .ok (.sipush 240, 3) := dk_17 0 240 (dk_at dksX9_init_8 16 rfl rfl)
theorem dX9_init_208 : decode cX9_init 208 = .ok (.newarray .int, 2) := dk_188_10 (dk_at dksX9_init_8 19 rfl rfl)
theorem dX9_init_210 : decode cX9_init 210 = .ok (.putfield 87, 3) := dk_181 0 87 (dk_at dksX9_init_8 21 rfl rfl)
theorem dX9_init_213 : decode cX9_init 213 = .ok (.aload_n 0, 1) := dk_42 (dk_at dksX9_init_9 0 rfl rfl)
theorem dX9_init_214 : decode cX9_init 214 = .ok (.sipush 240, 3) := dk_17 0 240 (dk_at dksX9_init_9 1 rfl rfl)
theorem dX9_init_217 : decode cX9_init 217 = .ok (.newarray .int, 2) := dk_188_10 (dk_at dksX9_init_9 4 rfl rfl)
theorem dX9_init_219 : decode cX9_init 219 = .ok (.putfield 90, 3) := dk_181 0 90 (dk_at dksX9_init_9 6 rfl rfl)
theorem dX9_init_222 : decode cX9_init 222 = .ok (.aload_n 0, 1) := dk_42 (dk_at dksX9_init_9 9 rfl rfl)
theorem dX9_init_223 : decode cX9_init 223 = .ok (.sipush 2880, 3) := dk_17 11 64 (dk_at dksX9_init_9 10 rfl rfl)
theorem dX9_init_226 : decode cX9_init 226 = .ok (.newarray .int, 2) := dk_188_10 (dk_at dksX9_init_9 13 rfl rfl)
theorem dX9_init_228 : decode cX9_init 228 = .ok (.putfield 93, 3) := dk_181 0 93 (dk_at dksX9_init_9 15 rfl rfl)
theorem dX9_init_231 : decode cX9_init 231 = .ok (.aload_n 0, 1) := dk_42 (dk_at dksX9_init_9 18 rfl rfl)
theorem dX9_init_232 : decode cX9_init 232 = .ok (.bipush 60, 2) := dk_16 60 (dk_at dksX9_init_9 19 rfl rfl)
theorem dX9_init_234 : decode cX9_init 234 = .ok (.newarray .int, 2) := dk_188_10 (dk_at dksX9_init_9 21 rfl rfl)
theorem dX9_init_236 : decode cX9_init 236 = .ok (.putfield 96, 3) := dk_181 0 96 (dk_at dksX9_init_10 0 rfl rfl)
theorem dX9_init_239 : decode cX9_init 239 = .ok (.aload_n 0, 1) := dk_42 (dk_at dksX9_init_10 3 rfl rfl)
theorem dX9_init_240 : decode cX9_init 240 = .ok (.bipush 60, 2) := dk_16 60 (dk_at dksX9_init_10 4 rfl rfl)
theorem dX9_init_242 : decode cX9_init 242 = .ok (.newarray .int, 2) := dk_188_10 (dk_at dksX9_init_10 6 rfl rfl)
theorem dX9_init_244 : decode cX9_init 244 = .ok (.putfield 99, 3) := dk_181 0 99 (dk_at dksX9_init_10 8 rfl rfl)
theorem dX9_init_247 : decode cX9_init 247 = .ok (.aload_n 0, 1) := dk_42 (dk_at dksX9_init_10 11 rfl rfl)
theorem dX9_init_248 : decode cX9_init 248 = .ok (.bipush 60, 2) := dk_16 60 (dk_at dksX9_init_10 12 rfl rfl)
theorem dX9_init_250 : decode cX9_init 250 = .ok (.newarray .int, 2) := dk_188_10 (dk_at dksX9_init_10 14 rfl rfl)
theorem dX9_init_252 : decode cX9_init 252 = .ok (.putfield 102, 3) := dk_181 0 102 (dk_at dksX9_init_10 16 rfl rfl)
theorem dX9_init_255 : decode cX9_init 255 = .ok (.aload_n 0, 1) := dk_42 (dk_at dksX9_init_10 19 rfl rfl)
theorem dX9_init_256 : decode cX9_init 256 = .ok (.bipush 72, 2) := dk_16 72 (dk_at dksX9_init_10 20 rfl rfl)
theorem dX9_init_258 : decode cX9_init 258 = .ok (.newarray .int, 2) := dk_188_10 (dk_at dksX9_init_10 22 rfl rfl)
theorem dX9_init_260 : decode cX9_init 260 = .ok (.putfield 105, 3) := dk_181 0 105 (dk_at dksX9_init_11 0 rfl rfl)
theorem dX9_init_263 : decode cX9_init 263 = .ok (.aload_n 0, 1) := dk_42 (dk_at dksX9_init_11 3 rfl rfl)
theorem dX9_init_264 : decode cX9_init 264 = .ok (.sipush 289, 3) := dk_17 1 33 (dk_at dksX9_init_11 4 rfl rfl)
theorem dX9_init_267 : decode cX9_init 267 = .ok (.newarray .int, 2) := dk_188_10 (dk_at dksX9_init_11 7 rfl rfl)
theorem dX9_init_269 : decode cX9_init 269 = .ok (.putfield 108, 3) := dk_181 0 108 (dk_at dksX9_init_11 9 rfl rfl)
theorem dX9_init_272 : decode cX9_init 272 = .ok (.aload_n 0, 1) := dk_42 (dk_at dksX9_init_11 12 rfl rfl)
theorem dX9_init_273 : decode cX9_init 273 = .ok (.sipush 289, 3) := dk_17 1 33 (dk_at dksX9_init_11 13 rfl rfl)
theorem dX9_init_276 : decode cX9_init 276 = .ok (.newarray .boolean, 2) := dk_188_4 (dk_at dksX9_init_11 16 rfl rfl)
theorem dX9_init_278 : decode cX9_init 278 = .ok (.putfield 111, 3) := dk_181 0 111 (dk_at dksX9_init_11 18 rfl rfl)
theorem dX9_init_281 : decode cX9_init 281 = .ok (.aload_n 0, 1) := dk_42 (dk_at dksX9_init_11 21 rfl rfl)
theorem dX9_init_282 : decode cX9_init 282 = .ok (.bipush 97, 2) := dk_16 97 (dk_at dksX9_init_11 22 rfl rfl)
theorem dX9_init_284 : decode cX9_init 284 = .ok (.newarray .int, 2) := dk_188_10 (dk_at dksX9_init_12 0 rfl rfl)
theorem dX9_init_286 : decode cX9_init 286 = .ok (.putfield 114, 3) := dk_181 0 114 (dk_at dksX9_init_12 2 rfl rfl)
theorem dX9_init_289 : decode cX9_init 289 = .ok (.iload_n 1, 1) := dk_27 (dk_at dksX9_init_12 5 rfl rfl)
theorem dX9_init_290 : decode cX9_init 290 = .ok (.iconst 5, 1) := dk_8 (dk_at dksX9_init_12 6 rfl rfl)
theorem dX9_init_291 : decode cX9_init 291 = .ok (.irem, 1) := dk_112 (dk_at dksX9_init_12 7 rfl rfl)
theorem dX9_init_292 : decode cX9_init 292 = .ok (.istore_n 2, 1) := dk_61 (dk_at dksX9_init_12 8 rfl rfl)
theorem dX9_init_293 : decode cX9_init 293 = .ok (.aload_n 0, 1) := dk_42 (dk_at dksX9_init_12 9 rfl rfl)
theorem dX9_init_294 : decode cX9_init 294 = .ok (.iload_n 2, 1) := dk_28 (dk_at dksX9_init_12 10 rfl rfl)
theorem dX9_init_295 : decode cX9_init 295 = .ok (.ifCond .ge 9, 3) := dk_156 0 9 (dk_at dksX9_init_12 11 rfl rfl)
theorem dX9_init_298 : decode cX9_init 298 = .ok (.iload_n 2, 1) := dk_28 (dk_at dksX9_init_12 14 rfl rfl)
theorem dX9_init_299 : decode cX9_init 299 = .ok (.iconst 5, 1) := dk_8 (dk_at dksX9_init_12 15 rfl rfl)
theorem dX9_init_300 : decode cX9_init 300 = .ok (.iadd, 1) := dk_96 (dk_at dksX9_init_12 16 rfl rfl)
theorem dX9_init_301 : decode cX9_init 301 = .ok (.goto 4, 3) := dk_167 0 4 (dk_at dksX9_init_12 17 rfl rfl)
theorem dX9_init_304 : decode cX9_init 304 = .ok (.iload_n 2, 1) := dk_28 (dk_at dksX9_init_12 20 rfl rfl)
theorem dX9_init_305 : decode cX9_init 305 = .ok (.iconst 2, 1) := dk_5 (dk_at dksX9_init_12 21 rfl rfl)
theorem dX9_init_306 : decode cX9_init 306 = .ok (.iadd, 1) := dk_96 (dk_at dksX9_init_12 22 rfl rfl)
theorem dX9_init_307 : decode cX9_init 307 = .ok (.putfield 117, 3) := dk_181 0 117 (dk_at dksX9_init_13 0 rfl rfl)
theorem dX9_init_310 : decode cX9_init 310 = .ok (.aload_n 0, 1) := dk_42 (dk_at dksX9_init_13 3 rfl rfl)
theorem dX9_init_311 : decode cX9_init 311 = .ok (.getfield 7, 3) := dk_180 0 7 (dk_at dksX9_init_13 4 rfl rfl)
theorem dX9_init_314 : decode cX9_init 314 = .ok (.iconst 0, 1) := dk_3 (dk_at dksX9_init_13 7 rfl rfl)
theorem dX9_init_315 : decode cX9_init 315 = .ok (.iconst 1, 1) := dk_4 (dk_at dksX9_init_13 8 rfl rfl)
theorem dX9_init_316 : decode cX9_init 316 = .ok (.iastore, 1) := dk_79 (dk_at dksX9_init_13 9 rfl rfl)
theorem dX9_init_317 : decode cX9_init 317 = .ok (.iconst 1, 1) := dk_4 (dk_at dksX9_init_13 10 rfl rfl)
theorem dX9_init_318 : decode cX9_init 318 = .ok (.istore_n 3, 1) := dk_62 (dk_at dksX9_init_13 11 rfl rfl)
theorem dX9_init_319 : decode cX9_init 319 = .ok (.iload_n 3, 1) := dk_29 (dk_at dksX9_init_13 12 rfl rfl)
theorem dX9_init_320 : decode cX9_init 320 = .ok (.bipush 96, 2) := dk_16 96 (dk_at dksX9_init_13 13 rfl rfl)
theorem dX9_init_322 : decode cX9_init 322 = .ok (.if_icmp .ge 73, 3) := dk_162 0 73 (dk_at dksX9_init_13 15 rfl rfl)
theorem dX9_init_325 : decode cX9_init 325 = .ok (.aload_n 0, 1) := dk_42 (dk_at dksX9_init_13 18 rfl rfl)
theorem dX9_init_326 : decode cX9_init 326 = .ok (.getfield 7, 3) := dk_180 0 7 (dk_at dksX9_init_13 19 rfl rfl)
theorem dX9_init_329 : decode cX9_init 329 = .ok (.iload_n 3, 1) := dk_29 (dk_at dksX9_init_13 22 rfl rfl)
theorem dX9_init_330 : decode cX9_init 330 = .ok (.aload_n 0, 1) := dk_42 (dk_at dksX9_init_13 23 rfl rfl)
theorem dX9_init_331 : decode cX9_init 331 = .ok (.getfield 7, 3) := dk_180 0 7 (dk_at dksX9_init_14 0 rfl rfl)
theorem dX9_init_334 : decode cX9_init 334 = .ok (.iload_n 3, 1) := dk_29 (dk_at dksX9_init_14 3 rfl rfl)
theorem dX9_init_335 : decode cX9_init 335 = .ok (.iconst 1, 1) := dk_4 (dk_at dksX9_init_14 4 rfl rfl)
theorem dX9_init_336 : decode cX9_init 336 = .ok (.isub, 1) := dk_100 (dk_at dksX9_init_14 5 rfl rfl)
theorem dX9_init_337 : decode cX9_init 337 = .ok (.iaload, 1) := dk_46 (dk_at dksX9_init_14 6 rfl rfl)
theorem dX9_init_338 : decode cX9_init 338 = .ok (.bipush 22, 2) := dk_16 22 (dk_at dksX9_init_14 7 rfl rfl)
theorem dX9_init_340 : decode cX9_init 340 = .ok (.imul, 1) := dk_104 (dk_at dksX9_init_14 9 rfl rfl)
theorem dX9_init_341 : decode cX9_init 341 = .ok (.aload_n 0, 1) := dk_42 (dk_at dksX9_init_14 10 rfl rfl)
theorem dX9_init_342 : decode cX9_init 342 = .ok (.getfield 13, 3) := dk_180 0 13 (dk_at dksX9_init_14 11 rfl rfl)
theorem dX9_init_345 : decode cX9_init 345 = .ok (.iload_n 3, 1) := dk_29 (dk_at dksX9_init_14 14 rfl rfl)
theorem dX9_init_346 : decode cX9_init 346 = .ok (.iconst 1, 1) := dk_4 (dk_at dksX9_init_14 15 rfl rfl)
theorem dX9_init_347 : decode cX9_init 347 = .ok (.isub, 1) := dk_100 (dk_at dksX9_init_14 16 rfl rfl)
theorem dX9_init_348 : decode cX9_init 348 = .ok (.iaload, 1) := dk_46 (dk_at dksX9_init_14 17 rfl rfl)
theorem dX9_init_349 : decode cX9_init 349 = .ok (.bipush 83, 2) := dk_16 83 (dk_at dksX9_init_14 18 rfl rfl)
theorem dX9_init_351 : decode cX9_init 351 = .ok (.imul, 1) := dk_104 (dk_at dksX9_init_14 20 rfl rfl)
theorem dX9_init_352 : decode cX9_init 352 = .ok (.isub, 1) := dk_100 (dk_at dksX9_init_14 21 rfl rfl)
theorem dX9_init_353 : decode cX9_init 353 = .ok (.invokestatic 120, 3) := dk_184 0 120 (dk_at dksX9_init_15 0 rfl rfl)
theorem dX9_init_356 : decode cX9_init 356 = .ok (.iastore, 1) := dk_79 (dk_at dksX9_init_15 3 rfl rfl)
theorem dX9_init_357 : decode cX9_init 357 = .ok (.aload_n 0, 1) := dk_42 (dk_at dksX9_init_15 4 rfl rfl)
theorem dX9_init_358 : decode cX9_init 358 = .ok (.getfield 13, 3) := dk_180 0 13 (dk_at dksX9_init_15 5 rfl rfl)
theorem dX9_init_361 : decode cX9_init 361 = .ok (.iload_n 3, 1) := dk_29 (dk_at dksX9_init_15 8 rfl rfl)
theorem dX9_init_362 : decode cX9_init 362 = .ok (.aload_n 0, 1) := dk_42 (dk_at dksX9_init_15 9 rfl rfl)
theorem dX9_init_363 : decode cX9_init 363 = .ok (.getfield 13, 3) := dk_180 0 13 (dk_at dksX9_init_15 10 rfl rfl)
theorem dX9_init_366 : decode cX9_init 366 = .ok (.iload_n 3, 1) := dk_29 (dk_at dksX9_init_15 13 rfl rfl)
theorem dX9_init_367 : decode cX9_init 367 = .ok (.iconst 1, 1) := dk_4 (dk_at dksX9_init_15 14 rfl rfl)
theorem dX9_init_368 : decode cX9_init 368 = .ok (.isub, 1) := dk_100 (dk_at dksX9_init_15 15 rfl rfl)
theorem dX9_init_369 : decode cX9_init 369 = .ok (.iaload, 1) := dk_46 (dk_at dksX9_init_15 16 rfl rfl)
theorem dX9_init_370 : decode cX9_init 370 = .ok (.bipush 22, 2) := dk_16 22 (dk_at dksX9_init_15 17 rfl rfl)
theorem dX9_init_372 : decode cX9_init 372 = .ok (.imul, 1) := dk_104 (dk_at dksX9_init_15 19 rfl rfl)
theorem dX9_init_373 : decode cX9_init 373 = .ok (.aload_n 0, 1) := dk_42 (dk_at dksX9_init_15 20 rfl rfl)
theorem dX9_init_374 : decode cX9_init 374 = .ok (.getfield 7, 3) := dk_180 0 7 (dk_at dksX9_init_15 21 rfl rfl)
theorem dX9_init_377 : decode cX9_init 377 = .ok (.iload_n 3, 1) := dk_29 (dk_at dksX9_init_16 0 rfl rfl)
theorem dX9_init_378 : decode cX9_init 378 = .ok (.iconst 1, 1) := dk_4 (dk_at dksX9_init_16 1 rfl rfl)
theorem dX9_init_379 : decode cX9_init 379 = .ok (.isub, 1) := dk_100 (dk_at dksX9_init_16 2 rfl rfl)
theorem dX9_init_380 : decode cX9_init 380 = .ok (.iaload, 1) := dk_46 (dk_at dksX9_init_16 3 rfl rfl)
theorem dX9_init_381 : decode cX9_init 381 = .ok (.bipush 83, 2) := dk_16 83 (dk_at dksX9_init_16 4 rfl rfl)
theorem dX9_init_383 : decode cX9_init 383 = .ok (.imul, 1) := dk_104 (dk_at dksX9_init_16 6 rfl rfl)
theorem dX9_init_384 : decode cX9_init 384 = .ok (.iadd, 1) := dk_96 (dk_at dksX9_init_16 7 rfl rfl)
theorem dX9_init_385 : decode cX9_init 385 = .ok (.invokestatic 120, 3) := dk_184 0 120 (dk_at dksX9_init_16 8 rfl rfl)
theorem dX9_init_388 : decode cX9_init 388 = .ok (.iastore, 1) := dk_79 (dk_at dksX9_init_16 11 rfl rfl)
theorem dX9_init_389 : decode cX9_init 389 = .ok (.iinc 3 1, 3) := dk_132 3 1 (dk_at dksX9_init_16 12 rfl rfl)
theorem dX9_init_392 : decode cX9_init 392 = .ok (.goto (-73), 3) := dk_167 255 183 (dk_at dksX9_init_16 15 rfl rfl)
theorem dX9_init_395 : decode cX9_init 395 = .ok (.iconst 0, 1) := dk_3 (dk_at dksX9_init_16 18 rfl rfl)
theorem dX9_init_396 : decode cX9_init 396 = .ok (.istore_n 3, 1) := dk_62 (dk_at dksX9_init_16 19 rfl rfl)
theorem dX9_init_397 : decode cX9_init 397 = .ok (.iload_n 3, 1) := dk_29 (dk_at dksX9_init_16 20 rfl rfl)
theorem dX9_init_398 : decode cX9_init 398 = .ok (.bipush 72, 2) := dk_16 72 (dk_at dksX9_init_16 21 rfl rfl)
theorem dX9_init_400 : decode cX9_init 400 = .ok (.if_icmp .ge 23, 3) := dk_162 0 23 (dk_at dksX9_init_17 0 rfl rfl)
theorem dX9_init_403 : decode cX9_init 403 = .ok (.aload_n 0, 1) := dk_42 (dk_at dksX9_init_17 3 rfl rfl)
theorem dX9_init_404 : decode cX9_init 404 = .ok (.getfield 19, 3) := dk_180 0 19 (dk_at dksX9_init_17 4 rfl rfl)
theorem dX9_init_407 : decode cX9_init 407 = .ok (.iload_n 3, 1) := dk_29 (dk_at dksX9_init_17 7 rfl rfl)
theorem dX9_init_408 : decode cX9_init 408 = .ok (.iconst (-1), 1) := dk_2 (dk_at dksX9_init_17 8 rfl rfl)
theorem dX9_init_409 : decode cX9_init 409 = .ok (.iastore, 1) := dk_79 (dk_at dksX9_init_17 9 rfl rfl)
theorem dX9_init_410 : decode cX9_init 410 = .ok (.aload_n 0, 1) := dk_42 (dk_at dksX9_init_17 10 rfl rfl)
theorem dX9_init_411 : decode cX9_init 411 = .ok (.getfield 22, 3) := dk_180 0 22 (dk_at dksX9_init_17 11 rfl rfl)
theorem dX9_init_414 : decode cX9_init 414 = .ok (.iload_n 3, 1) := dk_29 (dk_at dksX9_init_17 14 rfl rfl)
theorem dX9_init_415 : decode cX9_init 415 = .ok (.iconst (-1), 1) := dk_2 (dk_at dksX9_init_17 15 rfl rfl)
theorem dX9_init_416 : decode cX9_init 416 = .ok (.iastore, 1) := dk_79 (dk_at dksX9_init_17 16 rfl rfl)
theorem dX9_init_417 : decode cX9_init 417 = .ok (.iinc 3 1, 3) := dk_132 3 1 (dk_at dksX9_init_17 17 rfl rfl)
theorem dX9_init_420 : decode cX9_init 420 = .ok (.goto (-23), 3) := dk_167 255 233 (dk_at dksX9_init_17 20 rfl rfl)
theorem dX9_init_423 : decode cX9_init 423 = .ok (.return_, 1) := dk_177 (dk_at dksX9_init_17 23 rfl rfl)
abbrev cX9_fit : ByteArray := prog_19_method_3_code
def yX9_fit : MethodName := ⟨RX9, "fit", "(I)I"⟩
def dkwX9_fit_0 : List UInt8 := [26, 16, 97, 112, 60, 27, 156, 0, 10, 27, 16, 97, 96, 167, 0, 4, 27, 172]
abbrev dktX9_fit_0 : List UInt8 := dkwX9_fit_0 ++ []
theorem dksX9_fit_0 : cX9_fit.data.toList.drop 0 = dktX9_fit_0 := by decide +kernel
theorem dX9_fit_0 : decode cX9_fit 0 = .ok (.iload_n 0, 1) := dk_26 (dk_at dksX9_fit_0 0 rfl rfl)
theorem dX9_fit_1 : decode cX9_fit 1 = .ok (.bipush 97, 2) := dk_16 97 (dk_at dksX9_fit_0 1 rfl rfl)
theorem dX9_fit_3 : decode cX9_fit 3 = .ok (.irem, 1) := dk_112 (dk_at dksX9_fit_0 3 rfl rfl)
theorem dX9_fit_4 : decode cX9_fit 4 = .ok (.istore_n 1, 1) := dk_60 (dk_at dksX9_fit_0 4 rfl rfl)
theorem dX9_fit_5 : decode cX9_fit 5 = .ok (.iload_n 1, 1) := dk_27 (dk_at dksX9_fit_0 5 rfl rfl)
theorem dX9_fit_6 : decode cX9_fit 6 = .ok (.ifCond .ge 10, 3) := dk_156 0 10 (dk_at dksX9_fit_0 6 rfl rfl)
theorem dX9_fit_9 : decode cX9_fit 9 = .ok (.iload_n 1, 1) := dk_27 (dk_at dksX9_fit_0 9 rfl rfl)
theorem dX9_fit_10 : decode cX9_fit 10 = .ok (.bipush 97, 2) := dk_16 97 (dk_at dksX9_fit_0 10 rfl rfl)
theorem dX9_fit_12 : decode cX9_fit 12 = .ok (.iadd, 1) := dk_96 (dk_at dksX9_fit_0 12 rfl rfl)
theorem dX9_fit_13 : decode cX9_fit 13 = .ok (.goto 4, 3) := dk_167 0 4 (dk_at dksX9_fit_0 13 rfl rfl)
theorem dX9_fit_16 : decode cX9_fit 16 = .ok (.iload_n 1, 1) := dk_27 (dk_at dksX9_fit_0 16 rfl rfl)
theorem dX9_fit_17 : decode cX9_fit 17 = .ok (.ireturn, 1) := dk_172 (dk_at dksX9_fit_0 17 rfl rfl)
abbrev cX9_turn : ByteArray := prog_19_method_7_code
def yX9_turn : MethodName := ⟨RX9, "turn", "(II)I"⟩
def dkwX9_turn_1 : List UInt8 := [180, 0, 13, 27, 184, 0, 130, 46, 167, 0, 4, 2, 172]
abbrev dktX9_turn_1 : List UInt8 := dkwX9_turn_1 ++ []
def dkwX9_turn_0 : List UInt8 := [28, 154, 0, 15, 42, 180, 0, 7, 27, 184, 0, 130, 46, 167, 0, 21, 28, 4, 160, 0, 15, 42]
abbrev dktX9_turn_0 : List UInt8 := dkwX9_turn_0 ++ dktX9_turn_1
theorem dksX9_turn_0 : cX9_turn.data.toList.drop 0 = dktX9_turn_0 := by decide +kernel
theorem dksX9_turn_1 : cX9_turn.data.toList.drop 22 = dktX9_turn_1 := dk_seg dksX9_turn_0 22 rfl rfl
theorem dX9_turn_0 : decode cX9_turn 0 = .ok (.iload_n 2, 1) := dk_28 (dk_at dksX9_turn_0 0 rfl rfl)
theorem dX9_turn_1 : decode cX9_turn 1 = .ok (.ifCond .ne 15, 3) := dk_154 0 15 (dk_at dksX9_turn_0 1 rfl rfl)
theorem dX9_turn_4 : decode cX9_turn 4 = .ok (.aload_n 0, 1) := dk_42 (dk_at dksX9_turn_0 4 rfl rfl)
theorem dX9_turn_5 : decode cX9_turn 5 = .ok (.getfield 7, 3) := dk_180 0 7 (dk_at dksX9_turn_0 5 rfl rfl)
theorem dX9_turn_8 : decode cX9_turn 8 = .ok (.iload_n 1, 1) := dk_27 (dk_at dksX9_turn_0 8 rfl rfl)
theorem dX9_turn_9 : decode cX9_turn 9 = .ok (.invokestatic 130, 3) := dk_184 0 130 (dk_at dksX9_turn_0 9 rfl rfl)
theorem dX9_turn_12 : decode cX9_turn 12 = .ok (.iaload, 1) := dk_46 (dk_at dksX9_turn_0 12 rfl rfl)
theorem dX9_turn_13 : decode cX9_turn 13 = .ok (.goto 21, 3) := dk_167 0 21 (dk_at dksX9_turn_0 13 rfl rfl)
theorem dX9_turn_16 : decode cX9_turn 16 = .ok (.iload_n 2, 1) := dk_28 (dk_at dksX9_turn_0 16 rfl rfl)
theorem dX9_turn_17 : decode cX9_turn 17 = .ok (.iconst 1, 1) := dk_4 (dk_at dksX9_turn_0 17 rfl rfl)
theorem dX9_turn_18 : decode cX9_turn 18 = .ok (.if_icmp .ne 15, 3) := dk_160 0 15 (dk_at dksX9_turn_0 18 rfl rfl)
theorem dX9_turn_21 : decode cX9_turn 21 = .ok (.aload_n 0, 1) := dk_42 (dk_at dksX9_turn_0 21 rfl rfl)
theorem dX9_turn_22 : decode cX9_turn 22 = .ok (.getfield 13, 3) := dk_180 0 13 (dk_at dksX9_turn_1 0 rfl rfl)
theorem dX9_turn_25 : decode cX9_turn 25 = .ok (.iload_n 1, 1) := dk_27 (dk_at dksX9_turn_1 3 rfl rfl)
theorem dX9_turn_26 : decode cX9_turn 26 = .ok (.invokestatic 130, 3) := dk_184 0 130 (dk_at dksX9_turn_1 4 rfl rfl)
theorem dX9_turn_29 : decode cX9_turn 29 = .ok (.iaload, 1) := dk_46 (dk_at dksX9_turn_1 7 rfl rfl)
theorem dX9_turn_30 : decode cX9_turn 30 = .ok (.goto 4, 3) := dk_167 0 4 (dk_at dksX9_turn_1 8 rfl rfl)
theorem dX9_turn_33 : decode cX9_turn 33 = .ok (.iconst (-1), 1) := dk_2 (dk_at dksX9_turn_1 11 rfl rfl)
theorem dX9_turn_34 : decode cX9_turn 34 = .ok (.ireturn, 1) := dk_172 (dk_at dksX9_turn_1 12 rfl rfl)
abbrev cX9_fitTurn : ByteArray := prog_19_method_4_code
def yX9_fitTurn : MethodName := ⟨RX9, "fitTurn", "(I)I"⟩
def dkwX9_fitTurn_0 : List UInt8 := [26, 16, 96, 112, 60, 27, 156, 0, 10, 27, 16, 96, 96, 167, 0, 4, 27, 172]
abbrev dktX9_fitTurn_0 : List UInt8 := dkwX9_fitTurn_0 ++ []
theorem dksX9_fitTurn_0 : cX9_fitTurn.data.toList.drop 0 = dktX9_fitTurn_0 := by decide +kernel
theorem dX9_fitTurn_0 : decode cX9_fitTurn 0 = .ok (.iload_n 0, 1) := dk_26 (dk_at dksX9_fitTurn_0 0 rfl rfl)
theorem dX9_fitTurn_1 : decode cX9_fitTurn 1 = .ok (.bipush 96, 2) := dk_16 96 (dk_at dksX9_fitTurn_0 1 rfl rfl)
theorem dX9_fitTurn_3 : decode cX9_fitTurn 3 = .ok (.irem, 1) := dk_112 (dk_at dksX9_fitTurn_0 3 rfl rfl)
theorem dX9_fitTurn_4 : decode cX9_fitTurn 4 = .ok (.istore_n 1, 1) := dk_60 (dk_at dksX9_fitTurn_0 4 rfl rfl)
theorem dX9_fitTurn_5 : decode cX9_fitTurn 5 = .ok (.iload_n 1, 1) := dk_27 (dk_at dksX9_fitTurn_0 5 rfl rfl)
theorem dX9_fitTurn_6 : decode cX9_fitTurn 6 = .ok (.ifCond .ge 10, 3) := dk_156 0 10 (dk_at dksX9_fitTurn_0 6 rfl rfl)
theorem dX9_fitTurn_9 : decode cX9_fitTurn 9 = .ok (.iload_n 1, 1) := dk_27 (dk_at dksX9_fitTurn_0 9 rfl rfl)
theorem dX9_fitTurn_10 : decode cX9_fitTurn 10 = .ok (.bipush 96, 2) := dk_16 96 (dk_at dksX9_fitTurn_0 10 rfl rfl)
theorem dX9_fitTurn_12 : decode cX9_fitTurn 12 = .ok (.iadd, 1) := dk_96 (dk_at dksX9_fitTurn_0 12 rfl rfl)
theorem dX9_fitTurn_13 : decode cX9_fitTurn 13 = .ok (.goto 4, 3) := dk_167 0 4 (dk_at dksX9_fitTurn_0 13 rfl rfl)
theorem dX9_fitTurn_16 : decode cX9_fitTurn 16 = .ok (.iload_n 1, 1) := dk_27 (dk_at dksX9_fitTurn_0 16 rfl rfl)
theorem dX9_fitTurn_17 : decode cX9_fitTurn 17 = .ok (.ireturn, 1) := dk_172 (dk_at dksX9_fitTurn_0 17 rfl rfl)
abbrev cX9_set : ByteArray := prog_19_method_8_code
def yX9_set : MethodName := ⟨RX9, "set", "(III)I"⟩
def dkwX9_set_3 : List UInt8 := [181, 0, 139, 21, 4, 172]
abbrev dktX9_set_3 : List UInt8 := dkwX9_set_3 ++ []
def dkwX9_set_2 : List UInt8 := [96, 46, 54, 4, 42, 180, 0, 16, 16, 6, 27, 104, 28, 96, 29, 79, 42, 89, 180, 0, 139, 4, 96]
abbrev dktX9_set_2 : List UInt8 := dkwX9_set_2 ++ dktX9_set_3
def dkwX9_set_1 : List UInt8 := [16, 254, 172, 42, 180, 0, 139, 16, 60, 160, 0, 6, 16, 252, 172, 42, 180, 0, 16, 16, 6, 27, 104, 28]
abbrev dktX9_set_1 : List UInt8 := dkwX9_set_1 ++ dktX9_set_2
def dkwX9_set_0 : List UInt8 := [42, 27, 28, 182, 0, 133, 154, 0, 5, 2, 172, 29, 133, 9, 20, 0, 137, 184, 0, 126, 154, 0, 6]
abbrev dktX9_set_0 : List UInt8 := dkwX9_set_0 ++ dktX9_set_1
theorem dksX9_set_0 : cX9_set.data.toList.drop 0 = dktX9_set_0 := by decide +kernel
theorem dksX9_set_1 : cX9_set.data.toList.drop 23 = dktX9_set_1 := dk_seg dksX9_set_0 23 rfl rfl
theorem dksX9_set_2 : cX9_set.data.toList.drop 47 = dktX9_set_2 := dk_seg dksX9_set_1 24 rfl rfl
theorem dksX9_set_3 : cX9_set.data.toList.drop 70 = dktX9_set_3 := dk_seg dksX9_set_2 23 rfl rfl
theorem dX9_set_0 : decode cX9_set 0 = .ok (.aload_n 0, 1) := dk_42 (dk_at dksX9_set_0 0 rfl rfl)
theorem dX9_set_1 : decode cX9_set 1 = .ok (.iload_n 1, 1) := dk_27 (dk_at dksX9_set_0 1 rfl rfl)
theorem dX9_set_2 : decode cX9_set 2 = .ok (.iload_n 2, 1) := dk_28 (dk_at dksX9_set_0 2 rfl rfl)
theorem dX9_set_3 : decode cX9_set 3 = .ok (.invokevirtual 133, 3) := dk_182 0 133 (dk_at dksX9_set_0 3 rfl rfl)
theorem dX9_set_6 : decode cX9_set 6 = .ok (.ifCond .ne 5, 3) := dk_154 0 5 (dk_at dksX9_set_0 6 rfl rfl)
theorem dX9_set_9 : decode cX9_set 9 = .ok (.iconst (-1), 1) := dk_2 (dk_at dksX9_set_0 9 rfl rfl)
theorem dX9_set_10 : decode cX9_set 10 = .ok (.ireturn, 1) := dk_172 (dk_at dksX9_set_0 10 rfl rfl)
theorem dX9_set_11 : decode cX9_set 11 = .ok (.iload_n 3, 1) := dk_29 (dk_at dksX9_set_0 11 rfl rfl)
theorem dX9_set_12 : decode cX9_set 12 = .ok (.i2l, 1) := dk_133 (dk_at dksX9_set_0 12 rfl rfl)
theorem dX9_set_13 : decode cX9_set 13 = .ok (.lconst 0, 1) := dk_9 (dk_at dksX9_set_0 13 rfl rfl)
theorem dX9_set_14 : decode cX9_set 14 = .ok (.ldc2_w 137, 3) := dk_20 0 137 (dk_at dksX9_set_0 14 rfl rfl)
theorem dX9_set_17 : decode cX9_set 17 = .ok (.invokestatic 126, 3) := dk_184 0 126 (dk_at dksX9_set_0 17 rfl rfl)
theorem dX9_set_20 : decode cX9_set 20 = .ok (.ifCond .ne 6, 3) := dk_154 0 6 (dk_at dksX9_set_0 20 rfl rfl)
theorem dX9_set_23 : decode cX9_set 23 = .ok (.bipush (-2), 2) := dk_16 254 (dk_at dksX9_set_1 0 rfl rfl)
theorem dX9_set_25 : decode cX9_set 25 = .ok (.ireturn, 1) := dk_172 (dk_at dksX9_set_1 2 rfl rfl)
theorem dX9_set_26 : decode cX9_set 26 = .ok (.aload_n 0, 1) := dk_42 (dk_at dksX9_set_1 3 rfl rfl)
theorem dX9_set_27 : decode cX9_set 27 = .ok (.getfield 139, 3) := dk_180 0 139 (dk_at dksX9_set_1 4 rfl rfl)
theorem dX9_set_30 : decode cX9_set 30 = .ok (.bipush 60, 2) := dk_16 60 (dk_at dksX9_set_1 7 rfl rfl)
theorem dX9_set_32 : decode cX9_set 32 = .ok (.if_icmp .ne 6, 3) := dk_160 0 6 (dk_at dksX9_set_1 9 rfl rfl)
theorem dX9_set_35 : decode cX9_set 35 = .ok (.bipush (-4), 2) := dk_16 252 (dk_at dksX9_set_1 12 rfl rfl)
theorem dX9_set_37 : decode cX9_set 37 = .ok (.ireturn, 1) := dk_172 (dk_at dksX9_set_1 14 rfl rfl)
theorem dX9_set_38 : decode cX9_set 38 = .ok (.aload_n 0, 1) := dk_42 (dk_at dksX9_set_1 15 rfl rfl)
theorem dX9_set_39 : decode cX9_set 39 = .ok (.getfield 16, 3) := dk_180 0 16 (dk_at dksX9_set_1 16 rfl rfl)
theorem dX9_set_42 : decode cX9_set 42 = .ok (.bipush 6, 2) := dk_16 6 (dk_at dksX9_set_1 19 rfl rfl)
theorem dX9_set_44 : decode cX9_set 44 = .ok (.iload_n 1, 1) := dk_27 (dk_at dksX9_set_1 21 rfl rfl)
theorem dX9_set_45 : decode cX9_set 45 = .ok (.imul, 1) := dk_104 (dk_at dksX9_set_1 22 rfl rfl)
theorem dX9_set_46 : decode cX9_set 46 = .ok (.iload_n 2, 1) := dk_28 (dk_at dksX9_set_1 23 rfl rfl)
theorem dX9_set_47 : decode cX9_set 47 = .ok (.iadd, 1) := dk_96 (dk_at dksX9_set_2 0 rfl rfl)
theorem dX9_set_48 : decode cX9_set 48 = .ok (.iaload, 1) := dk_46 (dk_at dksX9_set_2 1 rfl rfl)
theorem dX9_set_49 : decode cX9_set 49 = .ok (.istore 4, 2) := dk_54 4 (dk_at dksX9_set_2 2 rfl rfl)
theorem dX9_set_51 : decode cX9_set 51 = .ok (.aload_n 0, 1) := dk_42 (dk_at dksX9_set_2 4 rfl rfl)
theorem dX9_set_52 : decode cX9_set 52 = .ok (.getfield 16, 3) := dk_180 0 16 (dk_at dksX9_set_2 5 rfl rfl)
theorem dX9_set_55 : decode cX9_set 55 = .ok (.bipush 6, 2) := dk_16 6 (dk_at dksX9_set_2 8 rfl rfl)
theorem dX9_set_57 : decode cX9_set 57 = .ok (.iload_n 1, 1) := dk_27 (dk_at dksX9_set_2 10 rfl rfl)
theorem dX9_set_58 : decode cX9_set 58 = .ok (.imul, 1) := dk_104 (dk_at dksX9_set_2 11 rfl rfl)
theorem dX9_set_59 : decode cX9_set 59 = .ok (.iload_n 2, 1) := dk_28 (dk_at dksX9_set_2 12 rfl rfl)
theorem dX9_set_60 : decode cX9_set 60 = .ok (.iadd, 1) := dk_96 (dk_at dksX9_set_2 13 rfl rfl)
theorem dX9_set_61 : decode cX9_set 61 = .ok (.iload_n 3, 1) := dk_29 (dk_at dksX9_set_2 14 rfl rfl)
theorem dX9_set_62 : decode cX9_set 62 = .ok (.iastore, 1) := dk_79 (dk_at dksX9_set_2 15 rfl rfl)
theorem dX9_set_63 : decode cX9_set 63 = .ok (.aload_n 0, 1) := dk_42 (dk_at dksX9_set_2 16 rfl rfl)
theorem dX9_set_64 : decode cX9_set 64 = .ok (.dup, 1) := dk_89 (dk_at dksX9_set_2 17 rfl rfl)
theorem dX9_set_65 : decode cX9_set 65 = .ok (.getfield 139, 3) := dk_180 0 139 (dk_at dksX9_set_2 18 rfl rfl)
theorem dX9_set_68 : decode cX9_set 68 = .ok (.iconst 1, 1) := dk_4 (dk_at dksX9_set_2 21 rfl rfl)
theorem dX9_set_69 : decode cX9_set 69 = .ok (.iadd, 1) := dk_96 (dk_at dksX9_set_2 22 rfl rfl)
theorem dX9_set_70 : decode cX9_set 70 = .ok (.putfield 139, 3) := dk_181 0 139 (dk_at dksX9_set_3 0 rfl rfl)
theorem dX9_set_73 : decode cX9_set 73 = .ok (.iload 4, 2) := dk_21 4 (dk_at dksX9_set_3 3 rfl rfl)
theorem dX9_set_75 : decode cX9_set 75 = .ok (.ireturn, 1) := dk_172 (dk_at dksX9_set_3 5 rfl rfl)
abbrev cX9_isCell : ByteArray := prog_19_method_6_code
def yX9_isCell : MethodName := ⟨RX9, "isCell", "(II)Z"⟩
def dkwX9_isCell_1 : List UInt8 := [184, 0, 126, 153, 0, 16, 28, 5, 112, 27, 5, 112, 160, 0, 7, 4, 167, 0, 4, 3, 172]
abbrev dktX9_isCell_1 : List UInt8 := dkwX9_isCell_1 ++ []
def dkwX9_isCell_0 : List UInt8 := [27, 133, 9, 20, 0, 124, 184, 0, 126, 153, 0, 32, 28, 133, 9, 42, 180, 0, 117, 5, 100, 133]
abbrev dktX9_isCell_0 : List UInt8 := dkwX9_isCell_0 ++ dktX9_isCell_1
theorem dksX9_isCell_0 : cX9_isCell.data.toList.drop 0 = dktX9_isCell_0 := by decide +kernel
theorem dksX9_isCell_1 : cX9_isCell.data.toList.drop 22 = dktX9_isCell_1 := dk_seg dksX9_isCell_0 22 rfl rfl
theorem dX9_isCell_0 : decode cX9_isCell 0 = .ok (.iload_n 1, 1) := dk_27 (dk_at dksX9_isCell_0 0 rfl rfl)
theorem dX9_isCell_1 : decode cX9_isCell 1 = .ok (.i2l, 1) := dk_133 (dk_at dksX9_isCell_0 1 rfl rfl)
theorem dX9_isCell_2 : decode cX9_isCell 2 = .ok (.lconst 0, 1) := dk_9 (dk_at dksX9_isCell_0 2 rfl rfl)
theorem dX9_isCell_3 : decode cX9_isCell 3 = .ok (.ldc2_w 124, 3) := dk_20 0 124 (dk_at dksX9_isCell_0 3 rfl rfl)
theorem dX9_isCell_6 : decode cX9_isCell 6 = .ok (.invokestatic 126, 3) := dk_184 0 126 (dk_at dksX9_isCell_0 6 rfl rfl)
theorem dX9_isCell_9 : decode cX9_isCell 9 = .ok (.ifCond .eq 32, 3) := dk_153 0 32 (dk_at dksX9_isCell_0 9 rfl rfl)
theorem dX9_isCell_12 : decode cX9_isCell 12 = .ok (.iload_n 2, 1) := dk_28 (dk_at dksX9_isCell_0 12 rfl rfl)
theorem dX9_isCell_13 : decode cX9_isCell 13 = .ok (.i2l, 1) := dk_133 (dk_at dksX9_isCell_0 13 rfl rfl)
theorem dX9_isCell_14 : decode cX9_isCell 14 = .ok (.lconst 0, 1) := dk_9 (dk_at dksX9_isCell_0 14 rfl rfl)
theorem dX9_isCell_15 : decode cX9_isCell 15 = .ok (.aload_n 0, 1) := dk_42 (dk_at dksX9_isCell_0 15 rfl rfl)
theorem dX9_isCell_16 : decode cX9_isCell 16 = .ok (.getfield 117, 3) := dk_180 0 117 (dk_at dksX9_isCell_0 16 rfl rfl)
theorem dX9_isCell_19 : decode cX9_isCell 19 = .ok (.iconst 2, 1) := dk_5 (dk_at dksX9_isCell_0 19 rfl rfl)
theorem dX9_isCell_20 : decode cX9_isCell 20 = .ok (.isub, 1) := dk_100 (dk_at dksX9_isCell_0 20 rfl rfl)
theorem dX9_isCell_21 : decode cX9_isCell 21 = .ok (.i2l, 1) := dk_133 (dk_at dksX9_isCell_0 21 rfl rfl)
theorem dX9_isCell_22 : decode cX9_isCell 22 = .ok (.invokestatic 126, 3) := dk_184 0 126 (dk_at dksX9_isCell_1 0 rfl rfl)
theorem dX9_isCell_25 : decode cX9_isCell 25 = .ok (.ifCond .eq 16, 3) := dk_153 0 16 (dk_at dksX9_isCell_1 3 rfl rfl)
theorem dX9_isCell_28 : decode cX9_isCell 28 = .ok (.iload_n 2, 1) := dk_28 (dk_at dksX9_isCell_1 6 rfl rfl)
theorem dX9_isCell_29 : decode cX9_isCell 29 = .ok (.iconst 2, 1) := dk_5 (dk_at dksX9_isCell_1 7 rfl rfl)
theorem dX9_isCell_30 : decode cX9_isCell 30 = .ok (.irem, 1) := dk_112 (dk_at dksX9_isCell_1 8 rfl rfl)
theorem dX9_isCell_31 : decode cX9_isCell 31 = .ok (.iload_n 1, 1) := dk_27 (dk_at dksX9_isCell_1 9 rfl rfl)
theorem dX9_isCell_32 : decode cX9_isCell 32 = .ok (.iconst 2, 1) := dk_5 (dk_at dksX9_isCell_1 10 rfl rfl)
theorem dX9_isCell_33 : decode cX9_isCell 33 = .ok (.irem, 1) := dk_112 (dk_at dksX9_isCell_1 11 rfl rfl)
theorem dX9_isCell_34 : decode cX9_isCell 34 = .ok (.if_icmp .ne 7, 3) := dk_160 0 7 (dk_at dksX9_isCell_1 12 rfl rfl)
theorem dX9_isCell_37 : decode cX9_isCell 37 = .ok (.iconst 1, 1) := dk_4 (dk_at dksX9_isCell_1 15 rfl rfl)
theorem dX9_isCell_38 : decode cX9_isCell 38 = .ok (.goto 4, 3) := dk_167 0 4 (dk_at dksX9_isCell_1 16 rfl rfl)
theorem dX9_isCell_41 : decode cX9_isCell 41 = .ok (.iconst 0, 1) := dk_3 (dk_at dksX9_isCell_1 19 rfl rfl)
theorem dX9_isCell_42 : decode cX9_isCell 42 = .ok (.ireturn, 1) := dk_172 (dk_at dksX9_isCell_1 20 rfl rfl)
abbrev cX9_isIn : ByteArray := prog_19_method_2_code
def yX9_isIn : MethodName := ⟨RX9, "isIn", "(JJJ)Z"⟩
def dkwX9_isIn_0 : List UInt8 := [30, 32, 148, 155, 0, 14, 30, 22, 4, 148, 157, 0, 7, 4, 167, 0, 4, 3, 172]
abbrev dktX9_isIn_0 : List UInt8 := dkwX9_isIn_0 ++ []
theorem dksX9_isIn_0 : cX9_isIn.data.toList.drop 0 = dktX9_isIn_0 := by decide +kernel
theorem dX9_isIn_0 : decode cX9_isIn 0 = .ok (.lload_n 0, 1) := dk_30 (dk_at dksX9_isIn_0 0 rfl rfl)
theorem dX9_isIn_1 : decode cX9_isIn 1 = .ok (.lload_n 2, 1) := dk_32 (dk_at dksX9_isIn_0 1 rfl rfl)
theorem dX9_isIn_2 : decode cX9_isIn 2 = .ok (.lcmp, 1) := dk_148 (dk_at dksX9_isIn_0 2 rfl rfl)
theorem dX9_isIn_3 : decode cX9_isIn 3 = .ok (.ifCond .lt 14, 3) := dk_155 0 14 (dk_at dksX9_isIn_0 3 rfl rfl)
theorem dX9_isIn_6 : decode cX9_isIn 6 = .ok (.lload_n 0, 1) := dk_30 (dk_at dksX9_isIn_0 6 rfl rfl)
theorem dX9_isIn_7 : decode cX9_isIn 7 = .ok (.lload 4, 2) := dk_22 4 (dk_at dksX9_isIn_0 7 rfl rfl)
theorem dX9_isIn_9 : decode cX9_isIn 9 = .ok (.lcmp, 1) := dk_148 (dk_at dksX9_isIn_0 9 rfl rfl)
theorem dX9_isIn_10 : decode cX9_isIn 10 = .ok (.ifCond .gt 7, 3) := dk_157 0 7 (dk_at dksX9_isIn_0 10 rfl rfl)
theorem dX9_isIn_13 : decode cX9_isIn 13 = .ok (.iconst 1, 1) := dk_4 (dk_at dksX9_isIn_0 13 rfl rfl)
theorem dX9_isIn_14 : decode cX9_isIn 14 = .ok (.goto 4, 3) := dk_167 0 4 (dk_at dksX9_isIn_0 14 rfl rfl)
theorem dX9_isIn_17 : decode cX9_isIn 17 = .ok (.iconst 0, 1) := dk_3 (dk_at dksX9_isIn_0 17 rfl rfl)
theorem dX9_isIn_18 : decode cX9_isIn 18 = .ok (.ireturn, 1) := dk_172 (dk_at dksX9_isIn_0 18 rfl rfl)
abbrev cX9_dies : ByteArray := prog_19_method_9_code
def yX9_dies : MethodName := ⟨RX9, "dies", "(III)I"⟩
def dkwX9_dies_2 : List UInt8 := [42, 180, 0, 19, 16, 6, 27, 104, 28, 96, 29, 79, 21, 4, 172]
abbrev dktX9_dies_2 : List UInt8 := dkwX9_dies_2 ++ []
def dkwX9_dies_1 : List UInt8 := [16, 254, 172, 42, 180, 0, 19, 16, 6, 27, 104, 28, 96, 46, 156, 0, 7, 4, 167, 0, 4, 3, 54, 4]
abbrev dktX9_dies_1 : List UInt8 := dkwX9_dies_1 ++ dktX9_dies_2
def dkwX9_dies_0 : List UInt8 := [42, 27, 28, 182, 0, 133, 154, 0, 5, 2, 172, 29, 133, 9, 20, 0, 137, 184, 0, 126, 154, 0, 6]
abbrev dktX9_dies_0 : List UInt8 := dkwX9_dies_0 ++ dktX9_dies_1
theorem dksX9_dies_0 : cX9_dies.data.toList.drop 0 = dktX9_dies_0 := by decide +kernel
theorem dksX9_dies_1 : cX9_dies.data.toList.drop 23 = dktX9_dies_1 := dk_seg dksX9_dies_0 23 rfl rfl
theorem dksX9_dies_2 : cX9_dies.data.toList.drop 47 = dktX9_dies_2 := dk_seg dksX9_dies_1 24 rfl rfl
theorem dX9_dies_0 : decode cX9_dies 0 = .ok (.aload_n 0, 1) := dk_42 (dk_at dksX9_dies_0 0 rfl rfl)
theorem dX9_dies_1 : decode cX9_dies 1 = .ok (.iload_n 1, 1) := dk_27 (dk_at dksX9_dies_0 1 rfl rfl)
theorem dX9_dies_2 : decode cX9_dies 2 = .ok (.iload_n 2, 1) := dk_28 (dk_at dksX9_dies_0 2 rfl rfl)
theorem dX9_dies_3 : decode cX9_dies 3 = .ok (.invokevirtual 133, 3) := dk_182 0 133 (dk_at dksX9_dies_0 3 rfl rfl)
theorem dX9_dies_6 : decode cX9_dies 6 = .ok (.ifCond .ne 5, 3) := dk_154 0 5 (dk_at dksX9_dies_0 6 rfl rfl)
theorem dX9_dies_9 : decode cX9_dies 9 = .ok (.iconst (-1), 1) := dk_2 (dk_at dksX9_dies_0 9 rfl rfl)
theorem dX9_dies_10 : decode cX9_dies 10 = .ok (.ireturn, 1) := dk_172 (dk_at dksX9_dies_0 10 rfl rfl)
theorem dX9_dies_11 : decode cX9_dies 11 = .ok (.iload_n 3, 1) := dk_29 (dk_at dksX9_dies_0 11 rfl rfl)
theorem dX9_dies_12 : decode cX9_dies 12 = .ok (.i2l, 1) := dk_133 (dk_at dksX9_dies_0 12 rfl rfl)
theorem dX9_dies_13 : decode cX9_dies 13 = .ok (.lconst 0, 1) := dk_9 (dk_at dksX9_dies_0 13 rfl rfl)
theorem dX9_dies_14 : decode cX9_dies 14 = .ok (.ldc2_w 137, 3) := dk_20 0 137 (dk_at dksX9_dies_0 14 rfl rfl)
theorem dX9_dies_17 : decode cX9_dies 17 = .ok (.invokestatic 126, 3) := dk_184 0 126 (dk_at dksX9_dies_0 17 rfl rfl)
theorem dX9_dies_20 : decode cX9_dies 20 = .ok (.ifCond .ne 6, 3) := dk_154 0 6 (dk_at dksX9_dies_0 20 rfl rfl)
theorem dX9_dies_23 : decode cX9_dies 23 = .ok (.bipush (-2), 2) := dk_16 254 (dk_at dksX9_dies_1 0 rfl rfl)
theorem dX9_dies_25 : decode cX9_dies 25 = .ok (.ireturn, 1) := dk_172 (dk_at dksX9_dies_1 2 rfl rfl)
theorem dX9_dies_26 : decode cX9_dies 26 = .ok (.aload_n 0, 1) := dk_42 (dk_at dksX9_dies_1 3 rfl rfl)
theorem dX9_dies_27 : decode cX9_dies 27 = .ok (.getfield 19, 3) := dk_180 0 19 (dk_at dksX9_dies_1 4 rfl rfl)
theorem dX9_dies_30 : decode cX9_dies 30 = .ok (.bipush 6, 2) := dk_16 6 (dk_at dksX9_dies_1 7 rfl rfl)
theorem dX9_dies_32 : decode cX9_dies 32 = .ok (.iload_n 1, 1) := dk_27 (dk_at dksX9_dies_1 9 rfl rfl)
theorem dX9_dies_33 : decode cX9_dies 33 = .ok (.imul, 1) := dk_104 (dk_at dksX9_dies_1 10 rfl rfl)
theorem dX9_dies_34 : decode cX9_dies 34 = .ok (.iload_n 2, 1) := dk_28 (dk_at dksX9_dies_1 11 rfl rfl)
theorem dX9_dies_35 : decode cX9_dies 35 = .ok (.iadd, 1) := dk_96 (dk_at dksX9_dies_1 12 rfl rfl)
theorem dX9_dies_36 : decode cX9_dies 36 = .ok (.iaload, 1) := dk_46 (dk_at dksX9_dies_1 13 rfl rfl)
theorem dX9_dies_37 : decode cX9_dies 37 = .ok (.ifCond .ge 7, 3) := dk_156 0 7 (dk_at dksX9_dies_1 14 rfl rfl)
theorem dX9_dies_40 : decode cX9_dies 40 = .ok (.iconst 1, 1) := dk_4 (dk_at dksX9_dies_1 17 rfl rfl)
theorem dX9_dies_41 : decode cX9_dies 41 = .ok (.goto 4, 3) := dk_167 0 4 (dk_at dksX9_dies_1 18 rfl rfl)
theorem dX9_dies_44 : decode cX9_dies 44 = .ok (.iconst 0, 1) := dk_3 (dk_at dksX9_dies_1 21 rfl rfl)
theorem dX9_dies_45 : decode cX9_dies 45 = .ok (.istore 4, 2) := dk_54 4 (dk_at dksX9_dies_1 22 rfl rfl)
theorem dX9_dies_47 : decode cX9_dies 47 = .ok (.aload_n 0, 1) := dk_42 (dk_at dksX9_dies_2 0 rfl rfl)
theorem dX9_dies_48 : decode cX9_dies 48 = .ok (.getfield 19, 3) := dk_180 0 19 (dk_at dksX9_dies_2 1 rfl rfl)
theorem dX9_dies_51 : decode cX9_dies 51 = .ok (.bipush 6, 2) := dk_16 6 (dk_at dksX9_dies_2 4 rfl rfl)
theorem dX9_dies_53 : decode cX9_dies 53 = .ok (.iload_n 1, 1) := dk_27 (dk_at dksX9_dies_2 6 rfl rfl)
theorem dX9_dies_54 : decode cX9_dies 54 = .ok (.imul, 1) := dk_104 (dk_at dksX9_dies_2 7 rfl rfl)
theorem dX9_dies_55 : decode cX9_dies 55 = .ok (.iload_n 2, 1) := dk_28 (dk_at dksX9_dies_2 8 rfl rfl)
theorem dX9_dies_56 : decode cX9_dies 56 = .ok (.iadd, 1) := dk_96 (dk_at dksX9_dies_2 9 rfl rfl)
theorem dX9_dies_57 : decode cX9_dies 57 = .ok (.iload_n 3, 1) := dk_29 (dk_at dksX9_dies_2 10 rfl rfl)
theorem dX9_dies_58 : decode cX9_dies 58 = .ok (.iastore, 1) := dk_79 (dk_at dksX9_dies_2 11 rfl rfl)
theorem dX9_dies_59 : decode cX9_dies 59 = .ok (.iload 4, 2) := dk_21 4 (dk_at dksX9_dies_2 12 rfl rfl)
theorem dX9_dies_61 : decode cX9_dies 61 = .ok (.ireturn, 1) := dk_172 (dk_at dksX9_dies_2 14 rfl rfl)
abbrev cX9_mend : ByteArray := prog_19_method_10_code
def yX9_mend : MethodName := ⟨RX9, "mend", "(II)I"⟩
def dkwX9_mend_1 : List UInt8 := [156, 0, 6, 16, 253, 172, 42, 180, 0, 19, 16, 6, 27, 104, 28, 96, 2, 79, 29, 172]
abbrev dktX9_mend_1 : List UInt8 := dkwX9_mend_1 ++ []
def dkwX9_mend_0 : List UInt8 := [42, 27, 28, 182, 0, 133, 154, 0, 5, 2, 172, 42, 180, 0, 19, 16, 6, 27, 104, 28, 96, 46, 62, 29]
abbrev dktX9_mend_0 : List UInt8 := dkwX9_mend_0 ++ dktX9_mend_1
theorem dksX9_mend_0 : cX9_mend.data.toList.drop 0 = dktX9_mend_0 := by decide +kernel
theorem dksX9_mend_1 : cX9_mend.data.toList.drop 24 = dktX9_mend_1 := dk_seg dksX9_mend_0 24 rfl rfl
theorem dX9_mend_0 : decode cX9_mend 0 = .ok (.aload_n 0, 1) := dk_42 (dk_at dksX9_mend_0 0 rfl rfl)
theorem dX9_mend_1 : decode cX9_mend 1 = .ok (.iload_n 1, 1) := dk_27 (dk_at dksX9_mend_0 1 rfl rfl)
theorem dX9_mend_2 : decode cX9_mend 2 = .ok (.iload_n 2, 1) := dk_28 (dk_at dksX9_mend_0 2 rfl rfl)
theorem dX9_mend_3 : decode cX9_mend 3 = .ok (.invokevirtual 133, 3) := dk_182 0 133 (dk_at dksX9_mend_0 3 rfl rfl)
theorem dX9_mend_6 : decode cX9_mend 6 = .ok (.ifCond .ne 5, 3) := dk_154 0 5 (dk_at dksX9_mend_0 6 rfl rfl)
theorem dX9_mend_9 : decode cX9_mend 9 = .ok (.iconst (-1), 1) := dk_2 (dk_at dksX9_mend_0 9 rfl rfl)
theorem dX9_mend_10 : decode cX9_mend 10 = .ok (.ireturn, 1) := dk_172 (dk_at dksX9_mend_0 10 rfl rfl)
theorem dX9_mend_11 : decode cX9_mend 11 = .ok (.aload_n 0, 1) := dk_42 (dk_at dksX9_mend_0 11 rfl rfl)
theorem dX9_mend_12 : decode cX9_mend 12 = .ok (.getfield 19, 3) := dk_180 0 19 (dk_at dksX9_mend_0 12 rfl rfl)
theorem dX9_mend_15 : decode cX9_mend 15 = .ok (.bipush 6, 2) := dk_16 6 (dk_at dksX9_mend_0 15 rfl rfl)
theorem dX9_mend_17 : decode cX9_mend 17 = .ok (.iload_n 1, 1) := dk_27 (dk_at dksX9_mend_0 17 rfl rfl)
theorem dX9_mend_18 : decode cX9_mend 18 = .ok (.imul, 1) := dk_104 (dk_at dksX9_mend_0 18 rfl rfl)
theorem dX9_mend_19 : decode cX9_mend 19 = .ok (.iload_n 2, 1) := dk_28 (dk_at dksX9_mend_0 19 rfl rfl)
theorem dX9_mend_20 : decode cX9_mend 20 = .ok (.iadd, 1) := dk_96 (dk_at dksX9_mend_0 20 rfl rfl)
theorem dX9_mend_21 : decode cX9_mend 21 = .ok (.iaload, 1) := dk_46 (dk_at dksX9_mend_0 21 rfl rfl)
theorem dX9_mend_22 : decode cX9_mend 22 = .ok (.istore_n 3, 1) := dk_62 (dk_at dksX9_mend_0 22 rfl rfl)
theorem dX9_mend_23 : decode cX9_mend 23 = .ok (.iload_n 3, 1) := dk_29 (dk_at dksX9_mend_0 23 rfl rfl)
theorem dX9_mend_24 : decode cX9_mend 24 = .ok (.ifCond .ge 6, 3) := dk_156 0 6 (dk_at dksX9_mend_1 0 rfl rfl)
theorem dX9_mend_27 : decode cX9_mend 27 = .ok (.bipush (-3), 2) := dk_16 253 (dk_at dksX9_mend_1 3 rfl rfl)
theorem dX9_mend_29 : decode cX9_mend 29 = .ok (.ireturn, 1) := dk_172 (dk_at dksX9_mend_1 5 rfl rfl)
theorem dX9_mend_30 : decode cX9_mend 30 = .ok (.aload_n 0, 1) := dk_42 (dk_at dksX9_mend_1 6 rfl rfl)
theorem dX9_mend_31 : decode cX9_mend 31 = .ok (.getfield 19, 3) := dk_180 0 19 (dk_at dksX9_mend_1 7 rfl rfl)
theorem dX9_mend_34 : decode cX9_mend 34 = .ok (.bipush 6, 2) := dk_16 6 (dk_at dksX9_mend_1 10 rfl rfl)
theorem dX9_mend_36 : decode cX9_mend 36 = .ok (.iload_n 1, 1) := dk_27 (dk_at dksX9_mend_1 12 rfl rfl)
theorem dX9_mend_37 : decode cX9_mend 37 = .ok (.imul, 1) := dk_104 (dk_at dksX9_mend_1 13 rfl rfl)
theorem dX9_mend_38 : decode cX9_mend 38 = .ok (.iload_n 2, 1) := dk_28 (dk_at dksX9_mend_1 14 rfl rfl)
theorem dX9_mend_39 : decode cX9_mend 39 = .ok (.iadd, 1) := dk_96 (dk_at dksX9_mend_1 15 rfl rfl)
theorem dX9_mend_40 : decode cX9_mend 40 = .ok (.iconst (-1), 1) := dk_2 (dk_at dksX9_mend_1 16 rfl rfl)
theorem dX9_mend_41 : decode cX9_mend 41 = .ok (.iastore, 1) := dk_79 (dk_at dksX9_mend_1 17 rfl rfl)
theorem dX9_mend_42 : decode cX9_mend 42 = .ok (.iload_n 3, 1) := dk_29 (dk_at dksX9_mend_1 18 rfl rfl)
theorem dX9_mend_43 : decode cX9_mend 43 = .ok (.ireturn, 1) := dk_172 (dk_at dksX9_mend_1 19 rfl rfl)
abbrev cX9_cell : ByteArray := prog_19_method_18_code
def yX9_cell : MethodName := ⟨RX9, "cell", "(III)I"⟩
def dkwX9_cell_3 : List UInt8 := [27, 28, 182, 0, 149, 172, 42, 180, 0, 22, 21, 4, 46, 172, 2, 172]
abbrev dktX9_cell_3 : List UInt8 := dkwX9_cell_3 ++ []
def dkwX9_cell_2 : List UInt8 := [42, 180, 0, 16, 21, 4, 46, 172, 42, 180, 0, 19, 21, 4, 46, 172, 42, 27, 28, 182, 0, 145, 172, 42]
abbrev dktX9_cell_2 : List UInt8 := dkwX9_cell_2 ++ dktX9_cell_3
def dkwX9_cell_1 : List UInt8 := [170, 0, 0, 0, 0, 0, 0, 74, 0, 0, 0, 0, 0, 0, 0, 4, 0, 0, 0, 36, 0, 0, 0, 44, 0, 0, 0, 52, 0, 0, 0, 59, 0, 0, 0, 66]
abbrev dktX9_cell_1 : List UInt8 := dkwX9_cell_1 ++ dktX9_cell_2
def dkwX9_cell_0 : List UInt8 := [42, 27, 28, 182, 0, 133, 154, 0, 5, 2, 172, 42, 182, 0, 156, 16, 6, 27, 104, 28, 96, 54, 4, 29]
abbrev dktX9_cell_0 : List UInt8 := dkwX9_cell_0 ++ dktX9_cell_1
theorem dksX9_cell_0 : cX9_cell.data.toList.drop 0 = dktX9_cell_0 := by decide +kernel
theorem dksX9_cell_1 : cX9_cell.data.toList.drop 24 = dktX9_cell_1 := dk_seg dksX9_cell_0 24 rfl rfl
theorem dksX9_cell_2 : cX9_cell.data.toList.drop 60 = dktX9_cell_2 := dk_seg dksX9_cell_1 36 rfl rfl
theorem dksX9_cell_3 : cX9_cell.data.toList.drop 84 = dktX9_cell_3 := dk_seg dksX9_cell_2 24 rfl rfl
theorem dX9_cell_0 : decode cX9_cell 0 = .ok (.aload_n 0, 1) := dk_42 (dk_at dksX9_cell_0 0 rfl rfl)
theorem dX9_cell_1 : decode cX9_cell 1 = .ok (.iload_n 1, 1) := dk_27 (dk_at dksX9_cell_0 1 rfl rfl)
theorem dX9_cell_2 : decode cX9_cell 2 = .ok (.iload_n 2, 1) := dk_28 (dk_at dksX9_cell_0 2 rfl rfl)
theorem dX9_cell_3 : decode cX9_cell 3 = .ok (.invokevirtual 133, 3) := dk_182 0 133 (dk_at dksX9_cell_0 3 rfl rfl)
theorem dX9_cell_6 : decode cX9_cell 6 = .ok (.ifCond .ne 5, 3) := dk_154 0 5 (dk_at dksX9_cell_0 6 rfl rfl)
theorem dX9_cell_9 : decode cX9_cell 9 = .ok (.iconst (-1), 1) := dk_2 (dk_at dksX9_cell_0 9 rfl rfl)
theorem dX9_cell_10 : decode cX9_cell 10 = .ok (.ireturn, 1) := dk_172 (dk_at dksX9_cell_0 10 rfl rfl)
theorem dX9_cell_11 : decode cX9_cell 11 = .ok (.aload_n 0, 1) := dk_42 (dk_at dksX9_cell_0 11 rfl rfl)
theorem dX9_cell_12 : decode cX9_cell 12 = .ok (.invokevirtual 156, 3) := dk_182 0 156 (dk_at dksX9_cell_0 12 rfl rfl)
theorem dX9_cell_15 : decode cX9_cell 15 = .ok (.bipush 6, 2) := dk_16 6 (dk_at dksX9_cell_0 15 rfl rfl)
theorem dX9_cell_17 : decode cX9_cell 17 = .ok (.iload_n 1, 1) := dk_27 (dk_at dksX9_cell_0 17 rfl rfl)
theorem dX9_cell_18 : decode cX9_cell 18 = .ok (.imul, 1) := dk_104 (dk_at dksX9_cell_0 18 rfl rfl)
theorem dX9_cell_19 : decode cX9_cell 19 = .ok (.iload_n 2, 1) := dk_28 (dk_at dksX9_cell_0 19 rfl rfl)
theorem dX9_cell_20 : decode cX9_cell 20 = .ok (.iadd, 1) := dk_96 (dk_at dksX9_cell_0 20 rfl rfl)
theorem dX9_cell_21 : decode cX9_cell 21 = .ok (.istore 4, 2) := dk_54 4 (dk_at dksX9_cell_0 21 rfl rfl)
theorem dX9_cell_23 : decode cX9_cell 23 = .ok (.iload_n 3, 1) := dk_29 (dk_at dksX9_cell_0 23 rfl rfl)
theorem dX9_cell_24 : decode cX9_cell 24 = .ok (.tableswitch 74 0 4 #[36, 44, 52, 59, 66], 36) := by decide +kernel
theorem dX9_cell_60 : decode cX9_cell 60 = .ok (.aload_n 0, 1) := dk_42 (dk_at dksX9_cell_2 0 rfl rfl)
theorem dX9_cell_61 : decode cX9_cell 61 = .ok (.getfield 16, 3) := dk_180 0 16 (dk_at dksX9_cell_2 1 rfl rfl)
theorem dX9_cell_64 : decode cX9_cell 64 = .ok (.iload 4, 2) := dk_21 4 (dk_at dksX9_cell_2 4 rfl rfl)
theorem dX9_cell_66 : decode cX9_cell 66 = .ok (.iaload, 1) := dk_46 (dk_at dksX9_cell_2 6 rfl rfl)
theorem dX9_cell_67 : decode cX9_cell 67 = .ok (.ireturn, 1) := dk_172 (dk_at dksX9_cell_2 7 rfl rfl)
theorem dX9_cell_68 : decode cX9_cell 68 = .ok (.aload_n 0, 1) := dk_42 (dk_at dksX9_cell_2 8 rfl rfl)
theorem dX9_cell_69 : decode cX9_cell 69 = .ok (.getfield 19, 3) := dk_180 0 19 (dk_at dksX9_cell_2 9 rfl rfl)
theorem dX9_cell_72 : decode cX9_cell 72 = .ok (.iload 4, 2) := dk_21 4 (dk_at dksX9_cell_2 12 rfl rfl)
theorem dX9_cell_74 : decode cX9_cell 74 = .ok (.iaload, 1) := dk_46 (dk_at dksX9_cell_2 14 rfl rfl)
theorem dX9_cell_75 : decode cX9_cell 75 = .ok (.ireturn, 1) := dk_172 (dk_at dksX9_cell_2 15 rfl rfl)
theorem dX9_cell_76 : decode cX9_cell 76 = .ok (.aload_n 0, 1) := dk_42 (dk_at dksX9_cell_2 16 rfl rfl)
theorem dX9_cell_77 : decode cX9_cell 77 = .ok (.iload_n 1, 1) := dk_27 (dk_at dksX9_cell_2 17 rfl rfl)
theorem dX9_cell_78 : decode cX9_cell 78 = .ok (.iload_n 2, 1) := dk_28 (dk_at dksX9_cell_2 18 rfl rfl)
theorem dX9_cell_79 : decode cX9_cell 79 = .ok (.invokevirtual 145, 3) := dk_182 0 145 (dk_at dksX9_cell_2 19 rfl rfl)
theorem dX9_cell_82 : decode cX9_cell 82 = .ok (.ireturn, 1) := dk_172 (dk_at dksX9_cell_2 22 rfl rfl)
theorem dX9_cell_83 : decode cX9_cell 83 = .ok (.aload_n 0, 1) := dk_42 (dk_at dksX9_cell_2 23 rfl rfl)
theorem dX9_cell_84 : decode cX9_cell 84 = .ok (.iload_n 1, 1) := dk_27 (dk_at dksX9_cell_3 0 rfl rfl)
theorem dX9_cell_85 : decode cX9_cell 85 = .ok (.iload_n 2, 1) := dk_28 (dk_at dksX9_cell_3 1 rfl rfl)
theorem dX9_cell_86 : decode cX9_cell 86 = .ok (.invokevirtual 149, 3) := dk_182 0 149 (dk_at dksX9_cell_3 2 rfl rfl)
theorem dX9_cell_89 : decode cX9_cell 89 = .ok (.ireturn, 1) := dk_172 (dk_at dksX9_cell_3 5 rfl rfl)
theorem dX9_cell_90 : decode cX9_cell 90 = .ok (.aload_n 0, 1) := dk_42 (dk_at dksX9_cell_3 6 rfl rfl)
theorem dX9_cell_91 : decode cX9_cell 91 = .ok (.getfield 22, 3) := dk_180 0 22 (dk_at dksX9_cell_3 7 rfl rfl)
theorem dX9_cell_94 : decode cX9_cell 94 = .ok (.iload 4, 2) := dk_21 4 (dk_at dksX9_cell_3 10 rfl rfl)
theorem dX9_cell_96 : decode cX9_cell 96 = .ok (.iaload, 1) := dk_46 (dk_at dksX9_cell_3 12 rfl rfl)
theorem dX9_cell_97 : decode cX9_cell 97 = .ok (.ireturn, 1) := dk_172 (dk_at dksX9_cell_3 13 rfl rfl)
theorem dX9_cell_98 : decode cX9_cell 98 = .ok (.iconst (-1), 1) := dk_2 (dk_at dksX9_cell_3 14 rfl rfl)
theorem dX9_cell_99 : decode cX9_cell 99 = .ok (.ireturn, 1) := dk_172 (dk_at dksX9_cell_3 15 rfl rfl)
abbrev cX9_asNow : ByteArray := prog_19_method_17_code
def yX9_asNow : MethodName := ⟨RX9, "asNow", "()V"⟩
def dkwX9_asNow_1 : List UInt8 := [27, 42, 180, 0, 25, 27, 46, 79, 132, 1, 1, 167, 255, 223, 177]
abbrev dktX9_asNow_1 : List UInt8 := dkwX9_asNow_1 ++ []
def dkwX9_asNow_0 : List UInt8 := [3, 60, 27, 16, 72, 162, 0, 33, 42, 180, 0, 32, 27, 42, 180, 0, 16, 27, 46, 79, 42, 180, 0, 35]
abbrev dktX9_asNow_0 : List UInt8 := dkwX9_asNow_0 ++ dktX9_asNow_1
theorem dksX9_asNow_0 : cX9_asNow.data.toList.drop 0 = dktX9_asNow_0 := by decide +kernel
theorem dksX9_asNow_1 : cX9_asNow.data.toList.drop 24 = dktX9_asNow_1 := dk_seg dksX9_asNow_0 24 rfl rfl
theorem dX9_asNow_0 : decode cX9_asNow 0 = .ok (.iconst 0, 1) := dk_3 (dk_at dksX9_asNow_0 0 rfl rfl)
theorem dX9_asNow_1 : decode cX9_asNow 1 = .ok (.istore_n 1, 1) := dk_60 (dk_at dksX9_asNow_0 1 rfl rfl)
theorem dX9_asNow_2 : decode cX9_asNow 2 = .ok (.iload_n 1, 1) := dk_27 (dk_at dksX9_asNow_0 2 rfl rfl)
theorem dX9_asNow_3 : decode cX9_asNow 3 = .ok (.bipush 72, 2) := dk_16 72 (dk_at dksX9_asNow_0 3 rfl rfl)
theorem dX9_asNow_5 : decode cX9_asNow 5 = .ok (.if_icmp .ge 33, 3) := dk_162 0 33 (dk_at dksX9_asNow_0 5 rfl rfl)
theorem dX9_asNow_8 : decode cX9_asNow 8 = .ok (.aload_n 0, 1) := dk_42 (dk_at dksX9_asNow_0 8 rfl rfl)
theorem dX9_asNow_9 : decode cX9_asNow 9 = .ok (.getfield 32, 3) := dk_180 0 32 (dk_at dksX9_asNow_0 9 rfl rfl)
theorem dX9_asNow_12 : decode cX9_asNow 12 = .ok (.iload_n 1, 1) := dk_27 (dk_at dksX9_asNow_0 12 rfl rfl)
theorem dX9_asNow_13 : decode cX9_asNow 13 = .ok (.aload_n 0, 1) := dk_42 (dk_at dksX9_asNow_0 13 rfl rfl)
theorem dX9_asNow_14 : decode cX9_asNow 14 = .ok (.getfield 16, 3) := dk_180 0 16 (dk_at dksX9_asNow_0 14 rfl rfl)
theorem dX9_asNow_17 : decode cX9_asNow 17 = .ok (.iload_n 1, 1) := dk_27 (dk_at dksX9_asNow_0 17 rfl rfl)
theorem dX9_asNow_18 : decode cX9_asNow 18 = .ok (.iaload, 1) := dk_46 (dk_at dksX9_asNow_0 18 rfl rfl)
theorem dX9_asNow_19 : decode cX9_asNow 19 = .ok (.iastore, 1) := dk_79 (dk_at dksX9_asNow_0 19 rfl rfl)
theorem dX9_asNow_20 : decode cX9_asNow 20 = .ok (.aload_n 0, 1) := dk_42 (dk_at dksX9_asNow_0 20 rfl rfl)
theorem dX9_asNow_21 : decode cX9_asNow 21 = .ok (.getfield 35, 3) := dk_180 0 35 (dk_at dksX9_asNow_0 21 rfl rfl)
theorem dX9_asNow_24 : decode cX9_asNow 24 = .ok (.iload_n 1, 1) := dk_27 (dk_at dksX9_asNow_1 0 rfl rfl)
theorem dX9_asNow_25 : decode cX9_asNow 25 = .ok (.aload_n 0, 1) := dk_42 (dk_at dksX9_asNow_1 1 rfl rfl)
theorem dX9_asNow_26 : decode cX9_asNow 26 = .ok (.getfield 25, 3) := dk_180 0 25 (dk_at dksX9_asNow_1 2 rfl rfl)
theorem dX9_asNow_29 : decode cX9_asNow 29 = .ok (.iload_n 1, 1) := dk_27 (dk_at dksX9_asNow_1 5 rfl rfl)
theorem dX9_asNow_30 : decode cX9_asNow 30 = .ok (.iaload, 1) := dk_46 (dk_at dksX9_asNow_1 6 rfl rfl)
theorem dX9_asNow_31 : decode cX9_asNow 31 = .ok (.iastore, 1) := dk_79 (dk_at dksX9_asNow_1 7 rfl rfl)
theorem dX9_asNow_32 : decode cX9_asNow 32 = .ok (.iinc 1 1, 3) := dk_132 1 1 (dk_at dksX9_asNow_1 8 rfl rfl)
theorem dX9_asNow_35 : decode cX9_asNow 35 = .ok (.goto (-33), 3) := dk_167 255 223 (dk_at dksX9_asNow_1 11 rfl rfl)
theorem dX9_asNow_38 : decode cX9_asNow 38 = .ok (.return_, 1) := dk_177 (dk_at dksX9_asNow_1 14 rfl rfl)
abbrev cX9_heat : ByteArray := prog_19_method_12_code
def yX9_heat : MethodName := ⟨RX9, "heat", "(II)I"⟩
def dkwX9_heat_1 : List UInt8 := [16, 96, 29, 100, 162, 0, 7, 29, 167, 0, 7, 16, 96, 29, 100, 172]
abbrev dktX9_heat_1 : List UInt8 := dkwX9_heat_1 ++ []
def dkwX9_heat_0 : List UInt8 := [42, 27, 28, 182, 0, 133, 154, 0, 5, 3, 172, 42, 16, 6, 27, 104, 28, 96, 182, 0, 142, 62, 29]
abbrev dktX9_heat_0 : List UInt8 := dkwX9_heat_0 ++ dktX9_heat_1
theorem dksX9_heat_0 : cX9_heat.data.toList.drop 0 = dktX9_heat_0 := by decide +kernel
theorem dksX9_heat_1 : cX9_heat.data.toList.drop 23 = dktX9_heat_1 := dk_seg dksX9_heat_0 23 rfl rfl
theorem dX9_heat_0 : decode cX9_heat 0 = .ok (.aload_n 0, 1) := dk_42 (dk_at dksX9_heat_0 0 rfl rfl)
theorem dX9_heat_1 : decode cX9_heat 1 = .ok (.iload_n 1, 1) := dk_27 (dk_at dksX9_heat_0 1 rfl rfl)
theorem dX9_heat_2 : decode cX9_heat 2 = .ok (.iload_n 2, 1) := dk_28 (dk_at dksX9_heat_0 2 rfl rfl)
theorem dX9_heat_3 : decode cX9_heat 3 = .ok (.invokevirtual 133, 3) := dk_182 0 133 (dk_at dksX9_heat_0 3 rfl rfl)
theorem dX9_heat_6 : decode cX9_heat 6 = .ok (.ifCond .ne 5, 3) := dk_154 0 5 (dk_at dksX9_heat_0 6 rfl rfl)
theorem dX9_heat_9 : decode cX9_heat 9 = .ok (.iconst 0, 1) := dk_3 (dk_at dksX9_heat_0 9 rfl rfl)
theorem dX9_heat_10 : decode cX9_heat 10 = .ok (.ireturn, 1) := dk_172 (dk_at dksX9_heat_0 10 rfl rfl)
theorem dX9_heat_11 : decode cX9_heat 11 = .ok (.aload_n 0, 1) := dk_42 (dk_at dksX9_heat_0 11 rfl rfl)
theorem dX9_heat_12 : decode cX9_heat 12 = .ok (.bipush 6, 2) := dk_16 6 (dk_at dksX9_heat_0 12 rfl rfl)
theorem dX9_heat_14 : decode cX9_heat 14 = .ok (.iload_n 1, 1) := dk_27 (dk_at dksX9_heat_0 14 rfl rfl)
theorem dX9_heat_15 : decode cX9_heat 15 = .ok (.imul, 1) := dk_104 (dk_at dksX9_heat_0 15 rfl rfl)
theorem dX9_heat_16 : decode cX9_heat 16 = .ok (.iload_n 2, 1) := dk_28 (dk_at dksX9_heat_0 16 rfl rfl)
theorem dX9_heat_17 : decode cX9_heat 17 = .ok (.iadd, 1) := dk_96 (dk_at dksX9_heat_0 17 rfl rfl)
theorem dX9_heat_18 : decode cX9_heat 18 = .ok (.invokevirtual 142, 3) := dk_182 0 142 (dk_at dksX9_heat_0 18 rfl rfl)
theorem dX9_heat_21 : decode cX9_heat 21 = .ok (.istore_n 3, 1) := dk_62 (dk_at dksX9_heat_0 21 rfl rfl)
theorem dX9_heat_22 : decode cX9_heat 22 = .ok (.iload_n 3, 1) := dk_29 (dk_at dksX9_heat_0 22 rfl rfl)
theorem dX9_heat_23 : decode cX9_heat 23 = .ok (.bipush 96, 2) := dk_16 96 (dk_at dksX9_heat_1 0 rfl rfl)
theorem dX9_heat_25 : decode cX9_heat 25 = .ok (.iload_n 3, 1) := dk_29 (dk_at dksX9_heat_1 2 rfl rfl)
theorem dX9_heat_26 : decode cX9_heat 26 = .ok (.isub, 1) := dk_100 (dk_at dksX9_heat_1 3 rfl rfl)
theorem dX9_heat_27 : decode cX9_heat 27 = .ok (.if_icmp .ge 7, 3) := dk_162 0 7 (dk_at dksX9_heat_1 4 rfl rfl)
theorem dX9_heat_30 : decode cX9_heat 30 = .ok (.iload_n 3, 1) := dk_29 (dk_at dksX9_heat_1 7 rfl rfl)
theorem dX9_heat_31 : decode cX9_heat 31 = .ok (.goto 7, 3) := dk_167 0 7 (dk_at dksX9_heat_1 8 rfl rfl)
theorem dX9_heat_34 : decode cX9_heat 34 = .ok (.bipush 96, 2) := dk_16 96 (dk_at dksX9_heat_1 11 rfl rfl)
theorem dX9_heat_36 : decode cX9_heat 36 = .ok (.iload_n 3, 1) := dk_29 (dk_at dksX9_heat_1 13 rfl rfl)
theorem dX9_heat_37 : decode cX9_heat 37 = .ok (.isub, 1) := dk_100 (dk_at dksX9_heat_1 14 rfl rfl)
theorem dX9_heat_38 : decode cX9_heat 38 = .ok (.ireturn, 1) := dk_172 (dk_at dksX9_heat_1 15 rfl rfl)
abbrev cX9_turnOf : ByteArray := prog_19_method_11_code
def yX9_turnOf : MethodName := ⟨RX9, "turnOf", "(I)I"⟩
def dkwX9_turnOf_1 : List UInt8 := [172]
abbrev dktX9_turnOf_1 : List UInt8 := dkwX9_turnOf_1 ++ []
def dkwX9_turnOf_0 : List UInt8 := [42, 180, 0, 19, 27, 46, 155, 0, 12, 42, 180, 0, 19, 27, 46, 167, 0, 9, 42, 180, 0, 32, 27, 46]
abbrev dktX9_turnOf_0 : List UInt8 := dkwX9_turnOf_0 ++ dktX9_turnOf_1
theorem dksX9_turnOf_0 : cX9_turnOf.data.toList.drop 0 = dktX9_turnOf_0 := by decide +kernel
theorem dksX9_turnOf_1 : cX9_turnOf.data.toList.drop 24 = dktX9_turnOf_1 := dk_seg dksX9_turnOf_0 24 rfl rfl
theorem dX9_turnOf_0 : decode cX9_turnOf 0 = .ok (.aload_n 0, 1) := dk_42 (dk_at dksX9_turnOf_0 0 rfl rfl)
theorem dX9_turnOf_1 : decode cX9_turnOf 1 = .ok (.getfield 19, 3) := dk_180 0 19 (dk_at dksX9_turnOf_0 1 rfl rfl)
theorem dX9_turnOf_4 : decode cX9_turnOf 4 = .ok (.iload_n 1, 1) := dk_27 (dk_at dksX9_turnOf_0 4 rfl rfl)
theorem dX9_turnOf_5 : decode cX9_turnOf 5 = .ok (.iaload, 1) := dk_46 (dk_at dksX9_turnOf_0 5 rfl rfl)
theorem dX9_turnOf_6 : decode cX9_turnOf 6 = .ok (.ifCond .lt 12, 3) := dk_155 0 12 (dk_at dksX9_turnOf_0 6 rfl rfl)
theorem dX9_turnOf_9 : decode cX9_turnOf 9 = .ok (.aload_n 0, 1) := dk_42 (dk_at dksX9_turnOf_0 9 rfl rfl)
theorem dX9_turnOf_10 : decode cX9_turnOf 10 = .ok (.getfield 19, 3) := dk_180 0 19 (dk_at dksX9_turnOf_0 10 rfl rfl)
theorem dX9_turnOf_13 : decode cX9_turnOf 13 = .ok (.iload_n 1, 1) := dk_27 (dk_at dksX9_turnOf_0 13 rfl rfl)
theorem dX9_turnOf_14 : decode cX9_turnOf 14 = .ok (.iaload, 1) := dk_46 (dk_at dksX9_turnOf_0 14 rfl rfl)
theorem dX9_turnOf_15 : decode cX9_turnOf 15 = .ok (.goto 9, 3) := dk_167 0 9 (dk_at dksX9_turnOf_0 15 rfl rfl)
theorem dX9_turnOf_18 : decode cX9_turnOf 18 = .ok (.aload_n 0, 1) := dk_42 (dk_at dksX9_turnOf_0 18 rfl rfl)
theorem dX9_turnOf_19 : decode cX9_turnOf 19 = .ok (.getfield 32, 3) := dk_180 0 32 (dk_at dksX9_turnOf_0 19 rfl rfl)
theorem dX9_turnOf_22 : decode cX9_turnOf 22 = .ok (.iload_n 1, 1) := dk_27 (dk_at dksX9_turnOf_0 22 rfl rfl)
theorem dX9_turnOf_23 : decode cX9_turnOf 23 = .ok (.iaload, 1) := dk_46 (dk_at dksX9_turnOf_0 23 rfl rfl)
theorem dX9_turnOf_24 : decode cX9_turnOf 24 = .ok (.ireturn, 1) := dk_172 (dk_at dksX9_turnOf_1 0 rfl rfl)
abbrev cX9_trueTurn : ByteArray := prog_19_method_13_code
def yX9_trueTurn : MethodName := ⟨RX9, "trueTurn", "(II)I"⟩
def dkwX9_trueTurn_2 : List UInt8 := [180, 0, 28, 108, 96, 42, 180, 0, 35, 29, 46, 96, 184, 0, 130, 172]
abbrev dktX9_trueTurn_2 : List UInt8 := dkwX9_trueTurn_2 ++ []
def dkwX9_trueTurn_1 : List UInt8 := [180, 0, 32, 29, 46, 42, 27, 28, 5, 100, 182, 0, 145, 42, 27, 28, 5, 96, 182, 0, 145, 96, 42]
abbrev dktX9_trueTurn_1 : List UInt8 := dkwX9_trueTurn_1 ++ dktX9_trueTurn_2
def dkwX9_trueTurn_0 : List UInt8 := [16, 6, 27, 104, 28, 96, 62, 42, 180, 0, 19, 29, 46, 155, 0, 10, 42, 180, 0, 19, 29, 46, 172, 42]
abbrev dktX9_trueTurn_0 : List UInt8 := dkwX9_trueTurn_0 ++ dktX9_trueTurn_1
theorem dksX9_trueTurn_0 : cX9_trueTurn.data.toList.drop 0 = dktX9_trueTurn_0 := by decide +kernel
theorem dksX9_trueTurn_1 : cX9_trueTurn.data.toList.drop 24 = dktX9_trueTurn_1 := dk_seg dksX9_trueTurn_0 24 rfl rfl
theorem dksX9_trueTurn_2 : cX9_trueTurn.data.toList.drop 47 = dktX9_trueTurn_2 := dk_seg dksX9_trueTurn_1 23 rfl rfl
theorem dX9_trueTurn_0 : decode cX9_trueTurn 0 = .ok (.bipush 6, 2) := dk_16 6 (dk_at dksX9_trueTurn_0 0 rfl rfl)
theorem dX9_trueTurn_2 : decode cX9_trueTurn 2 = .ok (.iload_n 1, 1) := dk_27 (dk_at dksX9_trueTurn_0 2 rfl rfl)
theorem dX9_trueTurn_3 : decode cX9_trueTurn 3 = .ok (.imul, 1) := dk_104 (dk_at dksX9_trueTurn_0 3 rfl rfl)
theorem dX9_trueTurn_4 : decode cX9_trueTurn 4 = .ok (.iload_n 2, 1) := dk_28 (dk_at dksX9_trueTurn_0 4 rfl rfl)
theorem dX9_trueTurn_5 : decode cX9_trueTurn 5 = .ok (.iadd, 1) := dk_96 (dk_at dksX9_trueTurn_0 5 rfl rfl)
theorem dX9_trueTurn_6 : decode cX9_trueTurn 6 = .ok (.istore_n 3, 1) := dk_62 (dk_at dksX9_trueTurn_0 6 rfl rfl)
theorem dX9_trueTurn_7 : decode cX9_trueTurn 7 = .ok (.aload_n 0, 1) := dk_42 (dk_at dksX9_trueTurn_0 7 rfl rfl)
theorem dX9_trueTurn_8 : decode cX9_trueTurn 8 = .ok (.getfield 19, 3) := dk_180 0 19 (dk_at dksX9_trueTurn_0 8 rfl rfl)
theorem dX9_trueTurn_11 : decode cX9_trueTurn 11 = .ok (.iload_n 3, 1) := dk_29 (dk_at dksX9_trueTurn_0 11 rfl rfl)
theorem dX9_trueTurn_12 : decode cX9_trueTurn 12 = .ok (.iaload, 1) := dk_46 (dk_at dksX9_trueTurn_0 12 rfl rfl)
theorem dX9_trueTurn_13 : decode cX9_trueTurn 13 = .ok (.ifCond .lt 10, 3) := dk_155 0 10 (dk_at dksX9_trueTurn_0 13 rfl rfl)
theorem dX9_trueTurn_16 : decode cX9_trueTurn 16 = .ok (.aload_n 0, 1) := dk_42 (dk_at dksX9_trueTurn_0 16 rfl rfl)
theorem dX9_trueTurn_17 : decode cX9_trueTurn 17 = .ok (.getfield 19, 3) := dk_180 0 19 (dk_at dksX9_trueTurn_0 17 rfl rfl)
theorem dX9_trueTurn_20 : decode cX9_trueTurn 20 = .ok (.iload_n 3, 1) := dk_29 (dk_at dksX9_trueTurn_0 20 rfl rfl)
theorem dX9_trueTurn_21 : decode cX9_trueTurn 21 = .ok (.iaload, 1) := dk_46 (dk_at dksX9_trueTurn_0 21 rfl rfl)
theorem dX9_trueTurn_22 : decode cX9_trueTurn 22 = .ok (.ireturn, 1) := dk_172 (dk_at dksX9_trueTurn_0 22 rfl rfl)
theorem dX9_trueTurn_23 : decode cX9_trueTurn 23 = .ok (.aload_n 0, 1) := dk_42 (dk_at dksX9_trueTurn_0 23 rfl rfl)
theorem dX9_trueTurn_24 : decode cX9_trueTurn 24 = .ok (.getfield 32, 3) := dk_180 0 32 (dk_at dksX9_trueTurn_1 0 rfl rfl)
theorem dX9_trueTurn_27 : decode cX9_trueTurn 27 = .ok (.iload_n 3, 1) := dk_29 (dk_at dksX9_trueTurn_1 3 rfl rfl)
theorem dX9_trueTurn_28 : decode cX9_trueTurn 28 = .ok (.iaload, 1) := dk_46 (dk_at dksX9_trueTurn_1 4 rfl rfl)
theorem dX9_trueTurn_29 : decode cX9_trueTurn 29 = .ok (.aload_n 0, 1) := dk_42 (dk_at dksX9_trueTurn_1 5 rfl rfl)
theorem dX9_trueTurn_30 : decode cX9_trueTurn 30 = .ok (.iload_n 1, 1) := dk_27 (dk_at dksX9_trueTurn_1 6 rfl rfl)
theorem dX9_trueTurn_31 : decode cX9_trueTurn 31 = .ok (.iload_n 2, 1) := dk_28 (dk_at dksX9_trueTurn_1 7 rfl rfl)
theorem dX9_trueTurn_32 : decode cX9_trueTurn 32 = .ok (.iconst 2, 1) := dk_5 (dk_at dksX9_trueTurn_1 8 rfl rfl)
theorem dX9_trueTurn_33 : decode cX9_trueTurn 33 = .ok (.isub, 1) := dk_100 (dk_at dksX9_trueTurn_1 9 rfl rfl)
theorem dX9_trueTurn_34 : decode cX9_trueTurn 34 = .ok (.invokevirtual 145, 3) := dk_182 0 145 (dk_at dksX9_trueTurn_1 10 rfl rfl)
theorem dX9_trueTurn_37 : decode cX9_trueTurn 37 = .ok (.aload_n 0, 1) := dk_42 (dk_at dksX9_trueTurn_1 13 rfl rfl)
theorem dX9_trueTurn_38 : decode cX9_trueTurn 38 = .ok (.iload_n 1, 1) := dk_27 (dk_at dksX9_trueTurn_1 14 rfl rfl)
theorem dX9_trueTurn_39 : decode cX9_trueTurn 39 = .ok (.iload_n 2, 1) := dk_28 (dk_at dksX9_trueTurn_1 15 rfl rfl)
theorem dX9_trueTurn_40 : decode cX9_trueTurn 40 = .ok (.iconst 2, 1) := dk_5 (dk_at dksX9_trueTurn_1 16 rfl rfl)
theorem dX9_trueTurn_41 : decode cX9_trueTurn 41 = .ok (.iadd, 1) := dk_96 (dk_at dksX9_trueTurn_1 17 rfl rfl)
theorem dX9_trueTurn_42 : decode cX9_trueTurn 42 = .ok (.invokevirtual 145, 3) := dk_182 0 145 (dk_at dksX9_trueTurn_1 18 rfl rfl)
theorem dX9_trueTurn_45 : decode cX9_trueTurn 45 = .ok (.iadd, 1) := dk_96 (dk_at dksX9_trueTurn_1 21 rfl rfl)
theorem dX9_trueTurn_46 : decode cX9_trueTurn 46 = .ok (.aload_n 0, 1) := dk_42 (dk_at dksX9_trueTurn_1 22 rfl rfl)
theorem dX9_trueTurn_47 : decode cX9_trueTurn 47 = .ok (.getfield 28, 3) := dk_180 0 28 (dk_at dksX9_trueTurn_2 0 rfl rfl)
theorem dX9_trueTurn_50 : decode cX9_trueTurn 50 = .ok (.idiv, 1) := dk_108 (dk_at dksX9_trueTurn_2 3 rfl rfl)
theorem dX9_trueTurn_51 : decode cX9_trueTurn 51 = .ok (.iadd, 1) := dk_96 (dk_at dksX9_trueTurn_2 4 rfl rfl)
theorem dX9_trueTurn_52 : decode cX9_trueTurn 52 = .ok (.aload_n 0, 1) := dk_42 (dk_at dksX9_trueTurn_2 5 rfl rfl)
theorem dX9_trueTurn_53 : decode cX9_trueTurn 53 = .ok (.getfield 35, 3) := dk_180 0 35 (dk_at dksX9_trueTurn_2 6 rfl rfl)
theorem dX9_trueTurn_56 : decode cX9_trueTurn 56 = .ok (.iload_n 3, 1) := dk_29 (dk_at dksX9_trueTurn_2 9 rfl rfl)
theorem dX9_trueTurn_57 : decode cX9_trueTurn 57 = .ok (.iaload, 1) := dk_46 (dk_at dksX9_trueTurn_2 10 rfl rfl)
theorem dX9_trueTurn_58 : decode cX9_trueTurn 58 = .ok (.iadd, 1) := dk_96 (dk_at dksX9_trueTurn_2 11 rfl rfl)
theorem dX9_trueTurn_59 : decode cX9_trueTurn 59 = .ok (.invokestatic 130, 3) := dk_184 0 130 (dk_at dksX9_trueTurn_2 12 rfl rfl)
theorem dX9_trueTurn_62 : decode cX9_trueTurn 62 = .ok (.ireturn, 1) := dk_172 (dk_at dksX9_trueTurn_2 15 rfl rfl)
abbrev cX9_table : ByteArray := prog_19_method_19_code
def yX9_table : MethodName := ⟨RX9, "table", "(II)I"⟩
def dkwX9_table_1 : List UInt8 := [182, 0, 163, 42, 3, 182, 0, 167, 42, 180, 0, 38, 27, 46, 172]
abbrev dktX9_table_1 : List UInt8 := dkwX9_table_1 ++ []
def dkwX9_table_0 : List UInt8 := [42, 27, 182, 0, 159, 153, 0, 11, 42, 28, 182, 0, 159, 154, 0, 5, 2, 172, 42, 182, 0, 156, 42, 28]
abbrev dktX9_table_0 : List UInt8 := dkwX9_table_0 ++ dktX9_table_1
theorem dksX9_table_0 : cX9_table.data.toList.drop 0 = dktX9_table_0 := by decide +kernel
theorem dksX9_table_1 : cX9_table.data.toList.drop 24 = dktX9_table_1 := dk_seg dksX9_table_0 24 rfl rfl
theorem dX9_table_0 : decode cX9_table 0 = .ok (.aload_n 0, 1) := dk_42 (dk_at dksX9_table_0 0 rfl rfl)
theorem dX9_table_1 : decode cX9_table 1 = .ok (.iload_n 1, 1) := dk_27 (dk_at dksX9_table_0 1 rfl rfl)
theorem dX9_table_2 : decode cX9_table 2 = .ok (.invokevirtual 159, 3) := dk_182 0 159 (dk_at dksX9_table_0 2 rfl rfl)
theorem dX9_table_5 : decode cX9_table 5 = .ok (.ifCond .eq 11, 3) := dk_153 0 11 (dk_at dksX9_table_0 5 rfl rfl)
theorem dX9_table_8 : decode cX9_table 8 = .ok (.aload_n 0, 1) := dk_42 (dk_at dksX9_table_0 8 rfl rfl)
theorem dX9_table_9 : decode cX9_table 9 = .ok (.iload_n 2, 1) := dk_28 (dk_at dksX9_table_0 9 rfl rfl)
theorem dX9_table_10 : decode cX9_table 10 = .ok (.invokevirtual 159, 3) := dk_182 0 159 (dk_at dksX9_table_0 10 rfl rfl)
theorem dX9_table_13 : decode cX9_table 13 = .ok (.ifCond .ne 5, 3) := dk_154 0 5 (dk_at dksX9_table_0 13 rfl rfl)
theorem dX9_table_16 : decode cX9_table 16 = .ok (.iconst (-1), 1) := dk_2 (dk_at dksX9_table_0 16 rfl rfl)
theorem dX9_table_17 : decode cX9_table 17 = .ok (.ireturn, 1) := dk_172 (dk_at dksX9_table_0 17 rfl rfl)
theorem dX9_table_18 : decode cX9_table 18 = .ok (.aload_n 0, 1) := dk_42 (dk_at dksX9_table_0 18 rfl rfl)
theorem dX9_table_19 : decode cX9_table 19 = .ok (.invokevirtual 156, 3) := dk_182 0 156 (dk_at dksX9_table_0 19 rfl rfl)
theorem dX9_table_22 : decode cX9_table 22 = .ok (.aload_n 0, 1) := dk_42 (dk_at dksX9_table_0 22 rfl rfl)
theorem dX9_table_23 : decode cX9_table 23 = .ok (.iload_n 2, 1) := dk_28 (dk_at dksX9_table_0 23 rfl rfl)
theorem dX9_table_24 : decode cX9_table 24 = .ok (.invokevirtual 163, 3) := dk_182 0 163 (dk_at dksX9_table_1 0 rfl rfl)
theorem dX9_table_27 : decode cX9_table 27 = .ok (.aload_n 0, 1) := dk_42 (dk_at dksX9_table_1 3 rfl rfl)
theorem dX9_table_28 : decode cX9_table 28 = .ok (.iconst 0, 1) := dk_3 (dk_at dksX9_table_1 4 rfl rfl)
theorem dX9_table_29 : decode cX9_table 29 = .ok (.invokevirtual 167, 3) := dk_182 0 167 (dk_at dksX9_table_1 5 rfl rfl)
theorem dX9_table_32 : decode cX9_table 32 = .ok (.aload_n 0, 1) := dk_42 (dk_at dksX9_table_1 8 rfl rfl)
theorem dX9_table_33 : decode cX9_table 33 = .ok (.getfield 38, 3) := dk_180 0 38 (dk_at dksX9_table_1 9 rfl rfl)
theorem dX9_table_36 : decode cX9_table 36 = .ok (.iload_n 1, 1) := dk_27 (dk_at dksX9_table_1 12 rfl rfl)
theorem dX9_table_37 : decode cX9_table 37 = .ok (.iaload, 1) := dk_46 (dk_at dksX9_table_1 13 rfl rfl)
theorem dX9_table_38 : decode cX9_table 38 = .ok (.ireturn, 1) := dk_172 (dk_at dksX9_table_1 14 rfl rfl)
abbrev cX9_isLane : ByteArray := prog_19_method_5_code
def yX9_isLane : MethodName := ⟨RX9, "isLane", "(I)Z"⟩
def dkwX9_isLane_0 : List UInt8 := [27, 155, 0, 15, 27, 42, 180, 0, 117, 162, 0, 7, 4, 167, 0, 4, 3, 172]
abbrev dktX9_isLane_0 : List UInt8 := dkwX9_isLane_0 ++ []
theorem dksX9_isLane_0 : cX9_isLane.data.toList.drop 0 = dktX9_isLane_0 := by decide +kernel
theorem dX9_isLane_0 : decode cX9_isLane 0 = .ok (.iload_n 1, 1) := dk_27 (dk_at dksX9_isLane_0 0 rfl rfl)
theorem dX9_isLane_1 : decode cX9_isLane 1 = .ok (.ifCond .lt 15, 3) := dk_155 0 15 (dk_at dksX9_isLane_0 1 rfl rfl)
theorem dX9_isLane_4 : decode cX9_isLane 4 = .ok (.iload_n 1, 1) := dk_27 (dk_at dksX9_isLane_0 4 rfl rfl)
theorem dX9_isLane_5 : decode cX9_isLane 5 = .ok (.aload_n 0, 1) := dk_42 (dk_at dksX9_isLane_0 5 rfl rfl)
theorem dX9_isLane_6 : decode cX9_isLane 6 = .ok (.getfield 117, 3) := dk_180 0 117 (dk_at dksX9_isLane_0 6 rfl rfl)
theorem dX9_isLane_9 : decode cX9_isLane 9 = .ok (.if_icmp .ge 7, 3) := dk_162 0 7 (dk_at dksX9_isLane_0 9 rfl rfl)
theorem dX9_isLane_12 : decode cX9_isLane 12 = .ok (.iconst 1, 1) := dk_4 (dk_at dksX9_isLane_0 12 rfl rfl)
theorem dX9_isLane_13 : decode cX9_isLane 13 = .ok (.goto 4, 3) := dk_167 0 4 (dk_at dksX9_isLane_0 13 rfl rfl)
theorem dX9_isLane_16 : decode cX9_isLane 16 = .ok (.iconst 0, 1) := dk_3 (dk_at dksX9_isLane_0 16 rfl rfl)
theorem dX9_isLane_17 : decode cX9_isLane 17 = .ok (.ireturn, 1) := dk_172 (dk_at dksX9_isLane_0 17 rfl rfl)
abbrev cX9_enters : ByteArray := prog_19_method_16_code
def yX9_enters : MethodName := ⟨RX9, "enters", "(I)V"⟩
def dkwX9_enters_1 : List UInt8 := [3, 79, 132, 2, 1, 167, 255, 229, 177]
abbrev dktX9_enters_1 : List UInt8 := dkwX9_enters_1 ++ []
def dkwX9_enters_0 : List UInt8 := [3, 61, 28, 42, 180, 0, 117, 162, 0, 25, 42, 180, 0, 38, 28, 28, 27, 160, 0, 7, 4, 167, 0, 4]
abbrev dktX9_enters_0 : List UInt8 := dkwX9_enters_0 ++ dktX9_enters_1
theorem dksX9_enters_0 : cX9_enters.data.toList.drop 0 = dktX9_enters_0 := by decide +kernel
theorem dksX9_enters_1 : cX9_enters.data.toList.drop 24 = dktX9_enters_1 := dk_seg dksX9_enters_0 24 rfl rfl
theorem dX9_enters_0 : decode cX9_enters 0 = .ok (.iconst 0, 1) := dk_3 (dk_at dksX9_enters_0 0 rfl rfl)
theorem dX9_enters_1 : decode cX9_enters 1 = .ok (.istore_n 2, 1) := dk_61 (dk_at dksX9_enters_0 1 rfl rfl)
theorem dX9_enters_2 : decode cX9_enters 2 = .ok (.iload_n 2, 1) := dk_28 (dk_at dksX9_enters_0 2 rfl rfl)
theorem dX9_enters_3 : decode cX9_enters 3 = .ok (.aload_n 0, 1) := dk_42 (dk_at dksX9_enters_0 3 rfl rfl)
theorem dX9_enters_4 : decode cX9_enters 4 = .ok (.getfield 117, 3) := dk_180 0 117 (dk_at dksX9_enters_0 4 rfl rfl)
theorem dX9_enters_7 : decode cX9_enters 7 = .ok (.if_icmp .ge 25, 3) := dk_162 0 25 (dk_at dksX9_enters_0 7 rfl rfl)
theorem dX9_enters_10 : decode cX9_enters 10 = .ok (.aload_n 0, 1) := dk_42 (dk_at dksX9_enters_0 10 rfl rfl)
theorem dX9_enters_11 : decode cX9_enters 11 = .ok (.getfield 38, 3) := dk_180 0 38 (dk_at dksX9_enters_0 11 rfl rfl)
theorem dX9_enters_14 : decode cX9_enters 14 = .ok (.iload_n 2, 1) := dk_28 (dk_at dksX9_enters_0 14 rfl rfl)
theorem dX9_enters_15 : decode cX9_enters 15 = .ok (.iload_n 2, 1) := dk_28 (dk_at dksX9_enters_0 15 rfl rfl)
theorem dX9_enters_16 : decode cX9_enters 16 = .ok (.iload_n 1, 1) := dk_27 (dk_at dksX9_enters_0 16 rfl rfl)
theorem dX9_enters_17 : decode cX9_enters 17 = .ok (.if_icmp .ne 7, 3) := dk_160 0 7 (dk_at dksX9_enters_0 17 rfl rfl)
theorem dX9_enters_20 : decode cX9_enters 20 = .ok (.iconst 1, 1) := dk_4 (dk_at dksX9_enters_0 20 rfl rfl)
theorem dX9_enters_21 : decode cX9_enters 21 = .ok (.goto 4, 3) := dk_167 0 4 (dk_at dksX9_enters_0 21 rfl rfl)
theorem dX9_enters_24 : decode cX9_enters 24 = .ok (.iconst 0, 1) := dk_3 (dk_at dksX9_enters_1 0 rfl rfl)
theorem dX9_enters_25 : decode cX9_enters 25 = .ok (.iastore, 1) := dk_79 (dk_at dksX9_enters_1 1 rfl rfl)
theorem dX9_enters_26 : decode cX9_enters 26 = .ok (.iinc 2 1, 3) := dk_132 2 1 (dk_at dksX9_enters_1 2 rfl rfl)
theorem dX9_enters_29 : decode cX9_enters 29 = .ok (.goto (-27), 3) := dk_167 255 229 (dk_at dksX9_enters_1 5 rfl rfl)
theorem dX9_enters_32 : decode cX9_enters 32 = .ok (.return_, 1) := dk_177 (dk_at dksX9_enters_1 8 rfl rfl)
abbrev cX9_goes : ByteArray := prog_19_method_15_code
def yX9_goes : MethodName := ⟨RX9, "goes", "(Z)V"⟩
def dkwX9_goes_2 : List UInt8 := [182, 0, 152, 132, 3, 2, 167, 255, 215, 132, 2, 1, 167, 255, 199, 177]
abbrev dktX9_goes_2 : List UInt8 := dkwX9_goes_2 ++ []
def dkwX9_goes_1 : List UInt8 := [27, 153, 0, 12, 42, 28, 29, 182, 0, 149, 167, 0, 13, 42, 16, 6, 28, 104, 29, 96, 182, 0, 142]
abbrev dktX9_goes_1 : List UInt8 := dkwX9_goes_1 ++ dktX9_goes_2
def dkwX9_goes_0 : List UInt8 := [3, 61, 28, 16, 12, 162, 0, 57, 28, 5, 112, 62, 29, 42, 180, 0, 117, 4, 100, 162, 0, 37, 42, 29]
abbrev dktX9_goes_0 : List UInt8 := dkwX9_goes_0 ++ dktX9_goes_1
theorem dksX9_goes_0 : cX9_goes.data.toList.drop 0 = dktX9_goes_0 := by decide +kernel
theorem dksX9_goes_1 : cX9_goes.data.toList.drop 24 = dktX9_goes_1 := dk_seg dksX9_goes_0 24 rfl rfl
theorem dksX9_goes_2 : cX9_goes.data.toList.drop 47 = dktX9_goes_2 := dk_seg dksX9_goes_1 23 rfl rfl
theorem dX9_goes_0 : decode cX9_goes 0 = .ok (.iconst 0, 1) := dk_3 (dk_at dksX9_goes_0 0 rfl rfl)
theorem dX9_goes_1 : decode cX9_goes 1 = .ok (.istore_n 2, 1) := dk_61 (dk_at dksX9_goes_0 1 rfl rfl)
theorem dX9_goes_2 : decode cX9_goes 2 = .ok (.iload_n 2, 1) := dk_28 (dk_at dksX9_goes_0 2 rfl rfl)
theorem dX9_goes_3 : decode cX9_goes 3 = .ok (.bipush 12, 2) := dk_16 12 (dk_at dksX9_goes_0 3 rfl rfl)
theorem dX9_goes_5 : decode cX9_goes 5 = .ok (.if_icmp .ge 57, 3) := dk_162 0 57 (dk_at dksX9_goes_0 5 rfl rfl)
theorem dX9_goes_8 : decode cX9_goes 8 = .ok (.iload_n 2, 1) := dk_28 (dk_at dksX9_goes_0 8 rfl rfl)
theorem dX9_goes_9 : decode cX9_goes 9 = .ok (.iconst 2, 1) := dk_5 (dk_at dksX9_goes_0 9 rfl rfl)
theorem dX9_goes_10 : decode cX9_goes 10 = .ok (.irem, 1) := dk_112 (dk_at dksX9_goes_0 10 rfl rfl)
theorem dX9_goes_11 : decode cX9_goes 11 = .ok (.istore_n 3, 1) := dk_62 (dk_at dksX9_goes_0 11 rfl rfl)
theorem dX9_goes_12 : decode cX9_goes 12 = .ok (.iload_n 3, 1) := dk_29 (dk_at dksX9_goes_0 12 rfl rfl)
theorem dX9_goes_13 : decode cX9_goes 13 = .ok (.aload_n 0, 1) := dk_42 (dk_at dksX9_goes_0 13 rfl rfl)
theorem dX9_goes_14 : decode cX9_goes 14 = .ok (.getfield 117, 3) := dk_180 0 117 (dk_at dksX9_goes_0 14 rfl rfl)
theorem dX9_goes_17 : decode cX9_goes 17 = .ok (.iconst 1, 1) := dk_4 (dk_at dksX9_goes_0 17 rfl rfl)
theorem dX9_goes_18 : decode cX9_goes 18 = .ok (.isub, 1) := dk_100 (dk_at dksX9_goes_0 18 rfl rfl)
theorem dX9_goes_19 : decode cX9_goes 19 = .ok (.if_icmp .ge 37, 3) := dk_162 0 37 (dk_at dksX9_goes_0 19 rfl rfl)
theorem dX9_goes_22 : decode cX9_goes 22 = .ok (.aload_n 0, 1) := dk_42 (dk_at dksX9_goes_0 22 rfl rfl)
theorem dX9_goes_23 : decode cX9_goes 23 = .ok (.iload_n 3, 1) := dk_29 (dk_at dksX9_goes_0 23 rfl rfl)
theorem dX9_goes_24 : decode cX9_goes 24 = .ok (.iload_n 1, 1) := dk_27 (dk_at dksX9_goes_1 0 rfl rfl)
theorem dX9_goes_25 : decode cX9_goes 25 = .ok (.ifCond .eq 12, 3) := dk_153 0 12 (dk_at dksX9_goes_1 1 rfl rfl)
theorem dX9_goes_28 : decode cX9_goes 28 = .ok (.aload_n 0, 1) := dk_42 (dk_at dksX9_goes_1 4 rfl rfl)
theorem dX9_goes_29 : decode cX9_goes 29 = .ok (.iload_n 2, 1) := dk_28 (dk_at dksX9_goes_1 5 rfl rfl)
theorem dX9_goes_30 : decode cX9_goes 30 = .ok (.iload_n 3, 1) := dk_29 (dk_at dksX9_goes_1 6 rfl rfl)
theorem dX9_goes_31 : decode cX9_goes 31 = .ok (.invokevirtual 149, 3) := dk_182 0 149 (dk_at dksX9_goes_1 7 rfl rfl)
theorem dX9_goes_34 : decode cX9_goes 34 = .ok (.goto 13, 3) := dk_167 0 13 (dk_at dksX9_goes_1 10 rfl rfl)
theorem dX9_goes_37 : decode cX9_goes 37 = .ok (.aload_n 0, 1) := dk_42 (dk_at dksX9_goes_1 13 rfl rfl)
theorem dX9_goes_38 : decode cX9_goes 38 = .ok (.bipush 6, 2) := dk_16 6 (dk_at dksX9_goes_1 14 rfl rfl)
theorem dX9_goes_40 : decode cX9_goes 40 = .ok (.iload_n 2, 1) := dk_28 (dk_at dksX9_goes_1 16 rfl rfl)
theorem dX9_goes_41 : decode cX9_goes 41 = .ok (.imul, 1) := dk_104 (dk_at dksX9_goes_1 17 rfl rfl)
theorem dX9_goes_42 : decode cX9_goes 42 = .ok (.iload_n 3, 1) := dk_29 (dk_at dksX9_goes_1 18 rfl rfl)
theorem dX9_goes_43 : decode cX9_goes 43 = .ok (.iadd, 1) := dk_96 (dk_at dksX9_goes_1 19 rfl rfl)
theorem dX9_goes_44 : decode cX9_goes 44 = .ok (.invokevirtual 142, 3) := dk_182 0 142 (dk_at dksX9_goes_1 20 rfl rfl)
theorem dX9_goes_47 : decode cX9_goes 47 = .ok (.invokevirtual 152, 3) := dk_182 0 152 (dk_at dksX9_goes_2 0 rfl rfl)
theorem dX9_goes_50 : decode cX9_goes 50 = .ok (.iinc 3 2, 3) := dk_132 3 2 (dk_at dksX9_goes_2 3 rfl rfl)
theorem dX9_goes_53 : decode cX9_goes 53 = .ok (.goto (-41), 3) := dk_167 255 215 (dk_at dksX9_goes_2 6 rfl rfl)
theorem dX9_goes_56 : decode cX9_goes 56 = .ok (.iinc 2 1, 3) := dk_132 2 1 (dk_at dksX9_goes_2 9 rfl rfl)
theorem dX9_goes_59 : decode cX9_goes 59 = .ok (.goto (-57), 3) := dk_167 255 199 (dk_at dksX9_goes_2 12 rfl rfl)
theorem dX9_goes_62 : decode cX9_goes 62 = .ok (.return_, 1) := dk_177 (dk_at dksX9_goes_2 15 rfl rfl)
abbrev cX9_turns : ByteArray := prog_19_method_14_code
def yX9_turns : MethodName := ⟨RX9, "turns", "(II)V"⟩
def dkwX9_turns_3 : List UInt8 := [184, 0, 120, 79, 177]
abbrev dktX9_turns_3 : List UInt8 := dkwX9_turns_3 ++ []
def dkwX9_turns_2 : List UInt8 := [180, 0, 38, 27, 4, 96, 42, 180, 0, 13, 28, 46, 29, 104, 42, 180, 0, 7, 28, 46, 21, 4, 104, 96]
abbrev dktX9_turns_2 : List UInt8 := dkwX9_turns_2 ++ dktX9_turns_3
def dkwX9_turns_1 : List UInt8 := [180, 0, 7, 28, 46, 29, 104, 42, 180, 0, 13, 28, 46, 21, 4, 104, 100, 184, 0, 120, 79, 42]
abbrev dktX9_turns_1 : List UInt8 := dkwX9_turns_1 ++ dktX9_turns_2
def dkwX9_turns_0 : List UInt8 := [42, 180, 0, 38, 27, 46, 62, 42, 180, 0, 38, 27, 4, 96, 46, 54, 4, 42, 180, 0, 38, 27, 42]
abbrev dktX9_turns_0 : List UInt8 := dkwX9_turns_0 ++ dktX9_turns_1
theorem dksX9_turns_0 : cX9_turns.data.toList.drop 0 = dktX9_turns_0 := by decide +kernel
theorem dksX9_turns_1 : cX9_turns.data.toList.drop 23 = dktX9_turns_1 := dk_seg dksX9_turns_0 23 rfl rfl
theorem dksX9_turns_2 : cX9_turns.data.toList.drop 45 = dktX9_turns_2 := dk_seg dksX9_turns_1 22 rfl rfl
theorem dksX9_turns_3 : cX9_turns.data.toList.drop 69 = dktX9_turns_3 := dk_seg dksX9_turns_2 24 rfl rfl
theorem dX9_turns_0 : decode cX9_turns 0 = .ok (.aload_n 0, 1) := dk_42 (dk_at dksX9_turns_0 0 rfl rfl)
theorem dX9_turns_1 : decode cX9_turns 1 = .ok (.getfield 38, 3) := dk_180 0 38 (dk_at dksX9_turns_0 1 rfl rfl)
theorem dX9_turns_4 : decode cX9_turns 4 = .ok (.iload_n 1, 1) := dk_27 (dk_at dksX9_turns_0 4 rfl rfl)
theorem dX9_turns_5 : decode cX9_turns 5 = .ok (.iaload, 1) := dk_46 (dk_at dksX9_turns_0 5 rfl rfl)
theorem dX9_turns_6 : decode cX9_turns 6 = .ok (.istore_n 3, 1) := dk_62 (dk_at dksX9_turns_0 6 rfl rfl)
theorem dX9_turns_7 : decode cX9_turns 7 = .ok (.aload_n 0, 1) := dk_42 (dk_at dksX9_turns_0 7 rfl rfl)
theorem dX9_turns_8 : decode cX9_turns 8 = .ok (.getfield 38, 3) := dk_180 0 38 (dk_at dksX9_turns_0 8 rfl rfl)
theorem dX9_turns_11 : decode cX9_turns 11 = .ok (.iload_n 1, 1) := dk_27 (dk_at dksX9_turns_0 11 rfl rfl)
theorem dX9_turns_12 : decode cX9_turns 12 = .ok (.iconst 1, 1) := dk_4 (dk_at dksX9_turns_0 12 rfl rfl)
theorem dX9_turns_13 : decode cX9_turns 13 = .ok (.iadd, 1) := dk_96 (dk_at dksX9_turns_0 13 rfl rfl)
theorem dX9_turns_14 : decode cX9_turns 14 = .ok (.iaload, 1) := dk_46 (dk_at dksX9_turns_0 14 rfl rfl)
theorem dX9_turns_15 : decode cX9_turns 15 = .ok (.istore 4, 2) := dk_54 4 (dk_at dksX9_turns_0 15 rfl rfl)
theorem dX9_turns_17 : decode cX9_turns 17 = .ok (.aload_n 0, 1) := dk_42 (dk_at dksX9_turns_0 17 rfl rfl)
theorem dX9_turns_18 : decode cX9_turns 18 = .ok (.getfield 38, 3) := dk_180 0 38 (dk_at dksX9_turns_0 18 rfl rfl)
theorem dX9_turns_21 : decode cX9_turns 21 = .ok (.iload_n 1, 1) := dk_27 (dk_at dksX9_turns_0 21 rfl rfl)
theorem dX9_turns_22 : decode cX9_turns 22 = .ok (.aload_n 0, 1) := dk_42 (dk_at dksX9_turns_0 22 rfl rfl)
theorem dX9_turns_23 : decode cX9_turns 23 = .ok (.getfield 7, 3) := dk_180 0 7 (dk_at dksX9_turns_1 0 rfl rfl)
theorem dX9_turns_26 : decode cX9_turns 26 = .ok (.iload_n 2, 1) := dk_28 (dk_at dksX9_turns_1 3 rfl rfl)
theorem dX9_turns_27 : decode cX9_turns 27 = .ok (.iaload, 1) := dk_46 (dk_at dksX9_turns_1 4 rfl rfl)
theorem dX9_turns_28 : decode cX9_turns 28 = .ok (.iload_n 3, 1) := dk_29 (dk_at dksX9_turns_1 5 rfl rfl)
theorem dX9_turns_29 : decode cX9_turns 29 = .ok (.imul, 1) := dk_104 (dk_at dksX9_turns_1 6 rfl rfl)
theorem dX9_turns_30 : decode cX9_turns 30 = .ok (.aload_n 0, 1) := dk_42 (dk_at dksX9_turns_1 7 rfl rfl)
theorem dX9_turns_31 : decode cX9_turns 31 = .ok (.getfield 13, 3) := dk_180 0 13 (dk_at dksX9_turns_1 8 rfl rfl)
theorem dX9_turns_34 : decode cX9_turns 34 = .ok (.iload_n 2, 1) := dk_28 (dk_at dksX9_turns_1 11 rfl rfl)
theorem dX9_turns_35 : decode cX9_turns 35 = .ok (.iaload, 1) := dk_46 (dk_at dksX9_turns_1 12 rfl rfl)
theorem dX9_turns_36 : decode cX9_turns 36 = .ok (.iload 4, 2) := dk_21 4 (dk_at dksX9_turns_1 13 rfl rfl)
theorem dX9_turns_38 : decode cX9_turns 38 = .ok (.imul, 1) := dk_104 (dk_at dksX9_turns_1 15 rfl rfl)
theorem dX9_turns_39 : decode cX9_turns 39 = .ok (.isub, 1) := dk_100 (dk_at dksX9_turns_1 16 rfl rfl)
theorem dX9_turns_40 : decode cX9_turns 40 = .ok (.invokestatic 120, 3) := dk_184 0 120 (dk_at dksX9_turns_1 17 rfl rfl)
theorem dX9_turns_43 : decode cX9_turns 43 = .ok (.iastore, 1) := dk_79 (dk_at dksX9_turns_1 20 rfl rfl)
theorem dX9_turns_44 : decode cX9_turns 44 = .ok (.aload_n 0, 1) := dk_42 (dk_at dksX9_turns_1 21 rfl rfl)
theorem dX9_turns_45 : decode cX9_turns 45 = .ok (.getfield 38, 3) := dk_180 0 38 (dk_at dksX9_turns_2 0 rfl rfl)
theorem dX9_turns_48 : decode cX9_turns 48 = .ok (.iload_n 1, 1) := dk_27 (dk_at dksX9_turns_2 3 rfl rfl)
theorem dX9_turns_49 : decode cX9_turns 49 = .ok (.iconst 1, 1) := dk_4 (dk_at dksX9_turns_2 4 rfl rfl)
theorem dX9_turns_50 : decode cX9_turns 50 = .ok (.iadd, 1) := dk_96 (dk_at dksX9_turns_2 5 rfl rfl)
theorem dX9_turns_51 : decode cX9_turns 51 = .ok (.aload_n 0, 1) := dk_42 (dk_at dksX9_turns_2 6 rfl rfl)
theorem dX9_turns_52 : decode cX9_turns 52 = .ok (.getfield 13, 3) := dk_180 0 13 (dk_at dksX9_turns_2 7 rfl rfl)
theorem dX9_turns_55 : decode cX9_turns 55 = .ok (.iload_n 2, 1) := dk_28 (dk_at dksX9_turns_2 10 rfl rfl)
theorem dX9_turns_56 : decode cX9_turns 56 = .ok (.iaload, 1) := dk_46 (dk_at dksX9_turns_2 11 rfl rfl)
theorem dX9_turns_57 : decode cX9_turns 57 = .ok (.iload_n 3, 1) := dk_29 (dk_at dksX9_turns_2 12 rfl rfl)
theorem dX9_turns_58 : decode cX9_turns 58 = .ok (.imul, 1) := dk_104 (dk_at dksX9_turns_2 13 rfl rfl)
theorem dX9_turns_59 : decode cX9_turns 59 = .ok (.aload_n 0, 1) := dk_42 (dk_at dksX9_turns_2 14 rfl rfl)
theorem dX9_turns_60 : decode cX9_turns 60 = .ok (.getfield 7, 3) := dk_180 0 7 (dk_at dksX9_turns_2 15 rfl rfl)
theorem dX9_turns_63 : decode cX9_turns 63 = .ok (.iload_n 2, 1) := dk_28 (dk_at dksX9_turns_2 18 rfl rfl)
theorem dX9_turns_64 : decode cX9_turns 64 = .ok (.iaload, 1) := dk_46 (dk_at dksX9_turns_2 19 rfl rfl)
theorem dX9_turns_65 : decode cX9_turns 65 = .ok (.iload 4, 2) := dk_21 4 (dk_at dksX9_turns_2 20 rfl rfl)
theorem dX9_turns_67 : decode cX9_turns 67 = .ok (.imul, 1) := dk_104 (dk_at dksX9_turns_2 22 rfl rfl)
theorem dX9_turns_68 : decode cX9_turns 68 = .ok (.iadd, 1) := dk_96 (dk_at dksX9_turns_2 23 rfl rfl)
theorem dX9_turns_69 : decode cX9_turns 69 = .ok (.invokestatic 120, 3) := dk_184 0 120 (dk_at dksX9_turns_3 0 rfl rfl)
theorem dX9_turns_72 : decode cX9_turns 72 = .ok (.iastore, 1) := dk_79 (dk_at dksX9_turns_3 3 rfl rfl)
theorem dX9_turns_73 : decode cX9_turns 73 = .ok (.return_, 1) := dk_177 (dk_at dksX9_turns_3 4 rfl rfl)
abbrev cX9_entry : ByteArray := prog_19_method_20_code
def yX9_entry : MethodName := ⟨RX9, "entry", "(III)I"⟩
def dkwX9_entry_2 : List UInt8 := [180, 0, 41, 16, 6, 27, 104, 28, 96, 29, 79, 21, 4, 172]
abbrev dktX9_entry_2 : List UInt8 := dkwX9_entry_2 ++ []
def dkwX9_entry_1 : List UInt8 := [184, 0, 126, 154, 0, 6, 16, 254, 172, 42, 180, 0, 41, 16, 6, 27, 104, 28, 96, 46, 54, 4, 42]
abbrev dktX9_entry_1 : List UInt8 := dkwX9_entry_1 ++ dktX9_entry_2
def dkwX9_entry_0 : List UInt8 := [42, 27, 182, 0, 159, 153, 0, 11, 42, 28, 182, 0, 159, 154, 0, 5, 2, 172, 29, 133, 9, 20, 0, 171]
abbrev dktX9_entry_0 : List UInt8 := dkwX9_entry_0 ++ dktX9_entry_1
theorem dksX9_entry_0 : cX9_entry.data.toList.drop 0 = dktX9_entry_0 := by decide +kernel
theorem dksX9_entry_1 : cX9_entry.data.toList.drop 24 = dktX9_entry_1 := dk_seg dksX9_entry_0 24 rfl rfl
theorem dksX9_entry_2 : cX9_entry.data.toList.drop 47 = dktX9_entry_2 := dk_seg dksX9_entry_1 23 rfl rfl
theorem dX9_entry_0 : decode cX9_entry 0 = .ok (.aload_n 0, 1) := dk_42 (dk_at dksX9_entry_0 0 rfl rfl)
theorem dX9_entry_1 : decode cX9_entry 1 = .ok (.iload_n 1, 1) := dk_27 (dk_at dksX9_entry_0 1 rfl rfl)
theorem dX9_entry_2 : decode cX9_entry 2 = .ok (.invokevirtual 159, 3) := dk_182 0 159 (dk_at dksX9_entry_0 2 rfl rfl)
theorem dX9_entry_5 : decode cX9_entry 5 = .ok (.ifCond .eq 11, 3) := dk_153 0 11 (dk_at dksX9_entry_0 5 rfl rfl)
theorem dX9_entry_8 : decode cX9_entry 8 = .ok (.aload_n 0, 1) := dk_42 (dk_at dksX9_entry_0 8 rfl rfl)
theorem dX9_entry_9 : decode cX9_entry 9 = .ok (.iload_n 2, 1) := dk_28 (dk_at dksX9_entry_0 9 rfl rfl)
theorem dX9_entry_10 : decode cX9_entry 10 = .ok (.invokevirtual 159, 3) := dk_182 0 159 (dk_at dksX9_entry_0 10 rfl rfl)
theorem dX9_entry_13 : decode cX9_entry 13 = .ok (.ifCond .ne 5, 3) := dk_154 0 5 (dk_at dksX9_entry_0 13 rfl rfl)
theorem dX9_entry_16 : decode cX9_entry 16 = .ok (.iconst (-1), 1) := dk_2 (dk_at dksX9_entry_0 16 rfl rfl)
theorem dX9_entry_17 : decode cX9_entry 17 = .ok (.ireturn, 1) := dk_172 (dk_at dksX9_entry_0 17 rfl rfl)
theorem dX9_entry_18 : decode cX9_entry 18 = .ok (.iload_n 3, 1) := dk_29 (dk_at dksX9_entry_0 18 rfl rfl)
theorem dX9_entry_19 : decode cX9_entry 19 = .ok (.i2l, 1) := dk_133 (dk_at dksX9_entry_0 19 rfl rfl)
theorem dX9_entry_20 : decode cX9_entry 20 = .ok (.lconst 0, 1) := dk_9 (dk_at dksX9_entry_0 20 rfl rfl)
theorem dX9_entry_21 : decode cX9_entry 21 = .ok (.ldc2_w 171, 3) := dk_20 0 171 (dk_at dksX9_entry_0 21 rfl rfl)
theorem dX9_entry_24 : decode cX9_entry 24 = .ok (.invokestatic 126, 3) := dk_184 0 126 (dk_at dksX9_entry_1 0 rfl rfl)
theorem dX9_entry_27 : decode cX9_entry 27 = .ok (.ifCond .ne 6, 3) := dk_154 0 6 (dk_at dksX9_entry_1 3 rfl rfl)
theorem dX9_entry_30 : decode cX9_entry 30 = .ok (.bipush (-2), 2) := dk_16 254 (dk_at dksX9_entry_1 6 rfl rfl)
theorem dX9_entry_32 : decode cX9_entry 32 = .ok (.ireturn, 1) := dk_172 (dk_at dksX9_entry_1 8 rfl rfl)
theorem dX9_entry_33 : decode cX9_entry 33 = .ok (.aload_n 0, 1) := dk_42 (dk_at dksX9_entry_1 9 rfl rfl)
theorem dX9_entry_34 : decode cX9_entry 34 = .ok (.getfield 41, 3) := dk_180 0 41 (dk_at dksX9_entry_1 10 rfl rfl)
theorem dX9_entry_37 : decode cX9_entry 37 = .ok (.bipush 6, 2) := dk_16 6 (dk_at dksX9_entry_1 13 rfl rfl)
theorem dX9_entry_39 : decode cX9_entry 39 = .ok (.iload_n 1, 1) := dk_27 (dk_at dksX9_entry_1 15 rfl rfl)
theorem dX9_entry_40 : decode cX9_entry 40 = .ok (.imul, 1) := dk_104 (dk_at dksX9_entry_1 16 rfl rfl)
theorem dX9_entry_41 : decode cX9_entry 41 = .ok (.iload_n 2, 1) := dk_28 (dk_at dksX9_entry_1 17 rfl rfl)
theorem dX9_entry_42 : decode cX9_entry 42 = .ok (.iadd, 1) := dk_96 (dk_at dksX9_entry_1 18 rfl rfl)
theorem dX9_entry_43 : decode cX9_entry 43 = .ok (.iaload, 1) := dk_46 (dk_at dksX9_entry_1 19 rfl rfl)
theorem dX9_entry_44 : decode cX9_entry 44 = .ok (.istore 4, 2) := dk_54 4 (dk_at dksX9_entry_1 20 rfl rfl)
theorem dX9_entry_46 : decode cX9_entry 46 = .ok (.aload_n 0, 1) := dk_42 (dk_at dksX9_entry_1 22 rfl rfl)
theorem dX9_entry_47 : decode cX9_entry 47 = .ok (.getfield 41, 3) := dk_180 0 41 (dk_at dksX9_entry_2 0 rfl rfl)
theorem dX9_entry_50 : decode cX9_entry 50 = .ok (.bipush 6, 2) := dk_16 6 (dk_at dksX9_entry_2 3 rfl rfl)
theorem dX9_entry_52 : decode cX9_entry 52 = .ok (.iload_n 1, 1) := dk_27 (dk_at dksX9_entry_2 5 rfl rfl)
theorem dX9_entry_53 : decode cX9_entry 53 = .ok (.imul, 1) := dk_104 (dk_at dksX9_entry_2 6 rfl rfl)
theorem dX9_entry_54 : decode cX9_entry 54 = .ok (.iload_n 2, 1) := dk_28 (dk_at dksX9_entry_2 7 rfl rfl)
theorem dX9_entry_55 : decode cX9_entry 55 = .ok (.iadd, 1) := dk_96 (dk_at dksX9_entry_2 8 rfl rfl)
theorem dX9_entry_56 : decode cX9_entry 56 = .ok (.iload_n 3, 1) := dk_29 (dk_at dksX9_entry_2 9 rfl rfl)
theorem dX9_entry_57 : decode cX9_entry 57 = .ok (.iastore, 1) := dk_79 (dk_at dksX9_entry_2 10 rfl rfl)
theorem dX9_entry_58 : decode cX9_entry 58 = .ok (.iload 4, 2) := dk_21 4 (dk_at dksX9_entry_2 11 rfl rfl)
theorem dX9_entry_60 : decode cX9_entry 60 = .ok (.ireturn, 1) := dk_172 (dk_at dksX9_entry_2 13 rfl rfl)
abbrev cX9_take : ByteArray := prog_19_method_21_code
def yX9_take : MethodName := ⟨RX9, "take", "()I"⟩
def dkwX9_take_3 : List UInt8 := [132, 2, 1, 167, 255, 186, 27, 172]
abbrev dktX9_take_3 : List UInt8 := dkwX9_take_3 ++ []
def dkwX9_take_2 : List UInt8 := [167, 0, 4, 27, 60, 42, 180, 0, 41, 16, 6, 29, 104, 28, 96, 21, 4, 79, 132, 3, 1, 167, 255, 202]
abbrev dktX9_take_2 : List UInt8 := dkwX9_take_2 ++ dktX9_take_3
def dkwX9_take_1 : List UInt8 := [28, 182, 0, 173, 54, 4, 42, 180, 0, 41, 16, 6, 29, 104, 28, 96, 46, 21, 4, 159, 0, 7, 4]
abbrev dktX9_take_1 : List UInt8 := dkwX9_take_1 ++ dktX9_take_2
def dkwX9_take_0 : List UInt8 := [3, 60, 3, 61, 28, 42, 180, 0, 117, 162, 0, 68, 3, 62, 29, 42, 180, 0, 117, 162, 0, 52, 42, 29]
abbrev dktX9_take_0 : List UInt8 := dkwX9_take_0 ++ dktX9_take_1
theorem dksX9_take_0 : cX9_take.data.toList.drop 0 = dktX9_take_0 := by decide +kernel
theorem dksX9_take_1 : cX9_take.data.toList.drop 24 = dktX9_take_1 := dk_seg dksX9_take_0 24 rfl rfl
theorem dksX9_take_2 : cX9_take.data.toList.drop 47 = dktX9_take_2 := dk_seg dksX9_take_1 23 rfl rfl
theorem dksX9_take_3 : cX9_take.data.toList.drop 71 = dktX9_take_3 := dk_seg dksX9_take_2 24 rfl rfl
theorem dX9_take_0 : decode cX9_take 0 = .ok (.iconst 0, 1) := dk_3 (dk_at dksX9_take_0 0 rfl rfl)
theorem dX9_take_1 : decode cX9_take 1 = .ok (.istore_n 1, 1) := dk_60 (dk_at dksX9_take_0 1 rfl rfl)
theorem dX9_take_2 : decode cX9_take 2 = .ok (.iconst 0, 1) := dk_3 (dk_at dksX9_take_0 2 rfl rfl)
theorem dX9_take_3 : decode cX9_take 3 = .ok (.istore_n 2, 1) := dk_61 (dk_at dksX9_take_0 3 rfl rfl)
theorem dX9_take_4 : decode cX9_take 4 = .ok (.iload_n 2, 1) := dk_28 (dk_at dksX9_take_0 4 rfl rfl)
theorem dX9_take_5 : decode cX9_take 5 = .ok (.aload_n 0, 1) := dk_42 (dk_at dksX9_take_0 5 rfl rfl)
theorem dX9_take_6 : decode cX9_take 6 = .ok (.getfield 117, 3) := dk_180 0 117 (dk_at dksX9_take_0 6 rfl rfl)
theorem dX9_take_9 : decode cX9_take 9 = .ok (.if_icmp .ge 68, 3) := dk_162 0 68 (dk_at dksX9_take_0 9 rfl rfl)
theorem dX9_take_12 : decode cX9_take 12 = .ok (.iconst 0, 1) := dk_3 (dk_at dksX9_take_0 12 rfl rfl)
theorem dX9_take_13 : decode cX9_take 13 = .ok (.istore_n 3, 1) := dk_62 (dk_at dksX9_take_0 13 rfl rfl)
theorem dX9_take_14 : decode cX9_take 14 = .ok (.iload_n 3, 1) := dk_29 (dk_at dksX9_take_0 14 rfl rfl)
theorem dX9_take_15 : decode cX9_take 15 = .ok (.aload_n 0, 1) := dk_42 (dk_at dksX9_take_0 15 rfl rfl)
theorem dX9_take_16 : decode cX9_take 16 = .ok (.getfield 117, 3) := dk_180 0 117 (dk_at dksX9_take_0 16 rfl rfl)
theorem dX9_take_19 : decode cX9_take 19 = .ok (.if_icmp .ge 52, 3) := dk_162 0 52 (dk_at dksX9_take_0 19 rfl rfl)
theorem dX9_take_22 : decode cX9_take 22 = .ok (.aload_n 0, 1) := dk_42 (dk_at dksX9_take_0 22 rfl rfl)
theorem dX9_take_23 : decode cX9_take 23 = .ok (.iload_n 3, 1) := dk_29 (dk_at dksX9_take_0 23 rfl rfl)
theorem dX9_take_24 : decode cX9_take 24 = .ok (.iload_n 2, 1) := dk_28 (dk_at dksX9_take_1 0 rfl rfl)
theorem dX9_take_25 : decode cX9_take 25 = .ok (.invokevirtual 173, 3) := dk_182 0 173 (dk_at dksX9_take_1 1 rfl rfl)
theorem dX9_take_28 : decode cX9_take 28 = .ok (.istore 4, 2) := dk_54 4 (dk_at dksX9_take_1 4 rfl rfl)
theorem dX9_take_30 : decode cX9_take 30 = .ok (.aload_n 0, 1) := dk_42 (dk_at dksX9_take_1 6 rfl rfl)
theorem dX9_take_31 : decode cX9_take 31 = .ok (.getfield 41, 3) := dk_180 0 41 (dk_at dksX9_take_1 7 rfl rfl)
theorem dX9_take_34 : decode cX9_take 34 = .ok (.bipush 6, 2) := dk_16 6 (dk_at dksX9_take_1 10 rfl rfl)
theorem dX9_take_36 : decode cX9_take 36 = .ok (.iload_n 3, 1) := dk_29 (dk_at dksX9_take_1 12 rfl rfl)
theorem dX9_take_37 : decode cX9_take 37 = .ok (.imul, 1) := dk_104 (dk_at dksX9_take_1 13 rfl rfl)
theorem dX9_take_38 : decode cX9_take 38 = .ok (.iload_n 2, 1) := dk_28 (dk_at dksX9_take_1 14 rfl rfl)
theorem dX9_take_39 : decode cX9_take 39 = .ok (.iadd, 1) := dk_96 (dk_at dksX9_take_1 15 rfl rfl)
theorem dX9_take_40 : decode cX9_take 40 = .ok (.iaload, 1) := dk_46 (dk_at dksX9_take_1 16 rfl rfl)
theorem dX9_take_41 : decode cX9_take 41 = .ok (.iload 4, 2) := dk_21 4 (dk_at dksX9_take_1 17 rfl rfl)
theorem dX9_take_43 : decode cX9_take 43 = .ok (.if_icmp .eq 7, 3) := dk_159 0 7 (dk_at dksX9_take_1 19 rfl rfl)
theorem dX9_take_46 : decode cX9_take 46 = .ok (.iconst 1, 1) := dk_4 (dk_at dksX9_take_1 22 rfl rfl)
theorem dX9_take_47 : decode cX9_take 47 = .ok (.goto 4, 3) := dk_167 0 4 (dk_at dksX9_take_2 0 rfl rfl)
theorem dX9_take_50 : decode cX9_take 50 = .ok (.iload_n 1, 1) := dk_27 (dk_at dksX9_take_2 3 rfl rfl)
theorem dX9_take_51 : decode cX9_take 51 = .ok (.istore_n 1, 1) := dk_60 (dk_at dksX9_take_2 4 rfl rfl)
theorem dX9_take_52 : decode cX9_take 52 = .ok (.aload_n 0, 1) := dk_42 (dk_at dksX9_take_2 5 rfl rfl)
theorem dX9_take_53 : decode cX9_take 53 = .ok (.getfield 41, 3) := dk_180 0 41 (dk_at dksX9_take_2 6 rfl rfl)
theorem dX9_take_56 : decode cX9_take 56 = .ok (.bipush 6, 2) := dk_16 6 (dk_at dksX9_take_2 9 rfl rfl)
theorem dX9_take_58 : decode cX9_take 58 = .ok (.iload_n 3, 1) := dk_29 (dk_at dksX9_take_2 11 rfl rfl)
theorem dX9_take_59 : decode cX9_take 59 = .ok (.imul, 1) := dk_104 (dk_at dksX9_take_2 12 rfl rfl)
theorem dX9_take_60 : decode cX9_take 60 = .ok (.iload_n 2, 1) := dk_28 (dk_at dksX9_take_2 13 rfl rfl)
theorem dX9_take_61 : decode cX9_take 61 = .ok (.iadd, 1) := dk_96 (dk_at dksX9_take_2 14 rfl rfl)
theorem dX9_take_62 : decode cX9_take 62 = .ok (.iload 4, 2) := dk_21 4 (dk_at dksX9_take_2 15 rfl rfl)
theorem dX9_take_64 : decode cX9_take 64 = .ok (.iastore, 1) := dk_79 (dk_at dksX9_take_2 17 rfl rfl)
theorem dX9_take_65 : decode cX9_take 65 = .ok (.iinc 3 1, 3) := dk_132 3 1 (dk_at dksX9_take_2 18 rfl rfl)
theorem dX9_take_68 : decode cX9_take 68 = .ok (.goto (-54), 3) := dk_167 255 202 (dk_at dksX9_take_2 21 rfl rfl)
theorem dX9_take_71 : decode cX9_take 71 = .ok (.iinc 2 1, 3) := dk_132 2 1 (dk_at dksX9_take_3 0 rfl rfl)
theorem dX9_take_74 : decode cX9_take 74 = .ok (.goto (-70), 3) := dk_167 255 186 (dk_at dksX9_take_3 3 rfl rfl)
theorem dX9_take_77 : decode cX9_take 77 = .ok (.iload_n 1, 1) := dk_27 (dk_at dksX9_take_3 6 rfl rfl)
theorem dX9_take_78 : decode cX9_take 78 = .ok (.ireturn, 1) := dk_172 (dk_at dksX9_take_3 7 rfl rfl)
abbrev cX9_right : ByteArray := prog_19_method_22_code
def yX9_right : MethodName := ⟨RX9, "right", "()I"⟩
def dkwX9_right_4 : List UInt8 := [132, 1, 1, 167, 255, 162, 4, 172]
abbrev dktX9_right_4 : List UInt8 := dkwX9_right_4 ++ []
def dkwX9_right_3 : List UInt8 := [112, 27, 28, 160, 0, 7, 4, 167, 0, 4, 3, 159, 0, 5, 3, 172, 132, 2, 1, 167, 255, 178]
abbrev dktX9_right_3 : List UInt8 := dkwX9_right_3 ++ dktX9_right_4
def dkwX9_right_2 : List UInt8 := [42, 180, 0, 41, 16, 6, 21, 4, 104, 28, 96, 46, 104, 96, 62, 132, 4, 1, 167, 255, 216, 29, 16, 97]
abbrev dktX9_right_2 : List UInt8 := dkwX9_right_2 ++ dktX9_right_3
def dkwX9_right_1 : List UInt8 := [54, 4, 21, 4, 42, 180, 0, 117, 162, 0, 37, 29, 42, 180, 0, 41, 16, 6, 21, 4, 104, 27, 96, 46]
abbrev dktX9_right_1 : List UInt8 := dkwX9_right_1 ++ dktX9_right_2
def dkwX9_right_0 : List UInt8 := [3, 60, 27, 42, 180, 0, 117, 162, 0, 92, 3, 61, 28, 42, 180, 0, 117, 162, 0, 76, 3, 62, 3]
abbrev dktX9_right_0 : List UInt8 := dkwX9_right_0 ++ dktX9_right_1
theorem dksX9_right_0 : cX9_right.data.toList.drop 0 = dktX9_right_0 := by decide +kernel
theorem dksX9_right_1 : cX9_right.data.toList.drop 23 = dktX9_right_1 := dk_seg dksX9_right_0 23 rfl rfl
theorem dksX9_right_2 : cX9_right.data.toList.drop 47 = dktX9_right_2 := dk_seg dksX9_right_1 24 rfl rfl
theorem dksX9_right_3 : cX9_right.data.toList.drop 71 = dktX9_right_3 := dk_seg dksX9_right_2 24 rfl rfl
theorem dksX9_right_4 : cX9_right.data.toList.drop 93 = dktX9_right_4 := dk_seg dksX9_right_3 22 rfl rfl
theorem dX9_right_0 : decode cX9_right 0 = .ok (.iconst 0, 1) := dk_3 (dk_at dksX9_right_0 0 rfl rfl)
theorem dX9_right_1 : decode cX9_right 1 = .ok (.istore_n 1, 1) := dk_60 (dk_at dksX9_right_0 1 rfl rfl)
theorem dX9_right_2 : decode cX9_right 2 = .ok (.iload_n 1, 1) := dk_27 (dk_at dksX9_right_0 2 rfl rfl)
theorem dX9_right_3 : decode cX9_right 3 = .ok (.aload_n 0, 1) := dk_42 (dk_at dksX9_right_0 3 rfl rfl)
theorem dX9_right_4 : decode cX9_right 4 = .ok (.getfield 117, 3) := dk_180 0 117 (dk_at dksX9_right_0 4 rfl rfl)
theorem dX9_right_7 : decode cX9_right 7 = .ok (.if_icmp .ge 92, 3) := dk_162 0 92 (dk_at dksX9_right_0 7 rfl rfl)
theorem dX9_right_10 : decode cX9_right 10 = .ok (.iconst 0, 1) := dk_3 (dk_at dksX9_right_0 10 rfl rfl)
theorem dX9_right_11 : decode cX9_right 11 = .ok (.istore_n 2, 1) := dk_61 (dk_at dksX9_right_0 11 rfl rfl)
theorem dX9_right_12 : decode cX9_right 12 = .ok (.iload_n 2, 1) := dk_28 (dk_at dksX9_right_0 12 rfl rfl)
theorem dX9_right_13 : decode cX9_right 13 = .ok (.aload_n 0, 1) := dk_42 (dk_at dksX9_right_0 13 rfl rfl)
theorem dX9_right_14 : decode cX9_right 14 = .ok (.getfield 117, 3) := dk_180 0 117 (dk_at dksX9_right_0 14 rfl rfl)
theorem dX9_right_17 : decode cX9_right 17 = .ok (.if_icmp .ge 76, 3) := dk_162 0 76 (dk_at dksX9_right_0 17 rfl rfl)
theorem dX9_right_20 : decode cX9_right 20 = .ok (.iconst 0, 1) := dk_3 (dk_at dksX9_right_0 20 rfl rfl)
theorem dX9_right_21 : decode cX9_right 21 = .ok (.istore_n 3, 1) := dk_62 (dk_at dksX9_right_0 21 rfl rfl)
theorem dX9_right_22 : decode cX9_right 22 = .ok (.iconst 0, 1) := dk_3 (dk_at dksX9_right_0 22 rfl rfl)
theorem dX9_right_23 : decode cX9_right 23 = .ok (.istore 4, 2) := dk_54 4 (dk_at dksX9_right_1 0 rfl rfl)
theorem dX9_right_25 : decode cX9_right 25 = .ok (.iload 4, 2) := dk_21 4 (dk_at dksX9_right_1 2 rfl rfl)
theorem dX9_right_27 : decode cX9_right 27 = .ok (.aload_n 0, 1) := dk_42 (dk_at dksX9_right_1 4 rfl rfl)
theorem dX9_right_28 : decode cX9_right 28 = .ok (.getfield 117, 3) := dk_180 0 117 (dk_at dksX9_right_1 5 rfl rfl)
theorem dX9_right_31 : decode cX9_right 31 = .ok (.if_icmp .ge 37, 3) := dk_162 0 37 (dk_at dksX9_right_1 8 rfl rfl)
theorem dX9_right_34 : decode cX9_right 34 = .ok (.iload_n 3, 1) := dk_29 (dk_at dksX9_right_1 11 rfl rfl)
theorem dX9_right_35 : decode cX9_right 35 = .ok (.aload_n 0, 1) := dk_42 (dk_at dksX9_right_1 12 rfl rfl)
theorem dX9_right_36 : decode cX9_right 36 = .ok (.getfield 41, 3) := dk_180 0 41 (dk_at dksX9_right_1 13 rfl rfl)
theorem dX9_right_39 : decode cX9_right 39 = .ok (.bipush 6, 2) := dk_16 6 (dk_at dksX9_right_1 16 rfl rfl)
theorem dX9_right_41 : decode cX9_right 41 = .ok (.iload 4, 2) := dk_21 4 (dk_at dksX9_right_1 18 rfl rfl)
theorem dX9_right_43 : decode cX9_right 43 = .ok (.imul, 1) := dk_104 (dk_at dksX9_right_1 20 rfl rfl)
theorem dX9_right_44 : decode cX9_right 44 = .ok (.iload_n 1, 1) := dk_27 (dk_at dksX9_right_1 21 rfl rfl)
theorem dX9_right_45 : decode cX9_right 45 = .ok (.iadd, 1) := dk_96 (dk_at dksX9_right_1 22 rfl rfl)
theorem dX9_right_46 : decode cX9_right 46 = .ok (.iaload, 1) := dk_46 (dk_at dksX9_right_1 23 rfl rfl)
theorem dX9_right_47 : decode cX9_right 47 = .ok (.aload_n 0, 1) := dk_42 (dk_at dksX9_right_2 0 rfl rfl)
theorem dX9_right_48 : decode cX9_right 48 = .ok (.getfield 41, 3) := dk_180 0 41 (dk_at dksX9_right_2 1 rfl rfl)
theorem dX9_right_51 : decode cX9_right 51 = .ok (.bipush 6, 2) := dk_16 6 (dk_at dksX9_right_2 4 rfl rfl)
theorem dX9_right_53 : decode cX9_right 53 = .ok (.iload 4, 2) := dk_21 4 (dk_at dksX9_right_2 6 rfl rfl)
theorem dX9_right_55 : decode cX9_right 55 = .ok (.imul, 1) := dk_104 (dk_at dksX9_right_2 8 rfl rfl)
theorem dX9_right_56 : decode cX9_right 56 = .ok (.iload_n 2, 1) := dk_28 (dk_at dksX9_right_2 9 rfl rfl)
theorem dX9_right_57 : decode cX9_right 57 = .ok (.iadd, 1) := dk_96 (dk_at dksX9_right_2 10 rfl rfl)
theorem dX9_right_58 : decode cX9_right 58 = .ok (.iaload, 1) := dk_46 (dk_at dksX9_right_2 11 rfl rfl)
theorem dX9_right_59 : decode cX9_right 59 = .ok (.imul, 1) := dk_104 (dk_at dksX9_right_2 12 rfl rfl)
theorem dX9_right_60 : decode cX9_right 60 = .ok (.iadd, 1) := dk_96 (dk_at dksX9_right_2 13 rfl rfl)
theorem dX9_right_61 : decode cX9_right 61 = .ok (.istore_n 3, 1) := dk_62 (dk_at dksX9_right_2 14 rfl rfl)
theorem dX9_right_62 : decode cX9_right 62 = .ok (.iinc 4 1, 3) := dk_132 4 1 (dk_at dksX9_right_2 15 rfl rfl)
theorem dX9_right_65 : decode cX9_right 65 = .ok (.goto (-40), 3) := dk_167 255 216 (dk_at dksX9_right_2 18 rfl rfl)
theorem dX9_right_68 : decode cX9_right 68 = .ok (.iload_n 3, 1) := dk_29 (dk_at dksX9_right_2 21 rfl rfl)
theorem dX9_right_69 : decode cX9_right 69 = .ok (.bipush 97, 2) := dk_16 97 (dk_at dksX9_right_2 22 rfl rfl)
theorem dX9_right_71 : decode cX9_right 71 = .ok (.irem, 1) := dk_112 (dk_at dksX9_right_3 0 rfl rfl)
theorem dX9_right_72 : decode cX9_right 72 = .ok (.iload_n 1, 1) := dk_27 (dk_at dksX9_right_3 1 rfl rfl)
theorem dX9_right_73 : decode cX9_right 73 = .ok (.iload_n 2, 1) := dk_28 (dk_at dksX9_right_3 2 rfl rfl)
theorem dX9_right_74 : decode cX9_right 74 = .ok (.if_icmp .ne 7, 3) := dk_160 0 7 (dk_at dksX9_right_3 3 rfl rfl)
theorem dX9_right_77 : decode cX9_right 77 = .ok (.iconst 1, 1) := dk_4 (dk_at dksX9_right_3 6 rfl rfl)
theorem dX9_right_78 : decode cX9_right 78 = .ok (.goto 4, 3) := dk_167 0 4 (dk_at dksX9_right_3 7 rfl rfl)
theorem dX9_right_81 : decode cX9_right 81 = .ok (.iconst 0, 1) := dk_3 (dk_at dksX9_right_3 10 rfl rfl)
theorem dX9_right_82 : decode cX9_right 82 = .ok (.if_icmp .eq 5, 3) := dk_159 0 5 (dk_at dksX9_right_3 11 rfl rfl)
theorem dX9_right_85 : decode cX9_right 85 = .ok (.iconst 0, 1) := dk_3 (dk_at dksX9_right_3 14 rfl rfl)
theorem dX9_right_86 : decode cX9_right 86 = .ok (.ireturn, 1) := dk_172 (dk_at dksX9_right_3 15 rfl rfl)
theorem dX9_right_87 : decode cX9_right 87 = .ok (.iinc 2 1, 3) := dk_132 2 1 (dk_at dksX9_right_3 16 rfl rfl)
theorem dX9_right_90 : decode cX9_right 90 = .ok (.goto (-78), 3) := dk_167 255 178 (dk_at dksX9_right_3 19 rfl rfl)
theorem dX9_right_93 : decode cX9_right 93 = .ok (.iinc 1 1, 3) := dk_132 1 1 (dk_at dksX9_right_4 0 rfl rfl)
theorem dX9_right_96 : decode cX9_right 96 = .ok (.goto (-94), 3) := dk_167 255 162 (dk_at dksX9_right_4 3 rfl rfl)
theorem dX9_right_99 : decode cX9_right 99 = .ok (.iconst 1, 1) := dk_4 (dk_at dksX9_right_4 6 rfl rfl)
theorem dX9_right_100 : decode cX9_right 100 = .ok (.ireturn, 1) := dk_172 (dk_at dksX9_right_4 7 rfl rfl)
abbrev cX9_split : ByteArray := prog_19_method_24_code
def yX9_split : MethodName := ⟨RX9, "split", "()I"⟩
def dkwX9_split_13 : List UInt8 := [167, 255, 230, 42, 180, 0, 176, 172]
abbrev dktX9_split_13 : List UInt8 := dkwX9_split_13 ++ []
def dkwX9_split_12 : List UInt8 := [180, 0, 117, 162, 0, 24, 42, 180, 0, 53, 27, 42, 180, 0, 44, 16, 7, 27, 104, 46, 79, 132, 1, 1]
abbrev dktX9_split_12 : List UInt8 := dkwX9_split_12 ++ dktX9_split_13
def dkwX9_split_11 : List UInt8 := [180, 0, 176, 4, 96, 181, 0, 176, 132, 2, 255, 167, 255, 50, 132, 1, 1, 167, 255, 27, 3, 60, 27, 42]
abbrev dktX9_split_11 : List UInt8 := dkwX9_split_11 ++ dktX9_split_12
def dkwX9_split_10 : List UInt8 := [180, 0, 47, 42, 180, 0, 176, 28, 4, 100, 79, 42, 180, 0, 50, 42, 180, 0, 176, 29, 79, 42, 89]
abbrev dktX9_split_10 : List UInt8 := dkwX9_split_10 ++ dktX9_split_11
def dkwX9_split_9 : List UInt8 := [104, 42, 180, 0, 7, 29, 46, 21, 6, 104, 96, 184, 0, 120, 79, 132, 4, 1, 167, 255, 144, 42]
abbrev dktX9_split_9 : List UInt8 := dkwX9_split_9 ++ dktX9_split_10
def dkwX9_split_8 : List UInt8 := [100, 184, 0, 120, 79, 42, 180, 0, 44, 16, 6, 28, 104, 21, 4, 96, 42, 180, 0, 13, 29, 46, 21, 5]
abbrev dktX9_split_8 : List UInt8 := dkwX9_split_8 ++ dktX9_split_9
def dkwX9_split_7 : List UInt8 := [4, 100, 104, 21, 4, 96, 42, 180, 0, 7, 29, 46, 21, 5, 104, 42, 180, 0, 13, 29, 46, 21, 6, 104]
abbrev dktX9_split_7 : List UInt8 := dkwX9_split_7 ++ dktX9_split_8
def dkwX9_split_6 : List UInt8 := [46, 54, 5, 42, 180, 0, 44, 16, 6, 28, 104, 21, 4, 96, 46, 54, 6, 42, 180, 0, 44, 16, 6, 28]
abbrev dktX9_split_6 : List UInt8 := dkwX9_split_6 ++ dktX9_split_7
def dkwX9_split_5 : List UInt8 := [54, 4, 21, 4, 42, 180, 0, 117, 162, 0, 109, 42, 180, 0, 44, 16, 6, 28, 4, 100, 104, 21, 4, 96]
abbrev dktX9_split_5 : List UInt8 := dkwX9_split_5 ++ dktX9_split_6
def dkwX9_split_4 : List UInt8 := [182, 0, 186, 62, 29, 16, 96, 160, 0, 16, 42, 4, 181, 0, 183, 16, 246, 42, 180, 0, 176, 100, 172, 3]
abbrev dktX9_split_4 : List UInt8 := dkwX9_split_4 ++ dktX9_split_5
def dkwX9_split_3 : List UInt8 := [180, 0, 44, 16, 6, 28, 4, 100, 104, 27, 96, 46, 42, 180, 0, 44, 16, 6, 28, 104, 27, 96, 46]
abbrev dktX9_split_3 : List UInt8 := dkwX9_split_3 ++ dktX9_split_4
def dkwX9_split_2 : List UInt8 := [180, 0, 117, 4, 100, 162, 0, 225, 42, 180, 0, 117, 4, 100, 61, 28, 27, 164, 0, 207, 42, 42]
abbrev dktX9_split_2 : List UInt8 := dkwX9_split_2 ++ dktX9_split_3
def dkwX9_split_1 : List UInt8 := [167, 255, 235, 42, 3, 181, 0, 176, 42, 4, 181, 0, 179, 42, 3, 181, 0, 183, 3, 60, 27, 42]
abbrev dktX9_split_1 : List UInt8 := dkwX9_split_1 ++ dktX9_split_2
def dkwX9_split_0 : List UInt8 := [3, 60, 27, 16, 36, 162, 0, 21, 42, 180, 0, 44, 27, 42, 180, 0, 41, 27, 46, 79, 132, 1, 1]
abbrev dktX9_split_0 : List UInt8 := dkwX9_split_0 ++ dktX9_split_1
theorem dksX9_split_0 : cX9_split.data.toList.drop 0 = dktX9_split_0 := by decide +kernel
theorem dksX9_split_1 : cX9_split.data.toList.drop 23 = dktX9_split_1 := dk_seg dksX9_split_0 23 rfl rfl
theorem dksX9_split_2 : cX9_split.data.toList.drop 45 = dktX9_split_2 := dk_seg dksX9_split_1 22 rfl rfl
theorem dksX9_split_3 : cX9_split.data.toList.drop 67 = dktX9_split_3 := dk_seg dksX9_split_2 22 rfl rfl
theorem dksX9_split_4 : cX9_split.data.toList.drop 90 = dktX9_split_4 := dk_seg dksX9_split_3 23 rfl rfl
theorem dksX9_split_5 : cX9_split.data.toList.drop 114 = dktX9_split_5 := dk_seg dksX9_split_4 24 rfl rfl
theorem dksX9_split_6 : cX9_split.data.toList.drop 138 = dktX9_split_6 := dk_seg dksX9_split_5 24 rfl rfl
theorem dksX9_split_7 : cX9_split.data.toList.drop 162 = dktX9_split_7 := dk_seg dksX9_split_6 24 rfl rfl
theorem dksX9_split_8 : cX9_split.data.toList.drop 186 = dktX9_split_8 := dk_seg dksX9_split_7 24 rfl rfl
theorem dksX9_split_9 : cX9_split.data.toList.drop 210 = dktX9_split_9 := dk_seg dksX9_split_8 24 rfl rfl
theorem dksX9_split_10 : cX9_split.data.toList.drop 232 = dktX9_split_10 := dk_seg dksX9_split_9 22 rfl rfl
theorem dksX9_split_11 : cX9_split.data.toList.drop 255 = dktX9_split_11 := dk_seg dksX9_split_10 23 rfl rfl
theorem dksX9_split_12 : cX9_split.data.toList.drop 279 = dktX9_split_12 := dk_seg dksX9_split_11 24 rfl rfl
theorem dksX9_split_13 : cX9_split.data.toList.drop 303 = dktX9_split_13 := dk_seg dksX9_split_12 24 rfl rfl
theorem dX9_split_0 : decode cX9_split 0 = .ok (.iconst 0, 1) := dk_3 (dk_at dksX9_split_0 0 rfl rfl)
theorem dX9_split_1 : decode cX9_split 1 = .ok (.istore_n 1, 1) := dk_60 (dk_at dksX9_split_0 1 rfl rfl)
theorem dX9_split_2 : decode cX9_split 2 = .ok (.iload_n 1, 1) := dk_27 (dk_at dksX9_split_0 2 rfl rfl)
theorem dX9_split_3 : decode cX9_split 3 = .ok (.bipush 36, 2) := dk_16 36 (dk_at dksX9_split_0 3 rfl rfl)
theorem dX9_split_5 : decode cX9_split 5 = .ok (.if_icmp .ge 21, 3) := dk_162 0 21 (dk_at dksX9_split_0 5 rfl rfl)
theorem dX9_split_8 : decode cX9_split 8 = .ok (.aload_n 0, 1) := dk_42 (dk_at dksX9_split_0 8 rfl rfl)
theorem dX9_split_9 : decode cX9_split 9 = .ok (.getfield 44, 3) := dk_180 0 44 (dk_at dksX9_split_0 9 rfl rfl)
theorem dX9_split_12 : decode cX9_split 12 = .ok (.iload_n 1, 1) := dk_27 (dk_at dksX9_split_0 12 rfl rfl)
theorem dX9_split_13 : decode cX9_split 13 = .ok (.aload_n 0, 1) := dk_42 (dk_at dksX9_split_0 13 rfl rfl)
theorem dX9_split_14 : decode cX9_split 14 = .ok (.getfield 41, 3) := dk_180 0 41 (dk_at dksX9_split_0 14 rfl rfl)
theorem dX9_split_17 : decode cX9_split 17 = .ok (.iload_n 1, 1) := dk_27 (dk_at dksX9_split_0 17 rfl rfl)
theorem dX9_split_18 : decode cX9_split 18 = .ok (.iaload, 1) := dk_46 (dk_at dksX9_split_0 18 rfl rfl)
theorem dX9_split_19 : decode cX9_split 19 = .ok (.iastore, 1) := dk_79 (dk_at dksX9_split_0 19 rfl rfl)
theorem dX9_split_20 : decode cX9_split 20 = .ok (.iinc 1 1, 3) := dk_132 1 1 (dk_at dksX9_split_0 20 rfl rfl)
theorem dX9_split_23 : decode cX9_split 23 = .ok (.goto (-21), 3) := dk_167 255 235 (dk_at dksX9_split_1 0 rfl rfl)
theorem dX9_split_26 : decode cX9_split 26 = .ok (.aload_n 0, 1) := dk_42 (dk_at dksX9_split_1 3 rfl rfl)
theorem dX9_split_27 : decode cX9_split 27 = .ok (.iconst 0, 1) := dk_3 (dk_at dksX9_split_1 4 rfl rfl)
theorem dX9_split_28 : decode cX9_split 28 = .ok (.putfield 176, 3) := dk_181 0 176 (dk_at dksX9_split_1 5 rfl rfl)
theorem dX9_split_31 : decode cX9_split 31 = .ok (.aload_n 0, 1) := dk_42 (dk_at dksX9_split_1 8 rfl rfl)
theorem dX9_split_32 : decode cX9_split 32 = .ok (.iconst 1, 1) := dk_4 (dk_at dksX9_split_1 9 rfl rfl)
theorem dX9_split_33 : decode cX9_split 33 = .ok (.putfield 179, 3) := dk_181 0 179 (dk_at dksX9_split_1 10 rfl rfl)
theorem dX9_split_36 : decode cX9_split 36 = .ok (.aload_n 0, 1) := dk_42 (dk_at dksX9_split_1 13 rfl rfl)
theorem dX9_split_37 : decode cX9_split 37 = .ok (.iconst 0, 1) := dk_3 (dk_at dksX9_split_1 14 rfl rfl)
theorem dX9_split_38 : decode cX9_split 38 = .ok (.putfield 183, 3) := dk_181 0 183 (dk_at dksX9_split_1 15 rfl rfl)
theorem dX9_split_41 : decode cX9_split 41 = .ok (.iconst 0, 1) := dk_3 (dk_at dksX9_split_1 18 rfl rfl)
theorem dX9_split_42 : decode cX9_split 42 = .ok (.istore_n 1, 1) := dk_60 (dk_at dksX9_split_1 19 rfl rfl)
theorem dX9_split_43 : decode cX9_split 43 = .ok (.iload_n 1, 1) := dk_27 (dk_at dksX9_split_1 20 rfl rfl)
theorem dX9_split_44 : decode cX9_split 44 = .ok (.aload_n 0, 1) := dk_42 (dk_at dksX9_split_1 21 rfl rfl)
theorem dX9_split_45 : decode cX9_split 45 = .ok (.getfield 117, 3) := dk_180 0 117 (dk_at dksX9_split_2 0 rfl rfl)
theorem dX9_split_48 : decode cX9_split 48 = .ok (.iconst 1, 1) := dk_4 (dk_at dksX9_split_2 3 rfl rfl)
theorem dX9_split_49 : decode cX9_split 49 = .ok (.isub, 1) := dk_100 (dk_at dksX9_split_2 4 rfl rfl)
theorem dX9_split_50 : decode cX9_split 50 = .ok (.if_icmp .ge 225, 3) := dk_162 0 225 (dk_at dksX9_split_2 5 rfl rfl)
theorem dX9_split_53 : decode cX9_split 53 = .ok (.aload_n 0, 1) := dk_42 (dk_at dksX9_split_2 8 rfl rfl)
theorem dX9_split_54 : decode cX9_split 54 = .ok (.getfield 117, 3) := dk_180 0 117 (dk_at dksX9_split_2 9 rfl rfl)
theorem dX9_split_57 : decode cX9_split 57 = .ok (.iconst 1, 1) := dk_4 (dk_at dksX9_split_2 12 rfl rfl)
theorem dX9_split_58 : decode cX9_split 58 = .ok (.isub, 1) := dk_100 (dk_at dksX9_split_2 13 rfl rfl)
theorem dX9_split_59 : decode cX9_split 59 = .ok (.istore_n 2, 1) := dk_61 (dk_at dksX9_split_2 14 rfl rfl)
theorem dX9_split_60 : decode cX9_split 60 = .ok (.iload_n 2, 1) := dk_28 (dk_at dksX9_split_2 15 rfl rfl)
theorem dX9_split_61 : decode cX9_split 61 = .ok (.iload_n 1, 1) := dk_27 (dk_at dksX9_split_2 16 rfl rfl)
theorem dX9_split_62 : decode cX9_split 62 = .ok (.if_icmp .le 207, 3) := dk_164 0 207 (dk_at dksX9_split_2 17 rfl rfl)
theorem dX9_split_65 : decode cX9_split 65 = .ok (.aload_n 0, 1) := dk_42 (dk_at dksX9_split_2 20 rfl rfl)
theorem dX9_split_66 : decode cX9_split 66 = .ok (.aload_n 0, 1) := dk_42 (dk_at dksX9_split_2 21 rfl rfl)
theorem dX9_split_67 : decode cX9_split 67 = .ok (.getfield 44, 3) := dk_180 0 44 (dk_at dksX9_split_3 0 rfl rfl)
theorem dX9_split_70 : decode cX9_split 70 = .ok (.bipush 6, 2) := dk_16 6 (dk_at dksX9_split_3 3 rfl rfl)
theorem dX9_split_72 : decode cX9_split 72 = .ok (.iload_n 2, 1) := dk_28 (dk_at dksX9_split_3 5 rfl rfl)
theorem dX9_split_73 : decode cX9_split 73 = .ok (.iconst 1, 1) := dk_4 (dk_at dksX9_split_3 6 rfl rfl)
theorem dX9_split_74 : decode cX9_split 74 = .ok (.isub, 1) := dk_100 (dk_at dksX9_split_3 7 rfl rfl)
theorem dX9_split_75 : decode cX9_split 75 = .ok (.imul, 1) := dk_104 (dk_at dksX9_split_3 8 rfl rfl)
theorem dX9_split_76 : decode cX9_split 76 = .ok (.iload_n 1, 1) := dk_27 (dk_at dksX9_split_3 9 rfl rfl)
theorem dX9_split_77 : decode cX9_split 77 = .ok (.iadd, 1) := dk_96 (dk_at dksX9_split_3 10 rfl rfl)
theorem dX9_split_78 : decode cX9_split 78 = .ok (.iaload, 1) := dk_46 (dk_at dksX9_split_3 11 rfl rfl)
theorem dX9_split_79 : decode cX9_split 79 = .ok (.aload_n 0, 1) := dk_42 (dk_at dksX9_split_3 12 rfl rfl)
theorem dX9_split_80 : decode cX9_split 80 = .ok (.getfield 44, 3) := dk_180 0 44 (dk_at dksX9_split_3 13 rfl rfl)
theorem dX9_split_83 : decode cX9_split 83 = .ok (.bipush 6, 2) := dk_16 6 (dk_at dksX9_split_3 16 rfl rfl)
theorem dX9_split_85 : decode cX9_split 85 = .ok (.iload_n 2, 1) := dk_28 (dk_at dksX9_split_3 18 rfl rfl)
theorem dX9_split_86 : decode cX9_split 86 = .ok (.imul, 1) := dk_104 (dk_at dksX9_split_3 19 rfl rfl)
theorem dX9_split_87 : decode cX9_split 87 = .ok (.iload_n 1, 1) := dk_27 (dk_at dksX9_split_3 20 rfl rfl)
theorem dX9_split_88 : decode cX9_split 88 = .ok (.iadd, 1) := dk_96 (dk_at dksX9_split_3 21 rfl rfl)
theorem dX9_split_89 : decode cX9_split 89 = .ok (.iaload, 1) := dk_46 (dk_at dksX9_split_3 22 rfl rfl)
theorem dX9_split_90 : decode cX9_split 90 = .ok (.invokevirtual 186, 3) := dk_182 0 186 (dk_at dksX9_split_4 0 rfl rfl)
theorem dX9_split_93 : decode cX9_split 93 = .ok (.istore_n 3, 1) := dk_62 (dk_at dksX9_split_4 3 rfl rfl)
theorem dX9_split_94 : decode cX9_split 94 = .ok (.iload_n 3, 1) := dk_29 (dk_at dksX9_split_4 4 rfl rfl)
theorem dX9_split_95 : decode cX9_split 95 = .ok (.bipush 96, 2) := dk_16 96 (dk_at dksX9_split_4 5 rfl rfl)
theorem dX9_split_97 : decode cX9_split 97 = .ok (.if_icmp .ne 16, 3) := dk_160 0 16 (dk_at dksX9_split_4 7 rfl rfl)
theorem dX9_split_100 : decode cX9_split 100 = .ok (.aload_n 0, 1) := dk_42 (dk_at dksX9_split_4 10 rfl rfl)
theorem dX9_split_101 : decode cX9_split 101 = .ok (.iconst 1, 1) := dk_4 (dk_at dksX9_split_4 11 rfl rfl)
theorem dX9_split_102 : decode cX9_split 102 = .ok (.putfield 183, 3) := dk_181 0 183 (dk_at dksX9_split_4 12 rfl rfl)
theorem dX9_split_105 : decode cX9_split 105 = .ok (.bipush (-10), 2) := dk_16 246 (dk_at dksX9_split_4 15 rfl rfl)
theorem dX9_split_107 : decode cX9_split 107 = .ok (.aload_n 0, 1) := dk_42 (dk_at dksX9_split_4 17 rfl rfl)
theorem dX9_split_108 : decode cX9_split 108 = .ok (.getfield 176, 3) := dk_180 0 176 (dk_at dksX9_split_4 18 rfl rfl)
theorem dX9_split_111 : decode cX9_split 111 = .ok (.isub, 1) := dk_100 (dk_at dksX9_split_4 21 rfl rfl)
theorem dX9_split_112 : decode cX9_split 112 = .ok (.ireturn, 1) := dk_172 (dk_at dksX9_split_4 22 rfl rfl)
theorem dX9_split_113 : decode cX9_split 113 = .ok (.iconst 0, 1) := dk_3 (dk_at dksX9_split_4 23 rfl rfl)
theorem dX9_split_114 : decode cX9_split 114 = .ok (.istore 4, 2) := dk_54 4 (dk_at dksX9_split_5 0 rfl rfl)
theorem dX9_split_116 : decode cX9_split 116 = .ok (.iload 4, 2) := dk_21 4 (dk_at dksX9_split_5 2 rfl rfl)
theorem dX9_split_118 : decode cX9_split 118 = .ok (.aload_n 0, 1) := dk_42 (dk_at dksX9_split_5 4 rfl rfl)
theorem dX9_split_119 : decode cX9_split 119 = .ok (.getfield 117, 3) := dk_180 0 117 (dk_at dksX9_split_5 5 rfl rfl)
theorem dX9_split_122 : decode cX9_split 122 = .ok (.if_icmp .ge 109, 3) := dk_162 0 109 (dk_at dksX9_split_5 8 rfl rfl)
theorem dX9_split_125 : decode cX9_split 125 = .ok (.aload_n 0, 1) := dk_42 (dk_at dksX9_split_5 11 rfl rfl)
theorem dX9_split_126 : decode cX9_split 126 = .ok (.getfield 44, 3) := dk_180 0 44 (dk_at dksX9_split_5 12 rfl rfl)
theorem dX9_split_129 : decode cX9_split 129 = .ok (.bipush 6, 2) := dk_16 6 (dk_at dksX9_split_5 15 rfl rfl)
theorem dX9_split_131 : decode cX9_split 131 = .ok (.iload_n 2, 1) := dk_28 (dk_at dksX9_split_5 17 rfl rfl)
theorem dX9_split_132 : decode cX9_split 132 = .ok (.iconst 1, 1) := dk_4 (dk_at dksX9_split_5 18 rfl rfl)
theorem dX9_split_133 : decode cX9_split 133 = .ok (.isub, 1) := dk_100 (dk_at dksX9_split_5 19 rfl rfl)
theorem dX9_split_134 : decode cX9_split 134 = .ok (.imul, 1) := dk_104 (dk_at dksX9_split_5 20 rfl rfl)
theorem dX9_split_135 : decode cX9_split 135 = .ok (.iload 4, 2) := dk_21 4 (dk_at dksX9_split_5 21 rfl rfl)
theorem dX9_split_137 : decode cX9_split 137 = .ok (.iadd, 1) := dk_96 (dk_at dksX9_split_5 23 rfl rfl)
theorem dX9_split_138 : decode cX9_split 138 = .ok (.iaload, 1) := dk_46 (dk_at dksX9_split_6 0 rfl rfl)
theorem dX9_split_139 : decode cX9_split 139 = .ok (.istore 5, 2) := dk_54 5 (dk_at dksX9_split_6 1 rfl rfl)
theorem dX9_split_141 : decode cX9_split 141 = .ok (.aload_n 0, 1) := dk_42 (dk_at dksX9_split_6 3 rfl rfl)
theorem dX9_split_142 : decode cX9_split 142 = .ok (.getfield 44, 3) := dk_180 0 44 (dk_at dksX9_split_6 4 rfl rfl)
theorem dX9_split_145 : decode cX9_split 145 = .ok (.bipush 6, 2) := dk_16 6 (dk_at dksX9_split_6 7 rfl rfl)
theorem dX9_split_147 : decode cX9_split 147 = .ok (.iload_n 2, 1) := dk_28 (dk_at dksX9_split_6 9 rfl rfl)
theorem dX9_split_148 : decode cX9_split 148 = .ok (.imul, 1) := dk_104 (dk_at dksX9_split_6 10 rfl rfl)
theorem dX9_split_149 : decode cX9_split 149 = .ok (.iload 4, 2) := dk_21 4 (dk_at dksX9_split_6 11 rfl rfl)
theorem dX9_split_151 : decode cX9_split 151 = .ok (.iadd, 1) := dk_96 (dk_at dksX9_split_6 13 rfl rfl)
theorem dX9_split_152 : decode cX9_split 152 = .ok (.iaload, 1) := dk_46 (dk_at dksX9_split_6 14 rfl rfl)
theorem dX9_split_153 : decode cX9_split 153 = .ok (.istore 6, 2) := dk_54 6 (dk_at dksX9_split_6 15 rfl rfl)
theorem dX9_split_155 : decode cX9_split 155 = .ok (.aload_n 0, 1) := dk_42 (dk_at dksX9_split_6 17 rfl rfl)
theorem dX9_split_156 : decode cX9_split 156 = .ok (.getfield 44, 3) := dk_180 0 44 (dk_at dksX9_split_6 18 rfl rfl)
theorem dX9_split_159 : decode cX9_split 159 = .ok (.bipush 6, 2) := dk_16 6 (dk_at dksX9_split_6 21 rfl rfl)
theorem dX9_split_161 : decode cX9_split 161 = .ok (.iload_n 2, 1) := dk_28 (dk_at dksX9_split_6 23 rfl rfl)
theorem dX9_split_162 : decode cX9_split 162 = .ok (.iconst 1, 1) := dk_4 (dk_at dksX9_split_7 0 rfl rfl)
theorem dX9_split_163 : decode cX9_split 163 = .ok (.isub, 1) := dk_100 (dk_at dksX9_split_7 1 rfl rfl)
theorem dX9_split_164 : decode cX9_split 164 = .ok (.imul, 1) := dk_104 (dk_at dksX9_split_7 2 rfl rfl)
theorem dX9_split_165 : decode cX9_split 165 = .ok (.iload 4, 2) := dk_21 4 (dk_at dksX9_split_7 3 rfl rfl)
theorem dX9_split_167 : decode cX9_split 167 = .ok (.iadd, 1) := dk_96 (dk_at dksX9_split_7 5 rfl rfl)
theorem dX9_split_168 : decode cX9_split 168 = .ok (.aload_n 0, 1) := dk_42 (dk_at dksX9_split_7 6 rfl rfl)
theorem dX9_split_169 : decode cX9_split 169 = .ok (.getfield 7, 3) := dk_180 0 7 (dk_at dksX9_split_7 7 rfl rfl)
theorem dX9_split_172 : decode cX9_split 172 = .ok (.iload_n 3, 1) := dk_29 (dk_at dksX9_split_7 10 rfl rfl)
theorem dX9_split_173 : decode cX9_split 173 = .ok (.iaload, 1) := dk_46 (dk_at dksX9_split_7 11 rfl rfl)
theorem dX9_split_174 : decode cX9_split 174 = .ok (.iload 5, 2) := dk_21 5 (dk_at dksX9_split_7 12 rfl rfl)
theorem dX9_split_176 : decode cX9_split 176 = .ok (.imul, 1) := dk_104 (dk_at dksX9_split_7 14 rfl rfl)
theorem dX9_split_177 : decode cX9_split 177 = .ok (.aload_n 0, 1) := dk_42 (dk_at dksX9_split_7 15 rfl rfl)
theorem dX9_split_178 : decode cX9_split 178 = .ok (.getfield 13, 3) := dk_180 0 13 (dk_at dksX9_split_7 16 rfl rfl)
theorem dX9_split_181 : decode cX9_split 181 = .ok (.iload_n 3, 1) := dk_29 (dk_at dksX9_split_7 19 rfl rfl)
theorem dX9_split_182 : decode cX9_split 182 = .ok (.iaload, 1) := dk_46 (dk_at dksX9_split_7 20 rfl rfl)
theorem dX9_split_183 : decode cX9_split 183 = .ok (.iload 6, 2) := dk_21 6 (dk_at dksX9_split_7 21 rfl rfl)
theorem dX9_split_185 : decode cX9_split 185 = .ok (.imul, 1) := dk_104 (dk_at dksX9_split_7 23 rfl rfl)
theorem dX9_split_186 : decode cX9_split 186 = .ok (.isub, 1) := dk_100 (dk_at dksX9_split_8 0 rfl rfl)
theorem dX9_split_187 : decode cX9_split 187 = .ok (.invokestatic 120, 3) := dk_184 0 120 (dk_at dksX9_split_8 1 rfl rfl)
theorem dX9_split_190 : decode cX9_split 190 = .ok (.iastore, 1) := dk_79 (dk_at dksX9_split_8 4 rfl rfl)
theorem dX9_split_191 : decode cX9_split 191 = .ok (.aload_n 0, 1) := dk_42 (dk_at dksX9_split_8 5 rfl rfl)
theorem dX9_split_192 : decode cX9_split 192 = .ok (.getfield 44, 3) := dk_180 0 44 (dk_at dksX9_split_8 6 rfl rfl)
theorem dX9_split_195 : decode cX9_split 195 = .ok (.bipush 6, 2) := dk_16 6 (dk_at dksX9_split_8 9 rfl rfl)
theorem dX9_split_197 : decode cX9_split 197 = .ok (.iload_n 2, 1) := dk_28 (dk_at dksX9_split_8 11 rfl rfl)
theorem dX9_split_198 : decode cX9_split 198 = .ok (.imul, 1) := dk_104 (dk_at dksX9_split_8 12 rfl rfl)
theorem dX9_split_199 : decode cX9_split 199 = .ok (.iload 4, 2) := dk_21 4 (dk_at dksX9_split_8 13 rfl rfl)
theorem dX9_split_201 : decode cX9_split 201 = .ok (.iadd, 1) := dk_96 (dk_at dksX9_split_8 15 rfl rfl)
theorem dX9_split_202 : decode cX9_split 202 = .ok (.aload_n 0, 1) := dk_42 (dk_at dksX9_split_8 16 rfl rfl)
theorem dX9_split_203 : decode cX9_split 203 = .ok (.getfield 13, 3) := dk_180 0 13 (dk_at dksX9_split_8 17 rfl rfl)
theorem dX9_split_206 : decode cX9_split 206 = .ok (.iload_n 3, 1) := dk_29 (dk_at dksX9_split_8 20 rfl rfl)
theorem dX9_split_207 : decode cX9_split 207 = .ok (.iaload, 1) := dk_46 (dk_at dksX9_split_8 21 rfl rfl)
theorem dX9_split_208 : decode cX9_split 208 = .ok (.iload 5, 2) := dk_21 5 (dk_at dksX9_split_8 22 rfl rfl)
theorem dX9_split_210 : decode cX9_split 210 = .ok (.imul, 1) := dk_104 (dk_at dksX9_split_9 0 rfl rfl)
theorem dX9_split_211 : decode cX9_split 211 = .ok (.aload_n 0, 1) := dk_42 (dk_at dksX9_split_9 1 rfl rfl)
theorem dX9_split_212 : decode cX9_split 212 = .ok (.getfield 7, 3) := dk_180 0 7 (dk_at dksX9_split_9 2 rfl rfl)
theorem dX9_split_215 : decode cX9_split 215 = .ok (.iload_n 3, 1) := dk_29 (dk_at dksX9_split_9 5 rfl rfl)
theorem dX9_split_216 : decode cX9_split 216 = .ok (.iaload, 1) := dk_46 (dk_at dksX9_split_9 6 rfl rfl)
theorem dX9_split_217 : decode cX9_split 217 = .ok (.iload 6, 2) := dk_21 6 (dk_at dksX9_split_9 7 rfl rfl)
theorem dX9_split_219 : decode cX9_split 219 = .ok (.imul, 1) := dk_104 (dk_at dksX9_split_9 9 rfl rfl)
theorem dX9_split_220 : decode cX9_split 220 = .ok (.iadd, 1) := dk_96 (dk_at dksX9_split_9 10 rfl rfl)
theorem dX9_split_221 : decode cX9_split 221 = .ok (.invokestatic 120, 3) := dk_184 0 120 (dk_at dksX9_split_9 11 rfl rfl)
theorem dX9_split_224 : decode cX9_split 224 = .ok (.iastore, 1) := dk_79 (dk_at dksX9_split_9 14 rfl rfl)
theorem dX9_split_225 : decode cX9_split 225 = .ok (.iinc 4 1, 3) := dk_132 4 1 (dk_at dksX9_split_9 15 rfl rfl)
theorem dX9_split_228 : decode cX9_split 228 = .ok (.goto (-112), 3) := dk_167 255 144 (dk_at dksX9_split_9 18 rfl rfl)
theorem dX9_split_231 : decode cX9_split 231 = .ok (.aload_n 0, 1) := dk_42 (dk_at dksX9_split_9 21 rfl rfl)
theorem dX9_split_232 : decode cX9_split 232 = .ok (.getfield 47, 3) := dk_180 0 47 (dk_at dksX9_split_10 0 rfl rfl)
theorem dX9_split_235 : decode cX9_split 235 = .ok (.aload_n 0, 1) := dk_42 (dk_at dksX9_split_10 3 rfl rfl)
theorem dX9_split_236 : decode cX9_split 236 = .ok (.getfield 176, 3) := dk_180 0 176 (dk_at dksX9_split_10 4 rfl rfl)
theorem dX9_split_239 : decode cX9_split 239 = .ok (.iload_n 2, 1) := dk_28 (dk_at dksX9_split_10 7 rfl rfl)
theorem dX9_split_240 : decode cX9_split 240 = .ok (.iconst 1, 1) := dk_4 (dk_at dksX9_split_10 8 rfl rfl)
theorem dX9_split_241 : decode cX9_split 241 = .ok (.isub, 1) := dk_100 (dk_at dksX9_split_10 9 rfl rfl)
theorem dX9_split_242 : decode cX9_split 242 = .ok (.iastore, 1) := dk_79 (dk_at dksX9_split_10 10 rfl rfl)
theorem dX9_split_243 : decode cX9_split 243 = .ok (.aload_n 0, 1) := dk_42 (dk_at dksX9_split_10 11 rfl rfl)
theorem dX9_split_244 : decode cX9_split 244 = .ok (.getfield 50, 3) := dk_180 0 50 (dk_at dksX9_split_10 12 rfl rfl)
theorem dX9_split_247 : decode cX9_split 247 = .ok (.aload_n 0, 1) := dk_42 (dk_at dksX9_split_10 15 rfl rfl)
theorem dX9_split_248 : decode cX9_split 248 = .ok (.getfield 176, 3) := dk_180 0 176 (dk_at dksX9_split_10 16 rfl rfl)
theorem dX9_split_251 : decode cX9_split 251 = .ok (.iload_n 3, 1) := dk_29 (dk_at dksX9_split_10 19 rfl rfl)
theorem dX9_split_252 : decode cX9_split 252 = .ok (.iastore, 1) := dk_79 (dk_at dksX9_split_10 20 rfl rfl)
theorem dX9_split_253 : decode cX9_split 253 = .ok (.aload_n 0, 1) := dk_42 (dk_at dksX9_split_10 21 rfl rfl)
theorem dX9_split_254 : decode cX9_split 254 = .ok (.dup, 1) := dk_89 (dk_at dksX9_split_10 22 rfl rfl)
theorem dX9_split_255 : decode cX9_split 255 = .ok (.getfield 176, 3) := dk_180 0 176 (dk_at dksX9_split_11 0 rfl rfl)
theorem dX9_split_258 : decode cX9_split 258 = .ok (.iconst 1, 1) := dk_4 (dk_at dksX9_split_11 3 rfl rfl)
theorem dX9_split_259 : decode cX9_split 259 = .ok (.iadd, 1) := dk_96 (dk_at dksX9_split_11 4 rfl rfl)
theorem dX9_split_260 : decode cX9_split 260 = .ok (.putfield 176, 3) := dk_181 0 176 (dk_at dksX9_split_11 5 rfl rfl)
theorem dX9_split_263 : decode cX9_split 263 = .ok (.iinc 2 (-1), 3) := dk_132 2 255 (dk_at dksX9_split_11 8 rfl rfl)
theorem dX9_split_266 : decode cX9_split 266 = .ok (.goto (-206), 3) := dk_167 255 50 (dk_at dksX9_split_11 11 rfl rfl)
theorem dX9_split_269 : decode cX9_split 269 = .ok (.iinc 1 1, 3) := dk_132 1 1 (dk_at dksX9_split_11 14 rfl rfl)
theorem dX9_split_272 : decode cX9_split 272 = .ok (.goto (-229), 3) := dk_167 255 27 (dk_at dksX9_split_11 17 rfl rfl)
theorem dX9_split_275 : decode cX9_split 275 = .ok (.iconst 0, 1) := dk_3 (dk_at dksX9_split_11 20 rfl rfl)
theorem dX9_split_276 : decode cX9_split 276 = .ok (.istore_n 1, 1) := dk_60 (dk_at dksX9_split_11 21 rfl rfl)
theorem dX9_split_277 : decode cX9_split 277 = .ok (.iload_n 1, 1) := dk_27 (dk_at dksX9_split_11 22 rfl rfl)
theorem dX9_split_278 : decode cX9_split 278 = .ok (.aload_n 0, 1) := dk_42 (dk_at dksX9_split_11 23 rfl rfl)
theorem dX9_split_279 : decode cX9_split 279 = .ok (.getfield 117, 3) := dk_180 0 117 (dk_at dksX9_split_12 0 rfl rfl)
theorem dX9_split_282 : decode cX9_split 282 = .ok (.if_icmp .ge 24, 3) := dk_162 0 24 (dk_at dksX9_split_12 3 rfl rfl)
theorem dX9_split_285 : decode cX9_split 285 = .ok (.aload_n 0, 1) := dk_42 (dk_at dksX9_split_12 6 rfl rfl)
theorem dX9_split_286 : decode cX9_split 286 = .ok (.getfield 53, 3) := dk_180 0 53 (dk_at dksX9_split_12 7 rfl rfl)
theorem dX9_split_289 : decode cX9_split 289 = .ok (.iload_n 1, 1) := dk_27 (dk_at dksX9_split_12 10 rfl rfl)
theorem dX9_split_290 : decode cX9_split 290 = .ok (.aload_n 0, 1) := dk_42 (dk_at dksX9_split_12 11 rfl rfl)
theorem dX9_split_291 : decode cX9_split 291 = .ok (.getfield 44, 3) := dk_180 0 44 (dk_at dksX9_split_12 12 rfl rfl)
theorem dX9_split_294 : decode cX9_split 294 = .ok (.bipush 7, 2) := dk_16 7 (dk_at dksX9_split_12 15 rfl rfl)
theorem dX9_split_296 : decode cX9_split 296 = .ok (.iload_n 1, 1) := dk_27 (dk_at dksX9_split_12 17 rfl rfl)
theorem dX9_split_297 : decode cX9_split 297 = .ok (.imul, 1) := dk_104 (dk_at dksX9_split_12 18 rfl rfl)
theorem dX9_split_298 : decode cX9_split 298 = .ok (.iaload, 1) := dk_46 (dk_at dksX9_split_12 19 rfl rfl)
theorem dX9_split_299 : decode cX9_split 299 = .ok (.iastore, 1) := dk_79 (dk_at dksX9_split_12 20 rfl rfl)
theorem dX9_split_300 : decode cX9_split 300 = .ok (.iinc 1 1, 3) := dk_132 1 1 (dk_at dksX9_split_12 21 rfl rfl)
theorem dX9_split_303 : decode cX9_split 303 = .ok (.goto (-26), 3) := dk_167 255 230 (dk_at dksX9_split_13 0 rfl rfl)
theorem dX9_split_306 : decode cX9_split 306 = .ok (.aload_n 0, 1) := dk_42 (dk_at dksX9_split_13 3 rfl rfl)
theorem dX9_split_307 : decode cX9_split 307 = .ok (.getfield 176, 3) := dk_180 0 176 (dk_at dksX9_split_13 4 rfl rfl)
theorem dX9_split_310 : decode cX9_split 310 = .ok (.ireturn, 1) := dk_172 (dk_at dksX9_split_13 7 rfl rfl)
abbrev cX9_clears : ByteArray := prog_19_method_23_code
def yX9_clears : MethodName := ⟨RX9, "clears", "(II)I"⟩
def dkwX9_clears_1 : List UInt8 := [96, 184, 0, 120, 153, 0, 9, 132, 3, 1, 167, 255, 224, 29, 172]
abbrev dktX9_clears_1 : List UInt8 := dkwX9_clears_1 ++ []
def dkwX9_clears_0 : List UInt8 := [3, 62, 29, 16, 96, 162, 0, 32, 42, 180, 0, 13, 29, 46, 27, 104, 42, 180, 0, 7, 29, 46, 28, 104]
abbrev dktX9_clears_0 : List UInt8 := dkwX9_clears_0 ++ dktX9_clears_1
theorem dksX9_clears_0 : cX9_clears.data.toList.drop 0 = dktX9_clears_0 := by decide +kernel
theorem dksX9_clears_1 : cX9_clears.data.toList.drop 24 = dktX9_clears_1 := dk_seg dksX9_clears_0 24 rfl rfl
theorem dX9_clears_0 : decode cX9_clears 0 = .ok (.iconst 0, 1) := dk_3 (dk_at dksX9_clears_0 0 rfl rfl)
theorem dX9_clears_1 : decode cX9_clears 1 = .ok (.istore_n 3, 1) := dk_62 (dk_at dksX9_clears_0 1 rfl rfl)
theorem dX9_clears_2 : decode cX9_clears 2 = .ok (.iload_n 3, 1) := dk_29 (dk_at dksX9_clears_0 2 rfl rfl)
theorem dX9_clears_3 : decode cX9_clears 3 = .ok (.bipush 96, 2) := dk_16 96 (dk_at dksX9_clears_0 3 rfl rfl)
theorem dX9_clears_5 : decode cX9_clears 5 = .ok (.if_icmp .ge 32, 3) := dk_162 0 32 (dk_at dksX9_clears_0 5 rfl rfl)
theorem dX9_clears_8 : decode cX9_clears 8 = .ok (.aload_n 0, 1) := dk_42 (dk_at dksX9_clears_0 8 rfl rfl)
theorem dX9_clears_9 : decode cX9_clears 9 = .ok (.getfield 13, 3) := dk_180 0 13 (dk_at dksX9_clears_0 9 rfl rfl)
theorem dX9_clears_12 : decode cX9_clears 12 = .ok (.iload_n 3, 1) := dk_29 (dk_at dksX9_clears_0 12 rfl rfl)
theorem dX9_clears_13 : decode cX9_clears 13 = .ok (.iaload, 1) := dk_46 (dk_at dksX9_clears_0 13 rfl rfl)
theorem dX9_clears_14 : decode cX9_clears 14 = .ok (.iload_n 1, 1) := dk_27 (dk_at dksX9_clears_0 14 rfl rfl)
theorem dX9_clears_15 : decode cX9_clears 15 = .ok (.imul, 1) := dk_104 (dk_at dksX9_clears_0 15 rfl rfl)
theorem dX9_clears_16 : decode cX9_clears 16 = .ok (.aload_n 0, 1) := dk_42 (dk_at dksX9_clears_0 16 rfl rfl)
theorem dX9_clears_17 : decode cX9_clears 17 = .ok (.getfield 7, 3) := dk_180 0 7 (dk_at dksX9_clears_0 17 rfl rfl)
theorem dX9_clears_20 : decode cX9_clears 20 = .ok (.iload_n 3, 1) := dk_29 (dk_at dksX9_clears_0 20 rfl rfl)
theorem dX9_clears_21 : decode cX9_clears 21 = .ok (.iaload, 1) := dk_46 (dk_at dksX9_clears_0 21 rfl rfl)
theorem dX9_clears_22 : decode cX9_clears 22 = .ok (.iload_n 2, 1) := dk_28 (dk_at dksX9_clears_0 22 rfl rfl)
theorem dX9_clears_23 : decode cX9_clears 23 = .ok (.imul, 1) := dk_104 (dk_at dksX9_clears_0 23 rfl rfl)
theorem dX9_clears_24 : decode cX9_clears 24 = .ok (.iadd, 1) := dk_96 (dk_at dksX9_clears_1 0 rfl rfl)
theorem dX9_clears_25 : decode cX9_clears 25 = .ok (.invokestatic 120, 3) := dk_184 0 120 (dk_at dksX9_clears_1 1 rfl rfl)
theorem dX9_clears_28 : decode cX9_clears 28 = .ok (.ifCond .eq 9, 3) := dk_153 0 9 (dk_at dksX9_clears_1 4 rfl rfl)
theorem dX9_clears_31 : decode cX9_clears 31 = .ok (.iinc 3 1, 3) := dk_132 3 1 (dk_at dksX9_clears_1 7 rfl rfl)
theorem dX9_clears_34 : decode cX9_clears 34 = .ok (.goto (-32), 3) := dk_167 255 224 (dk_at dksX9_clears_1 10 rfl rfl)
theorem dX9_clears_37 : decode cX9_clears 37 = .ok (.iload_n 3, 1) := dk_29 (dk_at dksX9_clears_1 13 rfl rfl)
theorem dX9_clears_38 : decode cX9_clears 38 = .ok (.ireturn, 1) := dk_172 (dk_at dksX9_clears_1 14 rfl rfl)
abbrev cX9_step : ByteArray := prog_19_method_25_code
def yX9_step : MethodName := ⟨RX9, "step", "(II)I"⟩
def dkwX9_step_3 : List UInt8 := [28, 154, 0, 12, 42, 180, 0, 47, 27, 46, 167, 0, 9, 42, 180, 0, 50, 27, 46, 172]
abbrev dktX9_step_3 : List UInt8 := dkwX9_step_3 ++ []
def dkwX9_step_2 : List UInt8 := [180, 0, 53, 27, 46, 172, 27, 133, 9, 42, 180, 0, 176, 4, 100, 133, 184, 0, 126, 154, 0, 5, 2, 172]
abbrev dktX9_step_2 : List UInt8 := dkwX9_step_2 ++ dktX9_step_3
def dkwX9_step_1 : List UInt8 := [160, 0, 29, 42, 180, 0, 183, 154, 0, 11, 42, 27, 182, 0, 159, 154, 0, 7, 2, 167, 0, 9, 42]
abbrev dktX9_step_1 : List UInt8 := dkwX9_step_1 ++ dktX9_step_2
def dkwX9_step_0 : List UInt8 := [42, 180, 0, 179, 153, 0, 15, 28, 133, 9, 20, 0, 189, 184, 0, 126, 154, 0, 5, 2, 172, 28, 5]
abbrev dktX9_step_0 : List UInt8 := dkwX9_step_0 ++ dktX9_step_1
theorem dksX9_step_0 : cX9_step.data.toList.drop 0 = dktX9_step_0 := by decide +kernel
theorem dksX9_step_1 : cX9_step.data.toList.drop 23 = dktX9_step_1 := dk_seg dksX9_step_0 23 rfl rfl
theorem dksX9_step_2 : cX9_step.data.toList.drop 46 = dktX9_step_2 := dk_seg dksX9_step_1 23 rfl rfl
theorem dksX9_step_3 : cX9_step.data.toList.drop 70 = dktX9_step_3 := dk_seg dksX9_step_2 24 rfl rfl
theorem dX9_step_0 : decode cX9_step 0 = .ok (.aload_n 0, 1) := dk_42 (dk_at dksX9_step_0 0 rfl rfl)
theorem dX9_step_1 : decode cX9_step 1 = .ok (.getfield 179, 3) := dk_180 0 179 (dk_at dksX9_step_0 1 rfl rfl)
theorem dX9_step_4 : decode cX9_step 4 = .ok (.ifCond .eq 15, 3) := dk_153 0 15 (dk_at dksX9_step_0 4 rfl rfl)
theorem dX9_step_7 : decode cX9_step 7 = .ok (.iload_n 2, 1) := dk_28 (dk_at dksX9_step_0 7 rfl rfl)
theorem dX9_step_8 : decode cX9_step 8 = .ok (.i2l, 1) := dk_133 (dk_at dksX9_step_0 8 rfl rfl)
theorem dX9_step_9 : decode cX9_step 9 = .ok (.lconst 0, 1) := dk_9 (dk_at dksX9_step_0 9 rfl rfl)
theorem dX9_step_10 : decode cX9_step 10 = .ok (.ldc2_w 189, 3) := dk_20 0 189 (dk_at dksX9_step_0 10 rfl rfl)
theorem dX9_step_13 : decode cX9_step 13 = .ok (.invokestatic 126, 3) := dk_184 0 126 (dk_at dksX9_step_0 13 rfl rfl)
theorem dX9_step_16 : decode cX9_step 16 = .ok (.ifCond .ne 5, 3) := dk_154 0 5 (dk_at dksX9_step_0 16 rfl rfl)
theorem dX9_step_19 : decode cX9_step 19 = .ok (.iconst (-1), 1) := dk_2 (dk_at dksX9_step_0 19 rfl rfl)
theorem dX9_step_20 : decode cX9_step 20 = .ok (.ireturn, 1) := dk_172 (dk_at dksX9_step_0 20 rfl rfl)
theorem dX9_step_21 : decode cX9_step 21 = .ok (.iload_n 2, 1) := dk_28 (dk_at dksX9_step_0 21 rfl rfl)
theorem dX9_step_22 : decode cX9_step 22 = .ok (.iconst 2, 1) := dk_5 (dk_at dksX9_step_0 22 rfl rfl)
theorem dX9_step_23 : decode cX9_step 23 = .ok (.if_icmp .ne 29, 3) := dk_160 0 29 (dk_at dksX9_step_1 0 rfl rfl)
theorem dX9_step_26 : decode cX9_step 26 = .ok (.aload_n 0, 1) := dk_42 (dk_at dksX9_step_1 3 rfl rfl)
theorem dX9_step_27 : decode cX9_step 27 = .ok (.getfield 183, 3) := dk_180 0 183 (dk_at dksX9_step_1 4 rfl rfl)
theorem dX9_step_30 : decode cX9_step 30 = .ok (.ifCond .ne 11, 3) := dk_154 0 11 (dk_at dksX9_step_1 7 rfl rfl)
theorem dX9_step_33 : decode cX9_step 33 = .ok (.aload_n 0, 1) := dk_42 (dk_at dksX9_step_1 10 rfl rfl)
theorem dX9_step_34 : decode cX9_step 34 = .ok (.iload_n 1, 1) := dk_27 (dk_at dksX9_step_1 11 rfl rfl)
theorem dX9_step_35 : decode cX9_step 35 = .ok (.invokevirtual 159, 3) := dk_182 0 159 (dk_at dksX9_step_1 12 rfl rfl)
theorem dX9_step_38 : decode cX9_step 38 = .ok (.ifCond .ne 7, 3) := dk_154 0 7 (dk_at dksX9_step_1 15 rfl rfl)
theorem dX9_step_41 : decode cX9_step 41 = .ok (.iconst (-1), 1) := dk_2 (dk_at dksX9_step_1 18 rfl rfl)
theorem dX9_step_42 : decode cX9_step 42 = .ok (.goto 9, 3) := dk_167 0 9 (dk_at dksX9_step_1 19 rfl rfl)
theorem dX9_step_45 : decode cX9_step 45 = .ok (.aload_n 0, 1) := dk_42 (dk_at dksX9_step_1 22 rfl rfl)
theorem dX9_step_46 : decode cX9_step 46 = .ok (.getfield 53, 3) := dk_180 0 53 (dk_at dksX9_step_2 0 rfl rfl)
theorem dX9_step_49 : decode cX9_step 49 = .ok (.iload_n 1, 1) := dk_27 (dk_at dksX9_step_2 3 rfl rfl)
theorem dX9_step_50 : decode cX9_step 50 = .ok (.iaload, 1) := dk_46 (dk_at dksX9_step_2 4 rfl rfl)
theorem dX9_step_51 : decode cX9_step 51 = .ok (.ireturn, 1) := dk_172 (dk_at dksX9_step_2 5 rfl rfl)
theorem dX9_step_52 : decode cX9_step 52 = .ok (.iload_n 1, 1) := dk_27 (dk_at dksX9_step_2 6 rfl rfl)
theorem dX9_step_53 : decode cX9_step 53 = .ok (.i2l, 1) := dk_133 (dk_at dksX9_step_2 7 rfl rfl)
theorem dX9_step_54 : decode cX9_step 54 = .ok (.lconst 0, 1) := dk_9 (dk_at dksX9_step_2 8 rfl rfl)
theorem dX9_step_55 : decode cX9_step 55 = .ok (.aload_n 0, 1) := dk_42 (dk_at dksX9_step_2 9 rfl rfl)
theorem dX9_step_56 : decode cX9_step 56 = .ok (.getfield 176, 3) := dk_180 0 176 (dk_at dksX9_step_2 10 rfl rfl)
theorem dX9_step_59 : decode cX9_step 59 = .ok (.iconst 1, 1) := dk_4 (dk_at dksX9_step_2 13 rfl rfl)
theorem dX9_step_60 : decode cX9_step 60 = .ok (.isub, 1) := dk_100 (dk_at dksX9_step_2 14 rfl rfl)
theorem dX9_step_61 : decode cX9_step 61 = .ok (.i2l, 1) := dk_133 (dk_at dksX9_step_2 15 rfl rfl)
theorem dX9_step_62 : decode cX9_step 62 = .ok (.invokestatic 126, 3) := dk_184 0 126 (dk_at dksX9_step_2 16 rfl rfl)
theorem dX9_step_65 : decode cX9_step 65 = .ok (.ifCond .ne 5, 3) := dk_154 0 5 (dk_at dksX9_step_2 19 rfl rfl)
theorem dX9_step_68 : decode cX9_step 68 = .ok (.iconst (-1), 1) := dk_2 (dk_at dksX9_step_2 22 rfl rfl)
theorem dX9_step_69 : decode cX9_step 69 = .ok (.ireturn, 1) := dk_172 (dk_at dksX9_step_2 23 rfl rfl)
theorem dX9_step_70 : decode cX9_step 70 = .ok (.iload_n 2, 1) := dk_28 (dk_at dksX9_step_3 0 rfl rfl)
theorem dX9_step_71 : decode cX9_step 71 = .ok (.ifCond .ne 12, 3) := dk_154 0 12 (dk_at dksX9_step_3 1 rfl rfl)
theorem dX9_step_74 : decode cX9_step 74 = .ok (.aload_n 0, 1) := dk_42 (dk_at dksX9_step_3 4 rfl rfl)
theorem dX9_step_75 : decode cX9_step 75 = .ok (.getfield 47, 3) := dk_180 0 47 (dk_at dksX9_step_3 5 rfl rfl)
theorem dX9_step_78 : decode cX9_step 78 = .ok (.iload_n 1, 1) := dk_27 (dk_at dksX9_step_3 8 rfl rfl)
theorem dX9_step_79 : decode cX9_step 79 = .ok (.iaload, 1) := dk_46 (dk_at dksX9_step_3 9 rfl rfl)
theorem dX9_step_80 : decode cX9_step 80 = .ok (.goto 9, 3) := dk_167 0 9 (dk_at dksX9_step_3 10 rfl rfl)
theorem dX9_step_83 : decode cX9_step 83 = .ok (.aload_n 0, 1) := dk_42 (dk_at dksX9_step_3 13 rfl rfl)
theorem dX9_step_84 : decode cX9_step 84 = .ok (.getfield 50, 3) := dk_180 0 50 (dk_at dksX9_step_3 14 rfl rfl)
theorem dX9_step_87 : decode cX9_step 87 = .ok (.iload_n 1, 1) := dk_27 (dk_at dksX9_step_3 17 rfl rfl)
theorem dX9_step_88 : decode cX9_step 88 = .ok (.iaload, 1) := dk_46 (dk_at dksX9_step_3 18 rfl rfl)
theorem dX9_step_89 : decode cX9_step 89 = .ok (.ireturn, 1) := dk_172 (dk_at dksX9_step_3 19 rfl rfl)
abbrev cX9_undo : ByteArray := prog_19_method_26_code
def yX9_undo : MethodName := ⟨RX9, "undo", "()I"⟩
def dkwX9_undo_6 : List UInt8 := [172]
abbrev dktX9_undo_6 : List UInt8 := dkwX9_undo_6 ++ []
def dkwX9_undo_5 : List UInt8 := [28, 46, 100, 79, 42, 89, 180, 0, 191, 4, 96, 181, 0, 191, 132, 2, 255, 167, 255, 194, 42, 180, 0, 191]
abbrev dktX9_undo_5 : List UInt8 := dkwX9_undo_5 ++ dktX9_undo_6
def dkwX9_undo_4 : List UInt8 := [180, 0, 191, 42, 180, 0, 47, 28, 46, 79, 42, 180, 0, 59, 42, 180, 0, 191, 16, 96, 42, 180, 0, 50]
abbrev dktX9_undo_4 : List UInt8 := dkwX9_undo_4 ++ dktX9_undo_5
def dkwX9_undo_3 : List UInt8 := [4, 100, 61, 28, 155, 0, 64, 42, 180, 0, 50, 28, 46, 154, 0, 6, 167, 0, 46, 42, 180, 0, 56, 42]
abbrev dktX9_undo_3 : List UInt8 := dkwX9_undo_3 ++ dktX9_undo_4
def dkwX9_undo_2 : List UInt8 := [132, 2, 1, 167, 255, 228, 27, 16, 10, 164, 0, 6, 16, 252, 172, 42, 3, 181, 0, 191, 42, 180, 0, 176]
abbrev dktX9_undo_2 : List UInt8 := dkwX9_undo_2 ++ dktX9_undo_3
def dkwX9_undo_1 : List UInt8 := [180, 0, 176, 162, 0, 26, 27, 42, 180, 0, 50, 28, 46, 158, 0, 7, 4, 167, 0, 4, 3, 96, 60]
abbrev dktX9_undo_1 : List UInt8 := dkwX9_undo_1 ++ dktX9_undo_2
def dkwX9_undo_0 : List UInt8 := [42, 180, 0, 179, 153, 0, 10, 42, 180, 0, 183, 153, 0, 6, 16, 253, 172, 3, 60, 3, 61, 28, 42]
abbrev dktX9_undo_0 : List UInt8 := dkwX9_undo_0 ++ dktX9_undo_1
theorem dksX9_undo_0 : cX9_undo.data.toList.drop 0 = dktX9_undo_0 := by decide +kernel
theorem dksX9_undo_1 : cX9_undo.data.toList.drop 23 = dktX9_undo_1 := dk_seg dksX9_undo_0 23 rfl rfl
theorem dksX9_undo_2 : cX9_undo.data.toList.drop 46 = dktX9_undo_2 := dk_seg dksX9_undo_1 23 rfl rfl
theorem dksX9_undo_3 : cX9_undo.data.toList.drop 70 = dktX9_undo_3 := dk_seg dksX9_undo_2 24 rfl rfl
theorem dksX9_undo_4 : cX9_undo.data.toList.drop 94 = dktX9_undo_4 := dk_seg dksX9_undo_3 24 rfl rfl
theorem dksX9_undo_5 : cX9_undo.data.toList.drop 118 = dktX9_undo_5 := dk_seg dksX9_undo_4 24 rfl rfl
theorem dksX9_undo_6 : cX9_undo.data.toList.drop 142 = dktX9_undo_6 := dk_seg dksX9_undo_5 24 rfl rfl
theorem dX9_undo_0 : decode cX9_undo 0 = .ok (.aload_n 0, 1) := dk_42 (dk_at dksX9_undo_0 0 rfl rfl)
theorem dX9_undo_1 : decode cX9_undo 1 = .ok (.getfield 179, 3) := dk_180 0 179 (dk_at dksX9_undo_0 1 rfl rfl)
theorem dX9_undo_4 : decode cX9_undo 4 = .ok (.ifCond .eq 10, 3) := dk_153 0 10 (dk_at dksX9_undo_0 4 rfl rfl)
theorem dX9_undo_7 : decode cX9_undo 7 = .ok (.aload_n 0, 1) := dk_42 (dk_at dksX9_undo_0 7 rfl rfl)
theorem dX9_undo_8 : decode cX9_undo 8 = .ok (.getfield 183, 3) := dk_180 0 183 (dk_at dksX9_undo_0 8 rfl rfl)
theorem dX9_undo_11 : decode cX9_undo 11 = .ok (.ifCond .eq 6, 3) := dk_153 0 6 (dk_at dksX9_undo_0 11 rfl rfl)
theorem dX9_undo_14 : decode cX9_undo 14 = .ok (.bipush (-3), 2) := dk_16 253 (dk_at dksX9_undo_0 14 rfl rfl)
theorem dX9_undo_16 : decode cX9_undo 16 = .ok (.ireturn, 1) := dk_172 (dk_at dksX9_undo_0 16 rfl rfl)
theorem dX9_undo_17 : decode cX9_undo 17 = .ok (.iconst 0, 1) := dk_3 (dk_at dksX9_undo_0 17 rfl rfl)
theorem dX9_undo_18 : decode cX9_undo 18 = .ok (.istore_n 1, 1) := dk_60 (dk_at dksX9_undo_0 18 rfl rfl)
theorem dX9_undo_19 : decode cX9_undo 19 = .ok (.iconst 0, 1) := dk_3 (dk_at dksX9_undo_0 19 rfl rfl)
theorem dX9_undo_20 : decode cX9_undo 20 = .ok (.istore_n 2, 1) := dk_61 (dk_at dksX9_undo_0 20 rfl rfl)
theorem dX9_undo_21 : decode cX9_undo 21 = .ok (.iload_n 2, 1) := dk_28 (dk_at dksX9_undo_0 21 rfl rfl)
theorem dX9_undo_22 : decode cX9_undo 22 = .ok (.aload_n 0, 1) := dk_42 (dk_at dksX9_undo_0 22 rfl rfl)
theorem dX9_undo_23 : decode cX9_undo 23 = .ok (.getfield 176, 3) := dk_180 0 176 (dk_at dksX9_undo_1 0 rfl rfl)
theorem dX9_undo_26 : decode cX9_undo 26 = .ok (.if_icmp .ge 26, 3) := dk_162 0 26 (dk_at dksX9_undo_1 3 rfl rfl)
theorem dX9_undo_29 : decode cX9_undo 29 = .ok (.iload_n 1, 1) := dk_27 (dk_at dksX9_undo_1 6 rfl rfl)
theorem dX9_undo_30 : decode cX9_undo 30 = .ok (.aload_n 0, 1) := dk_42 (dk_at dksX9_undo_1 7 rfl rfl)
theorem dX9_undo_31 : decode cX9_undo 31 = .ok (.getfield 50, 3) := dk_180 0 50 (dk_at dksX9_undo_1 8 rfl rfl)
theorem dX9_undo_34 : decode cX9_undo 34 = .ok (.iload_n 2, 1) := dk_28 (dk_at dksX9_undo_1 11 rfl rfl)
theorem dX9_undo_35 : decode cX9_undo 35 = .ok (.iaload, 1) := dk_46 (dk_at dksX9_undo_1 12 rfl rfl)
theorem dX9_undo_36 : decode cX9_undo 36 = .ok (.ifCond .le 7, 3) := dk_158 0 7 (dk_at dksX9_undo_1 13 rfl rfl)
theorem dX9_undo_39 : decode cX9_undo 39 = .ok (.iconst 1, 1) := dk_4 (dk_at dksX9_undo_1 16 rfl rfl)
theorem dX9_undo_40 : decode cX9_undo 40 = .ok (.goto 4, 3) := dk_167 0 4 (dk_at dksX9_undo_1 17 rfl rfl)
theorem dX9_undo_43 : decode cX9_undo 43 = .ok (.iconst 0, 1) := dk_3 (dk_at dksX9_undo_1 20 rfl rfl)
theorem dX9_undo_44 : decode cX9_undo 44 = .ok (.iadd, 1) := dk_96 (dk_at dksX9_undo_1 21 rfl rfl)
theorem dX9_undo_45 : decode cX9_undo 45 = .ok (.istore_n 1, 1) := dk_60 (dk_at dksX9_undo_1 22 rfl rfl)
theorem dX9_undo_46 : decode cX9_undo 46 = .ok (.iinc 2 1, 3) := dk_132 2 1 (dk_at dksX9_undo_2 0 rfl rfl)
theorem dX9_undo_49 : decode cX9_undo 49 = .ok (.goto (-28), 3) := dk_167 255 228 (dk_at dksX9_undo_2 3 rfl rfl)
theorem dX9_undo_52 : decode cX9_undo 52 = .ok (.iload_n 1, 1) := dk_27 (dk_at dksX9_undo_2 6 rfl rfl)
theorem dX9_undo_53 : decode cX9_undo 53 = .ok (.bipush 10, 2) := dk_16 10 (dk_at dksX9_undo_2 7 rfl rfl)
theorem dX9_undo_55 : decode cX9_undo 55 = .ok (.if_icmp .le 6, 3) := dk_164 0 6 (dk_at dksX9_undo_2 9 rfl rfl)
theorem dX9_undo_58 : decode cX9_undo 58 = .ok (.bipush (-4), 2) := dk_16 252 (dk_at dksX9_undo_2 12 rfl rfl)
theorem dX9_undo_60 : decode cX9_undo 60 = .ok (.ireturn, 1) := dk_172 (dk_at dksX9_undo_2 14 rfl rfl)
theorem dX9_undo_61 : decode cX9_undo 61 = .ok (.aload_n 0, 1) := dk_42 (dk_at dksX9_undo_2 15 rfl rfl)
theorem dX9_undo_62 : decode cX9_undo 62 = .ok (.iconst 0, 1) := dk_3 (dk_at dksX9_undo_2 16 rfl rfl)
theorem dX9_undo_63 : decode cX9_undo 63 = .ok (.putfield 191, 3) := dk_181 0 191 (dk_at dksX9_undo_2 17 rfl rfl)
theorem dX9_undo_66 : decode cX9_undo 66 = .ok (.aload_n 0, 1) := dk_42 (dk_at dksX9_undo_2 20 rfl rfl)
theorem dX9_undo_67 : decode cX9_undo 67 = .ok (.getfield 176, 3) := dk_180 0 176 (dk_at dksX9_undo_2 21 rfl rfl)
theorem dX9_undo_70 : decode cX9_undo 70 = .ok (.iconst 1, 1) := dk_4 (dk_at dksX9_undo_3 0 rfl rfl)
theorem dX9_undo_71 : decode cX9_undo 71 = .ok (.isub, 1) := dk_100 (dk_at dksX9_undo_3 1 rfl rfl)
theorem dX9_undo_72 : decode cX9_undo 72 = .ok (.istore_n 2, 1) := dk_61 (dk_at dksX9_undo_3 2 rfl rfl)
theorem dX9_undo_73 : decode cX9_undo 73 = .ok (.iload_n 2, 1) := dk_28 (dk_at dksX9_undo_3 3 rfl rfl)
theorem dX9_undo_74 : decode cX9_undo 74 = .ok (.ifCond .lt 64, 3) := dk_155 0 64 (dk_at dksX9_undo_3 4 rfl rfl)
theorem dX9_undo_77 : decode cX9_undo 77 = .ok (.aload_n 0, 1) := dk_42 (dk_at dksX9_undo_3 7 rfl rfl)
theorem dX9_undo_78 : decode cX9_undo 78 = .ok (.getfield 50, 3) := dk_180 0 50 (dk_at dksX9_undo_3 8 rfl rfl)
theorem dX9_undo_81 : decode cX9_undo 81 = .ok (.iload_n 2, 1) := dk_28 (dk_at dksX9_undo_3 11 rfl rfl)
theorem dX9_undo_82 : decode cX9_undo 82 = .ok (.iaload, 1) := dk_46 (dk_at dksX9_undo_3 12 rfl rfl)
theorem dX9_undo_83 : decode cX9_undo 83 = .ok (.ifCond .ne 6, 3) := dk_154 0 6 (dk_at dksX9_undo_3 13 rfl rfl)
theorem dX9_undo_86 : decode cX9_undo 86 = .ok (.goto 46, 3) := dk_167 0 46 (dk_at dksX9_undo_3 16 rfl rfl)
theorem dX9_undo_89 : decode cX9_undo 89 = .ok (.aload_n 0, 1) := dk_42 (dk_at dksX9_undo_3 19 rfl rfl)
theorem dX9_undo_90 : decode cX9_undo 90 = .ok (.getfield 56, 3) := dk_180 0 56 (dk_at dksX9_undo_3 20 rfl rfl)
theorem dX9_undo_93 : decode cX9_undo 93 = .ok (.aload_n 0, 1) := dk_42 (dk_at dksX9_undo_3 23 rfl rfl)
theorem dX9_undo_94 : decode cX9_undo 94 = .ok (.getfield 191, 3) := dk_180 0 191 (dk_at dksX9_undo_4 0 rfl rfl)
theorem dX9_undo_97 : decode cX9_undo 97 = .ok (.aload_n 0, 1) := dk_42 (dk_at dksX9_undo_4 3 rfl rfl)
theorem dX9_undo_98 : decode cX9_undo 98 = .ok (.getfield 47, 3) := dk_180 0 47 (dk_at dksX9_undo_4 4 rfl rfl)
theorem dX9_undo_101 : decode cX9_undo 101 = .ok (.iload_n 2, 1) := dk_28 (dk_at dksX9_undo_4 7 rfl rfl)
theorem dX9_undo_102 : decode cX9_undo 102 = .ok (.iaload, 1) := dk_46 (dk_at dksX9_undo_4 8 rfl rfl)
theorem dX9_undo_103 : decode cX9_undo 103 = .ok (.iastore, 1) := dk_79 (dk_at dksX9_undo_4 9 rfl rfl)
theorem dX9_undo_104 : decode cX9_undo 104 = .ok (.aload_n 0, 1) := dk_42 (dk_at dksX9_undo_4 10 rfl rfl)
theorem dX9_undo_105 : decode cX9_undo 105 = .ok (.getfield 59, 3) := dk_180 0 59 (dk_at dksX9_undo_4 11 rfl rfl)
theorem dX9_undo_108 : decode cX9_undo 108 = .ok (.aload_n 0, 1) := dk_42 (dk_at dksX9_undo_4 14 rfl rfl)
theorem dX9_undo_109 : decode cX9_undo 109 = .ok (.getfield 191, 3) := dk_180 0 191 (dk_at dksX9_undo_4 15 rfl rfl)
theorem dX9_undo_112 : decode cX9_undo 112 = .ok (.bipush 96, 2) := dk_16 96 (dk_at dksX9_undo_4 18 rfl rfl)
theorem dX9_undo_114 : decode cX9_undo 114 = .ok (.aload_n 0, 1) := dk_42 (dk_at dksX9_undo_4 20 rfl rfl)
theorem dX9_undo_115 : decode cX9_undo 115 = .ok (.getfield 50, 3) := dk_180 0 50 (dk_at dksX9_undo_4 21 rfl rfl)
theorem dX9_undo_118 : decode cX9_undo 118 = .ok (.iload_n 2, 1) := dk_28 (dk_at dksX9_undo_5 0 rfl rfl)
theorem dX9_undo_119 : decode cX9_undo 119 = .ok (.iaload, 1) := dk_46 (dk_at dksX9_undo_5 1 rfl rfl)
theorem dX9_undo_120 : decode cX9_undo 120 = .ok (.isub, 1) := dk_100 (dk_at dksX9_undo_5 2 rfl rfl)
theorem dX9_undo_121 : decode cX9_undo 121 = .ok (.iastore, 1) := dk_79 (dk_at dksX9_undo_5 3 rfl rfl)
theorem dX9_undo_122 : decode cX9_undo 122 = .ok (.aload_n 0, 1) := dk_42 (dk_at dksX9_undo_5 4 rfl rfl)
theorem dX9_undo_123 : decode cX9_undo 123 = .ok (.dup, 1) := dk_89 (dk_at dksX9_undo_5 5 rfl rfl)
theorem dX9_undo_124 : decode cX9_undo 124 = .ok (.getfield 191, 3) := dk_180 0 191 (dk_at dksX9_undo_5 6 rfl rfl)
theorem dX9_undo_127 : decode cX9_undo 127 = .ok (.iconst 1, 1) := dk_4 (dk_at dksX9_undo_5 9 rfl rfl)
theorem dX9_undo_128 : decode cX9_undo 128 = .ok (.iadd, 1) := dk_96 (dk_at dksX9_undo_5 10 rfl rfl)
theorem dX9_undo_129 : decode cX9_undo 129 = .ok (.putfield 191, 3) := dk_181 0 191 (dk_at dksX9_undo_5 11 rfl rfl)
theorem dX9_undo_132 : decode cX9_undo 132 = .ok (.iinc 2 (-1), 3) := dk_132 2 255 (dk_at dksX9_undo_5 14 rfl rfl)
theorem dX9_undo_135 : decode cX9_undo 135 = .ok (.goto (-62), 3) := dk_167 255 194 (dk_at dksX9_undo_5 17 rfl rfl)
theorem dX9_undo_138 : decode cX9_undo 138 = .ok (.aload_n 0, 1) := dk_42 (dk_at dksX9_undo_5 20 rfl rfl)
theorem dX9_undo_139 : decode cX9_undo 139 = .ok (.getfield 191, 3) := dk_180 0 191 (dk_at dksX9_undo_5 21 rfl rfl)
theorem dX9_undo_142 : decode cX9_undo 142 = .ok (.ireturn, 1) := dk_172 (dk_at dksX9_undo_6 0 rfl rfl)
abbrev cX9_work : ByteArray := prog_19_method_27_code
def yX9_work : MethodName := ⟨RX9, "work", "(II)I"⟩
def dkwX9_work_2 : List UInt8 := [172]
abbrev dktX9_work_2 : List UInt8 := dkwX9_work_2 ++ []
def dkwX9_work_1 : List UInt8 := [42, 180, 0, 56, 27, 46, 167, 0, 18, 28, 4, 160, 0, 12, 42, 180, 0, 59, 27, 46, 167, 0, 4, 2]
abbrev dktX9_work_1 : List UInt8 := dkwX9_work_1 ++ dktX9_work_2
def dkwX9_work_0 : List UInt8 := [27, 133, 9, 42, 180, 0, 191, 4, 100, 133, 184, 0, 126, 154, 0, 7, 2, 167, 0, 31, 28, 154, 0, 12]
abbrev dktX9_work_0 : List UInt8 := dkwX9_work_0 ++ dktX9_work_1
theorem dksX9_work_0 : cX9_work.data.toList.drop 0 = dktX9_work_0 := by decide +kernel
theorem dksX9_work_1 : cX9_work.data.toList.drop 24 = dktX9_work_1 := dk_seg dksX9_work_0 24 rfl rfl
theorem dksX9_work_2 : cX9_work.data.toList.drop 48 = dktX9_work_2 := dk_seg dksX9_work_1 24 rfl rfl
theorem dX9_work_0 : decode cX9_work 0 = .ok (.iload_n 1, 1) := dk_27 (dk_at dksX9_work_0 0 rfl rfl)
theorem dX9_work_1 : decode cX9_work 1 = .ok (.i2l, 1) := dk_133 (dk_at dksX9_work_0 1 rfl rfl)
theorem dX9_work_2 : decode cX9_work 2 = .ok (.lconst 0, 1) := dk_9 (dk_at dksX9_work_0 2 rfl rfl)
theorem dX9_work_3 : decode cX9_work 3 = .ok (.aload_n 0, 1) := dk_42 (dk_at dksX9_work_0 3 rfl rfl)
theorem dX9_work_4 : decode cX9_work 4 = .ok (.getfield 191, 3) := dk_180 0 191 (dk_at dksX9_work_0 4 rfl rfl)
theorem dX9_work_7 : decode cX9_work 7 = .ok (.iconst 1, 1) := dk_4 (dk_at dksX9_work_0 7 rfl rfl)
theorem dX9_work_8 : decode cX9_work 8 = .ok (.isub, 1) := dk_100 (dk_at dksX9_work_0 8 rfl rfl)
theorem dX9_work_9 : decode cX9_work 9 = .ok (.i2l, 1) := dk_133 (dk_at dksX9_work_0 9 rfl rfl)
theorem dX9_work_10 : decode cX9_work 10 = .ok (.invokestatic 126, 3) := dk_184 0 126 (dk_at dksX9_work_0 10 rfl rfl)
theorem dX9_work_13 : decode cX9_work 13 = .ok (.ifCond .ne 7, 3) := dk_154 0 7 (dk_at dksX9_work_0 13 rfl rfl)
theorem dX9_work_16 : decode cX9_work 16 = .ok (.iconst (-1), 1) := dk_2 (dk_at dksX9_work_0 16 rfl rfl)
theorem dX9_work_17 : decode cX9_work 17 = .ok (.goto 31, 3) := dk_167 0 31 (dk_at dksX9_work_0 17 rfl rfl)
theorem dX9_work_20 : decode cX9_work 20 = .ok (.iload_n 2, 1) := dk_28 (dk_at dksX9_work_0 20 rfl rfl)
theorem dX9_work_21 : decode cX9_work 21 = .ok (.ifCond .ne 12, 3) := dk_154 0 12 (dk_at dksX9_work_0 21 rfl rfl)
theorem dX9_work_24 : decode cX9_work 24 = .ok (.aload_n 0, 1) := dk_42 (dk_at dksX9_work_1 0 rfl rfl)
theorem dX9_work_25 : decode cX9_work 25 = .ok (.getfield 56, 3) := dk_180 0 56 (dk_at dksX9_work_1 1 rfl rfl)
theorem dX9_work_28 : decode cX9_work 28 = .ok (.iload_n 1, 1) := dk_27 (dk_at dksX9_work_1 4 rfl rfl)
theorem dX9_work_29 : decode cX9_work 29 = .ok (.iaload, 1) := dk_46 (dk_at dksX9_work_1 5 rfl rfl)
theorem dX9_work_30 : decode cX9_work 30 = .ok (.goto 18, 3) := dk_167 0 18 (dk_at dksX9_work_1 6 rfl rfl)
theorem dX9_work_33 : decode cX9_work 33 = .ok (.iload_n 2, 1) := dk_28 (dk_at dksX9_work_1 9 rfl rfl)
theorem dX9_work_34 : decode cX9_work 34 = .ok (.iconst 1, 1) := dk_4 (dk_at dksX9_work_1 10 rfl rfl)
theorem dX9_work_35 : decode cX9_work 35 = .ok (.if_icmp .ne 12, 3) := dk_160 0 12 (dk_at dksX9_work_1 11 rfl rfl)
theorem dX9_work_38 : decode cX9_work 38 = .ok (.aload_n 0, 1) := dk_42 (dk_at dksX9_work_1 14 rfl rfl)
theorem dX9_work_39 : decode cX9_work 39 = .ok (.getfield 59, 3) := dk_180 0 59 (dk_at dksX9_work_1 15 rfl rfl)
theorem dX9_work_42 : decode cX9_work 42 = .ok (.iload_n 1, 1) := dk_27 (dk_at dksX9_work_1 18 rfl rfl)
theorem dX9_work_43 : decode cX9_work 43 = .ok (.iaload, 1) := dk_46 (dk_at dksX9_work_1 19 rfl rfl)
theorem dX9_work_44 : decode cX9_work 44 = .ok (.goto 4, 3) := dk_167 0 4 (dk_at dksX9_work_1 20 rfl rfl)
theorem dX9_work_47 : decode cX9_work 47 = .ok (.iconst (-1), 1) := dk_2 (dk_at dksX9_work_1 23 rfl rfl)
theorem dX9_work_48 : decode cX9_work 48 = .ok (.ireturn, 1) := dk_172 (dk_at dksX9_work_2 0 rfl rfl)
abbrev cX9_lay : ByteArray := prog_19_method_32_code
def yX9_lay : MethodName := ⟨RX9, "lay", "()I"⟩
def dkwX9_lay_11 : List UInt8 := [167, 255, 194, 21, 4, 21, 7, 128, 54, 4, 132, 5, 1, 167, 255, 106, 28, 172]
abbrev dktX9_lay_11 : List UInt8 := dkwX9_lay_11 ++ []
def dkwX9_lay_10 : List UInt8 := [21, 9, 46, 156, 0, 17, 42, 180, 0, 16, 21, 9, 42, 180, 0, 59, 21, 8, 46, 79, 132, 8, 1]
abbrev dktX9_lay_10 : List UInt8 := dkwX9_lay_10 ++ dktX9_lay_11
def dkwX9_lay_9 : List UInt8 := [180, 0, 56, 21, 8, 46, 96, 54, 9, 21, 7, 21, 8, 122, 4, 126, 4, 160, 0, 27, 42, 180, 0, 19]
abbrev dktX9_lay_9 : List UInt8 := dkwX9_lay_9 ++ dktX9_lay_10
def dkwX9_lay_8 : List UInt8 := [54, 7, 167, 255, 212, 3, 54, 8, 21, 8, 42, 180, 0, 191, 162, 0, 59, 16, 6, 21, 5, 104, 42]
abbrev dktX9_lay_8 : List UInt8 := dkwX9_lay_8 ++ dktX9_lay_9
def dkwX9_lay_7 : List UInt8 := [153, 0, 16, 42, 21, 5, 21, 7, 21, 4, 182, 0, 199, 154, 0, 15, 21, 7, 4, 100, 21, 6, 126]
abbrev dktX9_lay_7 : List UInt8 := dkwX9_lay_7 ++ dktX9_lay_8
def dkwX9_lay_6 : List UInt8 := [21, 6, 54, 7, 42, 180, 0, 62, 17, 4, 0, 21, 5, 4, 96, 104, 21, 4, 21, 7, 128, 96, 51]
abbrev dktX9_lay_6 : List UInt8 := dkwX9_lay_6 ++ dktX9_lay_7
def dkwX9_lay_5 : List UInt8 := [3, 54, 5, 21, 5, 28, 162, 0, 150, 4, 42, 180, 0, 191, 120, 4, 100, 21, 4, 2, 130, 126, 54, 6]
abbrev dktX9_lay_5 : List UInt8 := dkwX9_lay_5 ++ dktX9_lay_6
def dkwX9_lay_4 : List UInt8 := [156, 0, 7, 3, 167, 0, 10, 42, 180, 0, 16, 21, 4, 46, 79, 132, 4, 1, 167, 255, 218, 3, 54, 4]
abbrev dktX9_lay_4 : List UInt8 := dkwX9_lay_4 ++ dktX9_lay_5
def dkwX9_lay_3 : List UInt8 := [54, 4, 21, 4, 16, 72, 162, 0, 37, 42, 180, 0, 16, 21, 4, 42, 180, 0, 19, 21, 4, 46]
abbrev dktX9_lay_3 : List UInt8 := dkwX9_lay_3 ++ dktX9_lay_4
def dkwX9_lay_2 : List UInt8 := [62, 28, 29, 153, 0, 7, 3, 167, 0, 4, 4, 96, 61, 167, 255, 222, 29, 154, 0, 6, 16, 251, 172, 3]
abbrev dktX9_lay_2 : List UInt8 := dkwX9_lay_2 ++ dktX9_lay_3
def dkwX9_lay_1 : List UInt8 := [61, 3, 62, 28, 16, 12, 163, 0, 34, 29, 154, 0, 30, 42, 28, 182, 0, 206, 42, 180, 0, 62, 3, 51]
abbrev dktX9_lay_1 : List UInt8 := dkwX9_lay_1 ++ dktX9_lay_2
def dkwX9_lay_0 : List UInt8 := [16, 12, 60, 27, 158, 0, 19, 42, 27, 4, 100, 182, 0, 203, 153, 0, 9, 132, 1, 255, 167, 255, 239, 27]
abbrev dktX9_lay_0 : List UInt8 := dkwX9_lay_0 ++ dktX9_lay_1
theorem dksX9_lay_0 : cX9_lay.data.toList.drop 0 = dktX9_lay_0 := by decide +kernel
theorem dksX9_lay_1 : cX9_lay.data.toList.drop 24 = dktX9_lay_1 := dk_seg dksX9_lay_0 24 rfl rfl
theorem dksX9_lay_2 : cX9_lay.data.toList.drop 48 = dktX9_lay_2 := dk_seg dksX9_lay_1 24 rfl rfl
theorem dksX9_lay_3 : cX9_lay.data.toList.drop 72 = dktX9_lay_3 := dk_seg dksX9_lay_2 24 rfl rfl
theorem dksX9_lay_4 : cX9_lay.data.toList.drop 94 = dktX9_lay_4 := dk_seg dksX9_lay_3 22 rfl rfl
theorem dksX9_lay_5 : cX9_lay.data.toList.drop 118 = dktX9_lay_5 := dk_seg dksX9_lay_4 24 rfl rfl
theorem dksX9_lay_6 : cX9_lay.data.toList.drop 142 = dktX9_lay_6 := dk_seg dksX9_lay_5 24 rfl rfl
theorem dksX9_lay_7 : cX9_lay.data.toList.drop 165 = dktX9_lay_7 := dk_seg dksX9_lay_6 23 rfl rfl
theorem dksX9_lay_8 : cX9_lay.data.toList.drop 188 = dktX9_lay_8 := dk_seg dksX9_lay_7 23 rfl rfl
theorem dksX9_lay_9 : cX9_lay.data.toList.drop 211 = dktX9_lay_9 := dk_seg dksX9_lay_8 23 rfl rfl
theorem dksX9_lay_10 : cX9_lay.data.toList.drop 235 = dktX9_lay_10 := dk_seg dksX9_lay_9 24 rfl rfl
theorem dksX9_lay_11 : cX9_lay.data.toList.drop 258 = dktX9_lay_11 := dk_seg dksX9_lay_10 23 rfl rfl
theorem dX9_lay_0 : decode cX9_lay 0 = .ok (.bipush 12, 2) := dk_16 12 (dk_at dksX9_lay_0 0 rfl rfl)
theorem dX9_lay_2 : decode cX9_lay 2 = .ok (.istore_n 1, 1) := dk_60 (dk_at dksX9_lay_0 2 rfl rfl)
theorem dX9_lay_3 : decode cX9_lay 3 = .ok (.iload_n 1, 1) := dk_27 (dk_at dksX9_lay_0 3 rfl rfl)
theorem dX9_lay_4 : decode cX9_lay 4 = .ok (.ifCond .le 19, 3) := dk_158 0 19 (dk_at dksX9_lay_0 4 rfl rfl)
theorem dX9_lay_7 : decode cX9_lay 7 = .ok (.aload_n 0, 1) := dk_42 (dk_at dksX9_lay_0 7 rfl rfl)
theorem dX9_lay_8 : decode cX9_lay 8 = .ok (.iload_n 1, 1) := dk_27 (dk_at dksX9_lay_0 8 rfl rfl)
theorem dX9_lay_9 : decode cX9_lay 9 = .ok (.iconst 1, 1) := dk_4 (dk_at dksX9_lay_0 9 rfl rfl)
theorem dX9_lay_10 : decode cX9_lay 10 = .ok (.isub, 1) := dk_100 (dk_at dksX9_lay_0 10 rfl rfl)
theorem dX9_lay_11 : decode cX9_lay 11 = .ok (.invokevirtual 203, 3) := dk_182 0 203 (dk_at dksX9_lay_0 11 rfl rfl)
theorem dX9_lay_14 : decode cX9_lay 14 = .ok (.ifCond .eq 9, 3) := dk_153 0 9 (dk_at dksX9_lay_0 14 rfl rfl)
theorem dX9_lay_17 : decode cX9_lay 17 = .ok (.iinc 1 (-1), 3) := dk_132 1 255 (dk_at dksX9_lay_0 17 rfl rfl)
theorem dX9_lay_20 : decode cX9_lay 20 = .ok (.goto (-17), 3) := dk_167 255 239 (dk_at dksX9_lay_0 20 rfl rfl)
theorem dX9_lay_23 : decode cX9_lay 23 = .ok (.iload_n 1, 1) := dk_27 (dk_at dksX9_lay_0 23 rfl rfl)
theorem dX9_lay_24 : decode cX9_lay 24 = .ok (.istore_n 2, 1) := dk_61 (dk_at dksX9_lay_1 0 rfl rfl)
theorem dX9_lay_25 : decode cX9_lay 25 = .ok (.iconst 0, 1) := dk_3 (dk_at dksX9_lay_1 1 rfl rfl)
theorem dX9_lay_26 : decode cX9_lay 26 = .ok (.istore_n 3, 1) := dk_62 (dk_at dksX9_lay_1 2 rfl rfl)
theorem dX9_lay_27 : decode cX9_lay 27 = .ok (.iload_n 2, 1) := dk_28 (dk_at dksX9_lay_1 3 rfl rfl)
theorem dX9_lay_28 : decode cX9_lay 28 = .ok (.bipush 12, 2) := dk_16 12 (dk_at dksX9_lay_1 4 rfl rfl)
theorem dX9_lay_30 : decode cX9_lay 30 = .ok (.if_icmp .gt 34, 3) := dk_163 0 34 (dk_at dksX9_lay_1 6 rfl rfl)
theorem dX9_lay_33 : decode cX9_lay 33 = .ok (.iload_n 3, 1) := dk_29 (dk_at dksX9_lay_1 9 rfl rfl)
theorem dX9_lay_34 : decode cX9_lay 34 = .ok (.ifCond .ne 30, 3) := dk_154 0 30 (dk_at dksX9_lay_1 10 rfl rfl)
theorem dX9_lay_37 : decode cX9_lay 37 = .ok (.aload_n 0, 1) := dk_42 (dk_at dksX9_lay_1 13 rfl rfl)
theorem dX9_lay_38 : decode cX9_lay 38 = .ok (.iload_n 2, 1) := dk_28 (dk_at dksX9_lay_1 14 rfl rfl)
theorem dX9_lay_39 : decode cX9_lay 39 = .ok (.invokevirtual 206, 3) := dk_182 0 206 (dk_at dksX9_lay_1 15 rfl rfl)
theorem dX9_lay_42 : decode cX9_lay 42 = .ok (.aload_n 0, 1) := dk_42 (dk_at dksX9_lay_1 18 rfl rfl)
theorem dX9_lay_43 : decode cX9_lay 43 = .ok (.getfield 62, 3) := dk_180 0 62 (dk_at dksX9_lay_1 19 rfl rfl)
theorem dX9_lay_46 : decode cX9_lay 46 = .ok (.iconst 0, 1) := dk_3 (dk_at dksX9_lay_1 22 rfl rfl)
theorem dX9_lay_47 : decode cX9_lay 47 = .ok (.baload, 1) := dk_51 (dk_at dksX9_lay_1 23 rfl rfl)
theorem dX9_lay_48 : decode cX9_lay 48 = .ok (.istore_n 3, 1) := dk_62 (dk_at dksX9_lay_2 0 rfl rfl)
theorem dX9_lay_49 : decode cX9_lay 49 = .ok (.iload_n 2, 1) := dk_28 (dk_at dksX9_lay_2 1 rfl rfl)
theorem dX9_lay_50 : decode cX9_lay 50 = .ok (.iload_n 3, 1) := dk_29 (dk_at dksX9_lay_2 2 rfl rfl)
theorem dX9_lay_51 : decode cX9_lay 51 = .ok (.ifCond .eq 7, 3) := dk_153 0 7 (dk_at dksX9_lay_2 3 rfl rfl)
theorem dX9_lay_54 : decode cX9_lay 54 = .ok (.iconst 0, 1) := dk_3 (dk_at dksX9_lay_2 6 rfl rfl)
theorem dX9_lay_55 : decode cX9_lay 55 = .ok (.goto 4, 3) := dk_167 0 4 (dk_at dksX9_lay_2 7 rfl rfl)
theorem dX9_lay_58 : decode cX9_lay 58 = .ok (.iconst 1, 1) := dk_4 (dk_at dksX9_lay_2 10 rfl rfl)
theorem dX9_lay_59 : decode cX9_lay 59 = .ok (.iadd, 1) := dk_96 (dk_at dksX9_lay_2 11 rfl rfl)
theorem dX9_lay_60 : decode cX9_lay 60 = .ok (.istore_n 2, 1) := dk_61 (dk_at dksX9_lay_2 12 rfl rfl)
theorem dX9_lay_61 : decode cX9_lay 61 = .ok (.goto (-34), 3) := dk_167 255 222 (dk_at dksX9_lay_2 13 rfl rfl)
theorem dX9_lay_64 : decode cX9_lay 64 = .ok (.iload_n 3, 1) := dk_29 (dk_at dksX9_lay_2 16 rfl rfl)
theorem dX9_lay_65 : decode cX9_lay 65 = .ok (.ifCond .ne 6, 3) := dk_154 0 6 (dk_at dksX9_lay_2 17 rfl rfl)
theorem dX9_lay_68 : decode cX9_lay 68 = .ok (.bipush (-5), 2) := dk_16 251 (dk_at dksX9_lay_2 20 rfl rfl)
theorem dX9_lay_70 : decode cX9_lay 70 = .ok (.ireturn, 1) := dk_172 (dk_at dksX9_lay_2 22 rfl rfl)
theorem dX9_lay_71 : decode cX9_lay 71 = .ok (.iconst 0, 1) := dk_3 (dk_at dksX9_lay_2 23 rfl rfl)
theorem dX9_lay_72 : decode cX9_lay 72 = .ok (.istore 4, 2) := dk_54 4 (dk_at dksX9_lay_3 0 rfl rfl)
theorem dX9_lay_74 : decode cX9_lay 74 = .ok (.iload 4, 2) := dk_21 4 (dk_at dksX9_lay_3 2 rfl rfl)
theorem dX9_lay_76 : decode cX9_lay 76 = .ok (.bipush 72, 2) := dk_16 72 (dk_at dksX9_lay_3 4 rfl rfl)
theorem dX9_lay_78 : decode cX9_lay 78 = .ok (.if_icmp .ge 37, 3) := dk_162 0 37 (dk_at dksX9_lay_3 6 rfl rfl)
theorem dX9_lay_81 : decode cX9_lay 81 = .ok (.aload_n 0, 1) := dk_42 (dk_at dksX9_lay_3 9 rfl rfl)
theorem dX9_lay_82 : decode cX9_lay 82 = .ok (.getfield 16, 3) := dk_180 0 16 (dk_at dksX9_lay_3 10 rfl rfl)
theorem dX9_lay_85 : decode cX9_lay 85 = .ok (.iload 4, 2) := dk_21 4 (dk_at dksX9_lay_3 13 rfl rfl)
theorem dX9_lay_87 : decode cX9_lay 87 = .ok (.aload_n 0, 1) := dk_42 (dk_at dksX9_lay_3 15 rfl rfl)
theorem dX9_lay_88 : decode cX9_lay 88 = .ok (.getfield 19, 3) := dk_180 0 19 (dk_at dksX9_lay_3 16 rfl rfl)
theorem dX9_lay_91 : decode cX9_lay 91 = .ok (.iload 4, 2) := dk_21 4 (dk_at dksX9_lay_3 19 rfl rfl)
theorem dX9_lay_93 : decode cX9_lay 93 = .ok (.iaload, 1) := dk_46 (dk_at dksX9_lay_3 21 rfl rfl)
theorem dX9_lay_94 : decode cX9_lay 94 = .ok (.ifCond .ge 7, 3) := dk_156 0 7 (dk_at dksX9_lay_4 0 rfl rfl)
theorem dX9_lay_97 : decode cX9_lay 97 = .ok (.iconst 0, 1) := dk_3 (dk_at dksX9_lay_4 3 rfl rfl)
theorem dX9_lay_98 : decode cX9_lay 98 = .ok (.goto 10, 3) := dk_167 0 10 (dk_at dksX9_lay_4 4 rfl rfl)
theorem dX9_lay_101 : decode cX9_lay 101 = .ok (.aload_n 0, 1) := dk_42 (dk_at dksX9_lay_4 7 rfl rfl)
theorem dX9_lay_102 : decode cX9_lay 102 = .ok (.getfield 16, 3) := dk_180 0 16 (dk_at dksX9_lay_4 8 rfl rfl)
theorem dX9_lay_105 : decode cX9_lay 105 = .ok (.iload 4, 2) := dk_21 4 (dk_at dksX9_lay_4 11 rfl rfl)
theorem dX9_lay_107 : decode cX9_lay 107 = .ok (.iaload, 1) := dk_46 (dk_at dksX9_lay_4 13 rfl rfl)
theorem dX9_lay_108 : decode cX9_lay 108 = .ok (.iastore, 1) := dk_79 (dk_at dksX9_lay_4 14 rfl rfl)
theorem dX9_lay_109 : decode cX9_lay 109 = .ok (.iinc 4 1, 3) := dk_132 4 1 (dk_at dksX9_lay_4 15 rfl rfl)
theorem dX9_lay_112 : decode cX9_lay 112 = .ok (.goto (-38), 3) := dk_167 255 218 (dk_at dksX9_lay_4 18 rfl rfl)
theorem dX9_lay_115 : decode cX9_lay 115 = .ok (.iconst 0, 1) := dk_3 (dk_at dksX9_lay_4 21 rfl rfl)
theorem dX9_lay_116 : decode cX9_lay 116 = .ok (.istore 4, 2) := dk_54 4 (dk_at dksX9_lay_4 22 rfl rfl)
theorem dX9_lay_118 : decode cX9_lay 118 = .ok (.iconst 0, 1) := dk_3 (dk_at dksX9_lay_5 0 rfl rfl)
theorem dX9_lay_119 : decode cX9_lay 119 = .ok (.istore 5, 2) := dk_54 5 (dk_at dksX9_lay_5 1 rfl rfl)
theorem dX9_lay_121 : decode cX9_lay 121 = .ok (.iload 5, 2) := dk_21 5 (dk_at dksX9_lay_5 3 rfl rfl)
theorem dX9_lay_123 : decode cX9_lay 123 = .ok (.iload_n 2, 1) := dk_28 (dk_at dksX9_lay_5 5 rfl rfl)
theorem dX9_lay_124 : decode cX9_lay 124 = .ok (.if_icmp .ge 150, 3) := dk_162 0 150 (dk_at dksX9_lay_5 6 rfl rfl)
theorem dX9_lay_127 : decode cX9_lay 127 = .ok (.iconst 1, 1) := dk_4 (dk_at dksX9_lay_5 9 rfl rfl)
theorem dX9_lay_128 : decode cX9_lay 128 = .ok (.aload_n 0, 1) := dk_42 (dk_at dksX9_lay_5 10 rfl rfl)
theorem dX9_lay_129 : decode cX9_lay 129 = .ok (.getfield 191, 3) := dk_180 0 191 (dk_at dksX9_lay_5 11 rfl rfl)
theorem dX9_lay_132 : decode cX9_lay 132 = .ok (.ishl, 1) := dk_120 (dk_at dksX9_lay_5 14 rfl rfl)
theorem dX9_lay_133 : decode cX9_lay 133 = .ok (.iconst 1, 1) := dk_4 (dk_at dksX9_lay_5 15 rfl rfl)
theorem dX9_lay_134 : decode cX9_lay 134 = .ok (.isub, 1) := dk_100 (dk_at dksX9_lay_5 16 rfl rfl)
theorem dX9_lay_135 : decode cX9_lay 135 = .ok (.iload 4, 2) := dk_21 4 (dk_at dksX9_lay_5 17 rfl rfl)
theorem dX9_lay_137 : decode cX9_lay 137 = .ok (.iconst (-1), 1) := dk_2 (dk_at dksX9_lay_5 19 rfl rfl)
theorem dX9_lay_138 : decode cX9_lay 138 = .ok (.ixor, 1) := dk_130 (dk_at dksX9_lay_5 20 rfl rfl)
theorem dX9_lay_139 : decode cX9_lay 139 = .ok (.iand, 1) := dk_126 (dk_at dksX9_lay_5 21 rfl rfl)
theorem dX9_lay_140 : decode cX9_lay 140 = .ok (.istore 6, 2) := dk_54 6 (dk_at dksX9_lay_5 22 rfl rfl)
theorem dX9_lay_142 : decode cX9_lay 142 = .ok (.iload 6, 2) := dk_21 6 (dk_at dksX9_lay_6 0 rfl rfl)
theorem dX9_lay_144 : decode cX9_lay 144 = .ok (.istore 7, 2) := dk_54 7 (dk_at dksX9_lay_6 2 rfl rfl)
theorem dX9_lay_146 : decode cX9_lay 146 = .ok (.aload_n 0, 1) := dk_42 (dk_at dksX9_lay_6 4 rfl rfl)
theorem dX9_lay_147 : decode cX9_lay 147 = .ok (.getfield 62, 3) := dk_180 0 62 (dk_at dksX9_lay_6 5 rfl rfl)
theorem dX9_lay_150 : decode cX9_lay 150 = .ok (.sipush 1024, 3) := dk_17 4 0 (dk_at dksX9_lay_6 8 rfl rfl)
theorem dX9_lay_153 : decode cX9_lay 153 = .ok (.iload 5, 2) := dk_21 5 (dk_at dksX9_lay_6 11 rfl rfl)
theorem dX9_lay_155 : decode cX9_lay 155 = .ok (.iconst 1, 1) := dk_4 (dk_at dksX9_lay_6 13 rfl rfl)
theorem dX9_lay_156 : decode cX9_lay 156 = .ok (.iadd, 1) := dk_96 (dk_at dksX9_lay_6 14 rfl rfl)
theorem dX9_lay_157 : decode cX9_lay 157 = .ok (.imul, 1) := dk_104 (dk_at dksX9_lay_6 15 rfl rfl)
theorem dX9_lay_158 : decode cX9_lay 158 = .ok (.iload 4, 2) := dk_21 4 (dk_at dksX9_lay_6 16 rfl rfl)
theorem dX9_lay_160 : decode cX9_lay 160 = .ok (.iload 7, 2) := dk_21 7 (dk_at dksX9_lay_6 18 rfl rfl)
theorem dX9_lay_162 : decode cX9_lay 162 = .ok (.ior, 1) := dk_128 (dk_at dksX9_lay_6 20 rfl rfl)
theorem dX9_lay_163 : decode cX9_lay 163 = .ok (.iadd, 1) := dk_96 (dk_at dksX9_lay_6 21 rfl rfl)
theorem dX9_lay_164 : decode cX9_lay 164 = .ok (.baload, 1) := dk_51 (dk_at dksX9_lay_6 22 rfl rfl)
theorem dX9_lay_165 : decode cX9_lay 165 = .ok (.ifCond .eq 16, 3) := dk_153 0 16 (dk_at dksX9_lay_7 0 rfl rfl)
theorem dX9_lay_168 : decode cX9_lay 168 = .ok (.aload_n 0, 1) := dk_42 (dk_at dksX9_lay_7 3 rfl rfl)
theorem dX9_lay_169 : decode cX9_lay 169 = .ok (.iload 5, 2) := dk_21 5 (dk_at dksX9_lay_7 4 rfl rfl)
theorem dX9_lay_171 : decode cX9_lay 171 = .ok (.iload 7, 2) := dk_21 7 (dk_at dksX9_lay_7 6 rfl rfl)
theorem dX9_lay_173 : decode cX9_lay 173 = .ok (.iload 4, 2) := dk_21 4 (dk_at dksX9_lay_7 8 rfl rfl)
theorem dX9_lay_175 : decode cX9_lay 175 = .ok (.invokevirtual 199, 3) := dk_182 0 199 (dk_at dksX9_lay_7 10 rfl rfl)
theorem dX9_lay_178 : decode cX9_lay 178 = .ok (.ifCond .ne 15, 3) := dk_154 0 15 (dk_at dksX9_lay_7 13 rfl rfl)
theorem dX9_lay_181 : decode cX9_lay 181 = .ok (.iload 7, 2) := dk_21 7 (dk_at dksX9_lay_7 16 rfl rfl)
theorem dX9_lay_183 : decode cX9_lay 183 = .ok (.iconst 1, 1) := dk_4 (dk_at dksX9_lay_7 18 rfl rfl)
theorem dX9_lay_184 : decode cX9_lay 184 = .ok (.isub, 1) := dk_100 (dk_at dksX9_lay_7 19 rfl rfl)
theorem dX9_lay_185 : decode cX9_lay 185 = .ok (.iload 6, 2) := dk_21 6 (dk_at dksX9_lay_7 20 rfl rfl)
theorem dX9_lay_187 : decode cX9_lay 187 = .ok (.iand, 1) := dk_126 (dk_at dksX9_lay_7 22 rfl rfl)
theorem dX9_lay_188 : decode cX9_lay 188 = .ok (.istore 7, 2) := dk_54 7 (dk_at dksX9_lay_8 0 rfl rfl)
theorem dX9_lay_190 : decode cX9_lay 190 = .ok (.goto (-44), 3) := dk_167 255 212 (dk_at dksX9_lay_8 2 rfl rfl)
theorem dX9_lay_193 : decode cX9_lay 193 = .ok (.iconst 0, 1) := dk_3 (dk_at dksX9_lay_8 5 rfl rfl)
theorem dX9_lay_194 : decode cX9_lay 194 = .ok (.istore 8, 2) := dk_54 8 (dk_at dksX9_lay_8 6 rfl rfl)
theorem dX9_lay_196 : decode cX9_lay 196 = .ok (.iload 8, 2) := dk_21 8 (dk_at dksX9_lay_8 8 rfl rfl)
theorem dX9_lay_198 : decode cX9_lay 198 = .ok (.aload_n 0, 1) := dk_42 (dk_at dksX9_lay_8 10 rfl rfl)
theorem dX9_lay_199 : decode cX9_lay 199 = .ok (.getfield 191, 3) := dk_180 0 191 (dk_at dksX9_lay_8 11 rfl rfl)
theorem dX9_lay_202 : decode cX9_lay 202 = .ok (.if_icmp .ge 59, 3) := dk_162 0 59 (dk_at dksX9_lay_8 14 rfl rfl)
theorem dX9_lay_205 : decode cX9_lay 205 = .ok (.bipush 6, 2) := dk_16 6 (dk_at dksX9_lay_8 17 rfl rfl)
theorem dX9_lay_207 : decode cX9_lay 207 = .ok (.iload 5, 2) := dk_21 5 (dk_at dksX9_lay_8 19 rfl rfl)
theorem dX9_lay_209 : decode cX9_lay 209 = .ok (.imul, 1) := dk_104 (dk_at dksX9_lay_8 21 rfl rfl)
theorem dX9_lay_210 : decode cX9_lay 210 = .ok (.aload_n 0, 1) := dk_42 (dk_at dksX9_lay_8 22 rfl rfl)
theorem dX9_lay_211 : decode cX9_lay 211 = .ok (.getfield 56, 3) := dk_180 0 56 (dk_at dksX9_lay_9 0 rfl rfl)
theorem dX9_lay_214 : decode cX9_lay 214 = .ok (.iload 8, 2) := dk_21 8 (dk_at dksX9_lay_9 3 rfl rfl)
theorem dX9_lay_216 : decode cX9_lay 216 = .ok (.iaload, 1) := dk_46 (dk_at dksX9_lay_9 5 rfl rfl)
theorem dX9_lay_217 : decode cX9_lay 217 = .ok (.iadd, 1) := dk_96 (dk_at dksX9_lay_9 6 rfl rfl)
theorem dX9_lay_218 : decode cX9_lay 218 = .ok (.istore 9, 2) := dk_54 9 (dk_at dksX9_lay_9 7 rfl rfl)
theorem dX9_lay_220 : decode cX9_lay 220 = .ok (.iload 7, 2) := dk_21 7 (dk_at dksX9_lay_9 9 rfl rfl)
theorem dX9_lay_222 : decode cX9_lay 222 = .ok (.iload 8, 2) := dk_21 8 (dk_at dksX9_lay_9 11 rfl rfl)
theorem dX9_lay_224 : decode cX9_lay 224 = .ok (.ishr, 1) := dk_122 (dk_at dksX9_lay_9 13 rfl rfl)
theorem dX9_lay_225 : decode cX9_lay 225 = .ok (.iconst 1, 1) := dk_4 (dk_at dksX9_lay_9 14 rfl rfl)
theorem dX9_lay_226 : decode cX9_lay 226 = .ok (.iand, 1) := dk_126 (dk_at dksX9_lay_9 15 rfl rfl)
theorem dX9_lay_227 : decode cX9_lay 227 = .ok (.iconst 1, 1) := dk_4 (dk_at dksX9_lay_9 16 rfl rfl)
theorem dX9_lay_228 : decode cX9_lay 228 = .ok (.if_icmp .ne 27, 3) := dk_160 0 27 (dk_at dksX9_lay_9 17 rfl rfl)
theorem dX9_lay_231 : decode cX9_lay 231 = .ok (.aload_n 0, 1) := dk_42 (dk_at dksX9_lay_9 20 rfl rfl)
theorem dX9_lay_232 : decode cX9_lay 232 = .ok (.getfield 19, 3) := dk_180 0 19 (dk_at dksX9_lay_9 21 rfl rfl)
theorem dX9_lay_235 : decode cX9_lay 235 = .ok (.iload 9, 2) := dk_21 9 (dk_at dksX9_lay_10 0 rfl rfl)
theorem dX9_lay_237 : decode cX9_lay 237 = .ok (.iaload, 1) := dk_46 (dk_at dksX9_lay_10 2 rfl rfl)
theorem dX9_lay_238 : decode cX9_lay 238 = .ok (.ifCond .ge 17, 3) := dk_156 0 17 (dk_at dksX9_lay_10 3 rfl rfl)
theorem dX9_lay_241 : decode cX9_lay 241 = .ok (.aload_n 0, 1) := dk_42 (dk_at dksX9_lay_10 6 rfl rfl)
theorem dX9_lay_242 : decode cX9_lay 242 = .ok (.getfield 16, 3) := dk_180 0 16 (dk_at dksX9_lay_10 7 rfl rfl)
theorem dX9_lay_245 : decode cX9_lay 245 = .ok (.iload 9, 2) := dk_21 9 (dk_at dksX9_lay_10 10 rfl rfl)
theorem dX9_lay_247 : decode cX9_lay 247 = .ok (.aload_n 0, 1) := dk_42 (dk_at dksX9_lay_10 12 rfl rfl)
theorem dX9_lay_248 : decode cX9_lay 248 = .ok (.getfield 59, 3) := dk_180 0 59 (dk_at dksX9_lay_10 13 rfl rfl)
theorem dX9_lay_251 : decode cX9_lay 251 = .ok (.iload 8, 2) := dk_21 8 (dk_at dksX9_lay_10 16 rfl rfl)
theorem dX9_lay_253 : decode cX9_lay 253 = .ok (.iaload, 1) := dk_46 (dk_at dksX9_lay_10 18 rfl rfl)
theorem dX9_lay_254 : decode cX9_lay 254 = .ok (.iastore, 1) := dk_79 (dk_at dksX9_lay_10 19 rfl rfl)
theorem dX9_lay_255 : decode cX9_lay 255 = .ok (.iinc 8 1, 3) := dk_132 8 1 (dk_at dksX9_lay_10 20 rfl rfl)
theorem dX9_lay_258 : decode cX9_lay 258 = .ok (.goto (-62), 3) := dk_167 255 194 (dk_at dksX9_lay_11 0 rfl rfl)
theorem dX9_lay_261 : decode cX9_lay 261 = .ok (.iload 4, 2) := dk_21 4 (dk_at dksX9_lay_11 3 rfl rfl)
theorem dX9_lay_263 : decode cX9_lay 263 = .ok (.iload 7, 2) := dk_21 7 (dk_at dksX9_lay_11 5 rfl rfl)
theorem dX9_lay_265 : decode cX9_lay 265 = .ok (.ior, 1) := dk_128 (dk_at dksX9_lay_11 7 rfl rfl)
theorem dX9_lay_266 : decode cX9_lay 266 = .ok (.istore 4, 2) := dk_54 4 (dk_at dksX9_lay_11 8 rfl rfl)
theorem dX9_lay_268 : decode cX9_lay 268 = .ok (.iinc 5 1, 3) := dk_132 5 1 (dk_at dksX9_lay_11 10 rfl rfl)
theorem dX9_lay_271 : decode cX9_lay 271 = .ok (.goto (-150), 3) := dk_167 255 106 (dk_at dksX9_lay_11 13 rfl rfl)
theorem dX9_lay_274 : decode cX9_lay 274 = .ok (.iload_n 2, 1) := dk_28 (dk_at dksX9_lay_11 16 rfl rfl)
theorem dX9_lay_275 : decode cX9_lay 275 = .ok (.ireturn, 1) := dk_172 (dk_at dksX9_lay_11 17 rfl rfl)
abbrev cX9_isBare : ByteArray := prog_19_method_30_code
def yX9_isBare : MethodName := ⟨RX9, "isBare", "(I)Z"⟩
def dkwX9_isBare_2 : List UInt8 := [132, 3, 1, 167, 255, 210, 28, 172]
abbrev dktX9_isBare_2 : List UInt8 := dkwX9_isBare_2 ++ []
def dkwX9_isBare_1 : List UInt8 := [153, 0, 17, 42, 180, 0, 19, 16, 6, 27, 104, 29, 96, 46, 157, 0, 7, 4, 167, 0, 4, 3, 61]
abbrev dktX9_isBare_1 : List UInt8 := dkwX9_isBare_1 ++ dktX9_isBare_2
def dkwX9_isBare_0 : List UInt8 := [4, 61, 3, 62, 29, 42, 180, 0, 117, 4, 100, 162, 0, 42, 28, 153, 0, 30, 42, 27, 29, 182, 0, 133]
abbrev dktX9_isBare_0 : List UInt8 := dkwX9_isBare_0 ++ dktX9_isBare_1
theorem dksX9_isBare_0 : cX9_isBare.data.toList.drop 0 = dktX9_isBare_0 := by decide +kernel
theorem dksX9_isBare_1 : cX9_isBare.data.toList.drop 24 = dktX9_isBare_1 := dk_seg dksX9_isBare_0 24 rfl rfl
theorem dksX9_isBare_2 : cX9_isBare.data.toList.drop 47 = dktX9_isBare_2 := dk_seg dksX9_isBare_1 23 rfl rfl
theorem dX9_isBare_0 : decode cX9_isBare 0 = .ok (.iconst 1, 1) := dk_4 (dk_at dksX9_isBare_0 0 rfl rfl)
theorem dX9_isBare_1 : decode cX9_isBare 1 = .ok (.istore_n 2, 1) := dk_61 (dk_at dksX9_isBare_0 1 rfl rfl)
theorem dX9_isBare_2 : decode cX9_isBare 2 = .ok (.iconst 0, 1) := dk_3 (dk_at dksX9_isBare_0 2 rfl rfl)
theorem dX9_isBare_3 : decode cX9_isBare 3 = .ok (.istore_n 3, 1) := dk_62 (dk_at dksX9_isBare_0 3 rfl rfl)
theorem dX9_isBare_4 : decode cX9_isBare 4 = .ok (.iload_n 3, 1) := dk_29 (dk_at dksX9_isBare_0 4 rfl rfl)
theorem dX9_isBare_5 : decode cX9_isBare 5 = .ok (.aload_n 0, 1) := dk_42 (dk_at dksX9_isBare_0 5 rfl rfl)
theorem dX9_isBare_6 : decode cX9_isBare 6 = .ok (.getfield 117, 3) := dk_180 0 117 (dk_at dksX9_isBare_0 6 rfl rfl)
theorem dX9_isBare_9 : decode cX9_isBare 9 = .ok (.iconst 1, 1) := dk_4 (dk_at dksX9_isBare_0 9 rfl rfl)
theorem dX9_isBare_10 : decode cX9_isBare 10 = .ok (.isub, 1) := dk_100 (dk_at dksX9_isBare_0 10 rfl rfl)
theorem dX9_isBare_11 : decode cX9_isBare 11 = .ok (.if_icmp .ge 42, 3) := dk_162 0 42 (dk_at dksX9_isBare_0 11 rfl rfl)
theorem dX9_isBare_14 : decode cX9_isBare 14 = .ok (.iload_n 2, 1) := dk_28 (dk_at dksX9_isBare_0 14 rfl rfl)
theorem dX9_isBare_15 : decode cX9_isBare 15 = .ok (.ifCond .eq 30, 3) := dk_153 0 30 (dk_at dksX9_isBare_0 15 rfl rfl)
theorem dX9_isBare_18 : decode cX9_isBare 18 = .ok (.aload_n 0, 1) := dk_42 (dk_at dksX9_isBare_0 18 rfl rfl)
theorem dX9_isBare_19 : decode cX9_isBare 19 = .ok (.iload_n 1, 1) := dk_27 (dk_at dksX9_isBare_0 19 rfl rfl)
theorem dX9_isBare_20 : decode cX9_isBare 20 = .ok (.iload_n 3, 1) := dk_29 (dk_at dksX9_isBare_0 20 rfl rfl)
theorem dX9_isBare_21 : decode cX9_isBare 21 = .ok (.invokevirtual 133, 3) := dk_182 0 133 (dk_at dksX9_isBare_0 21 rfl rfl)
theorem dX9_isBare_24 : decode cX9_isBare 24 = .ok (.ifCond .eq 17, 3) := dk_153 0 17 (dk_at dksX9_isBare_1 0 rfl rfl)
theorem dX9_isBare_27 : decode cX9_isBare 27 = .ok (.aload_n 0, 1) := dk_42 (dk_at dksX9_isBare_1 3 rfl rfl)
theorem dX9_isBare_28 : decode cX9_isBare 28 = .ok (.getfield 19, 3) := dk_180 0 19 (dk_at dksX9_isBare_1 4 rfl rfl)
theorem dX9_isBare_31 : decode cX9_isBare 31 = .ok (.bipush 6, 2) := dk_16 6 (dk_at dksX9_isBare_1 7 rfl rfl)
theorem dX9_isBare_33 : decode cX9_isBare 33 = .ok (.iload_n 1, 1) := dk_27 (dk_at dksX9_isBare_1 9 rfl rfl)
theorem dX9_isBare_34 : decode cX9_isBare 34 = .ok (.imul, 1) := dk_104 (dk_at dksX9_isBare_1 10 rfl rfl)
theorem dX9_isBare_35 : decode cX9_isBare 35 = .ok (.iload_n 3, 1) := dk_29 (dk_at dksX9_isBare_1 11 rfl rfl)
theorem dX9_isBare_36 : decode cX9_isBare 36 = .ok (.iadd, 1) := dk_96 (dk_at dksX9_isBare_1 12 rfl rfl)
theorem dX9_isBare_37 : decode cX9_isBare 37 = .ok (.iaload, 1) := dk_46 (dk_at dksX9_isBare_1 13 rfl rfl)
theorem dX9_isBare_38 : decode cX9_isBare 38 = .ok (.ifCond .gt 7, 3) := dk_157 0 7 (dk_at dksX9_isBare_1 14 rfl rfl)
theorem dX9_isBare_41 : decode cX9_isBare 41 = .ok (.iconst 1, 1) := dk_4 (dk_at dksX9_isBare_1 17 rfl rfl)
theorem dX9_isBare_42 : decode cX9_isBare 42 = .ok (.goto 4, 3) := dk_167 0 4 (dk_at dksX9_isBare_1 18 rfl rfl)
theorem dX9_isBare_45 : decode cX9_isBare 45 = .ok (.iconst 0, 1) := dk_3 (dk_at dksX9_isBare_1 21 rfl rfl)
theorem dX9_isBare_46 : decode cX9_isBare 46 = .ok (.istore_n 2, 1) := dk_61 (dk_at dksX9_isBare_1 22 rfl rfl)
theorem dX9_isBare_47 : decode cX9_isBare 47 = .ok (.iinc 3 1, 3) := dk_132 3 1 (dk_at dksX9_isBare_2 0 rfl rfl)
theorem dX9_isBare_50 : decode cX9_isBare 50 = .ok (.goto (-46), 3) := dk_167 255 210 (dk_at dksX9_isBare_2 3 rfl rfl)
theorem dX9_isBare_53 : decode cX9_isBare 53 = .ok (.iload_n 2, 1) := dk_28 (dk_at dksX9_isBare_2 6 rfl rfl)
theorem dX9_isBare_54 : decode cX9_isBare 54 = .ok (.ireturn, 1) := dk_172 (dk_at dksX9_isBare_2 7 rfl rfl)
abbrev cX9_fillCan : ByteArray := prog_19_method_31_code
def yX9_fillCan : MethodName := ⟨RX9, "fillCan", "(I)V"⟩
def dkwX9_fillCan_7 : List UInt8 := [84, 132, 4, 1, 167, 255, 140, 132, 3, 255, 167, 255, 127, 177]
abbrev dktX9_fillCan_7 : List UInt8 := dkwX9_fillCan_7 ++ []
def dkwX9_fillCan_6 : List UInt8 := [4, 100, 21, 5, 126, 54, 7, 167, 255, 185, 42, 180, 0, 62, 17, 4, 0, 29, 104, 21, 4, 96, 21, 6]
abbrev dktX9_fillCan_6 : List UInt8 := dkwX9_fillCan_6 ++ dktX9_fillCan_7
def dkwX9_fillCan_5 : List UInt8 := [153, 0, 7, 4, 167, 0, 4, 3, 54, 6, 21, 7, 158, 0, 7, 4, 167, 0, 4, 3, 54, 8, 21, 7]
abbrev dktX9_fillCan_5 : List UInt8 := dkwX9_fillCan_5 ++ dktX9_fillCan_6
def dkwX9_fillCan_4 : List UInt8 := [29, 4, 96, 104, 21, 4, 21, 7, 128, 96, 51, 153, 0, 19, 42, 29, 21, 7, 21, 4, 182, 0, 199]
abbrev dktX9_fillCan_4 : List UInt8 := dkwX9_fillCan_4 ++ dktX9_fillCan_5
def dkwX9_fillCan_3 : List UInt8 := [21, 5, 54, 7, 4, 54, 8, 21, 8, 153, 0, 72, 21, 6, 154, 0, 67, 42, 180, 0, 62, 17, 4, 0]
abbrev dktX9_fillCan_3 : List UInt8 := dkwX9_fillCan_3 ++ dktX9_fillCan_4
def dkwX9_fillCan_2 : List UInt8 := [29, 155, 0, 131, 3, 54, 4, 21, 4, 28, 163, 0, 116, 28, 21, 4, 2, 130, 126, 54, 5, 3, 54, 6]
abbrev dktX9_fillCan_2 : List UInt8 := dkwX9_fillCan_2 ++ dktX9_fillCan_3
def dkwX9_fillCan_1 : List UInt8 := [104, 29, 96, 29, 28, 160, 0, 7, 4, 167, 0, 4, 3, 84, 132, 3, 1, 167, 255, 226, 27, 4, 100, 62]
abbrev dktX9_fillCan_1 : List UInt8 := dkwX9_fillCan_1 ++ dktX9_fillCan_2
def dkwX9_fillCan_0 : List UInt8 := [4, 42, 180, 0, 191, 120, 4, 100, 61, 3, 62, 29, 28, 163, 0, 31, 42, 180, 0, 62, 17, 4, 0, 27]
abbrev dktX9_fillCan_0 : List UInt8 := dkwX9_fillCan_0 ++ dktX9_fillCan_1
theorem dksX9_fillCan_0 : cX9_fillCan.data.toList.drop 0 = dktX9_fillCan_0 := by decide +kernel
theorem dksX9_fillCan_1 : cX9_fillCan.data.toList.drop 24 = dktX9_fillCan_1 := dk_seg dksX9_fillCan_0 24 rfl rfl
theorem dksX9_fillCan_2 : cX9_fillCan.data.toList.drop 48 = dktX9_fillCan_2 := dk_seg dksX9_fillCan_1 24 rfl rfl
theorem dksX9_fillCan_3 : cX9_fillCan.data.toList.drop 72 = dktX9_fillCan_3 := dk_seg dksX9_fillCan_2 24 rfl rfl
theorem dksX9_fillCan_4 : cX9_fillCan.data.toList.drop 96 = dktX9_fillCan_4 := dk_seg dksX9_fillCan_3 24 rfl rfl
theorem dksX9_fillCan_5 : cX9_fillCan.data.toList.drop 119 = dktX9_fillCan_5 := dk_seg dksX9_fillCan_4 23 rfl rfl
theorem dksX9_fillCan_6 : cX9_fillCan.data.toList.drop 143 = dktX9_fillCan_6 := dk_seg dksX9_fillCan_5 24 rfl rfl
theorem dksX9_fillCan_7 : cX9_fillCan.data.toList.drop 167 = dktX9_fillCan_7 := dk_seg dksX9_fillCan_6 24 rfl rfl
theorem dX9_fillCan_0 : decode cX9_fillCan 0 = .ok (.iconst 1, 1) := dk_4 (dk_at dksX9_fillCan_0 0 rfl rfl)
theorem dX9_fillCan_1 : decode cX9_fillCan 1 = .ok (.aload_n 0, 1) := dk_42 (dk_at dksX9_fillCan_0 1 rfl rfl)
theorem dX9_fillCan_2 : decode cX9_fillCan 2 = .ok (.getfield 191, 3) := dk_180 0 191 (dk_at dksX9_fillCan_0 2 rfl rfl)
theorem dX9_fillCan_5 : decode cX9_fillCan 5 = .ok (.ishl, 1) := dk_120 (dk_at dksX9_fillCan_0 5 rfl rfl)
theorem dX9_fillCan_6 : decode cX9_fillCan 6 = .ok (.iconst 1, 1) := dk_4 (dk_at dksX9_fillCan_0 6 rfl rfl)
theorem dX9_fillCan_7 : decode cX9_fillCan 7 = .ok (.isub, 1) := dk_100 (dk_at dksX9_fillCan_0 7 rfl rfl)
theorem dX9_fillCan_8 : decode cX9_fillCan 8 = .ok (.istore_n 2, 1) := dk_61 (dk_at dksX9_fillCan_0 8 rfl rfl)
theorem dX9_fillCan_9 : decode cX9_fillCan 9 = .ok (.iconst 0, 1) := dk_3 (dk_at dksX9_fillCan_0 9 rfl rfl)
theorem dX9_fillCan_10 : decode cX9_fillCan 10 = .ok (.istore_n 3, 1) := dk_62 (dk_at dksX9_fillCan_0 10 rfl rfl)
theorem dX9_fillCan_11 : decode cX9_fillCan 11 = .ok (.iload_n 3, 1) := dk_29 (dk_at dksX9_fillCan_0 11 rfl rfl)
theorem dX9_fillCan_12 : decode cX9_fillCan 12 = .ok (.iload_n 2, 1) := dk_28 (dk_at dksX9_fillCan_0 12 rfl rfl)
theorem dX9_fillCan_13 : decode cX9_fillCan 13 = .ok (.if_icmp .gt 31, 3) := dk_163 0 31 (dk_at dksX9_fillCan_0 13 rfl rfl)
theorem dX9_fillCan_16 : decode cX9_fillCan 16 = .ok (.aload_n 0, 1) := dk_42 (dk_at dksX9_fillCan_0 16 rfl rfl)
theorem dX9_fillCan_17 : decode cX9_fillCan 17 = .ok (.getfield 62, 3) := dk_180 0 62 (dk_at dksX9_fillCan_0 17 rfl rfl)
theorem dX9_fillCan_20 : decode cX9_fillCan 20 = .ok (.sipush 1024, 3) := dk_17 4 0 (dk_at dksX9_fillCan_0 20 rfl rfl)
theorem dX9_fillCan_23 : decode cX9_fillCan 23 = .ok (.iload_n 1, 1) := dk_27 (dk_at dksX9_fillCan_0 23 rfl rfl)
theorem dX9_fillCan_24 : decode cX9_fillCan 24 = .ok (.imul, 1) := dk_104 (dk_at dksX9_fillCan_1 0 rfl rfl)
theorem dX9_fillCan_25 : decode cX9_fillCan 25 = .ok (.iload_n 3, 1) := dk_29 (dk_at dksX9_fillCan_1 1 rfl rfl)
theorem dX9_fillCan_26 : decode cX9_fillCan 26 = .ok (.iadd, 1) := dk_96 (dk_at dksX9_fillCan_1 2 rfl rfl)
theorem dX9_fillCan_27 : decode cX9_fillCan 27 = .ok (.iload_n 3, 1) := dk_29 (dk_at dksX9_fillCan_1 3 rfl rfl)
theorem dX9_fillCan_28 : decode cX9_fillCan 28 = .ok (.iload_n 2, 1) := dk_28 (dk_at dksX9_fillCan_1 4 rfl rfl)
theorem dX9_fillCan_29 : decode cX9_fillCan 29 = .ok (.if_icmp .ne 7, 3) := dk_160 0 7 (dk_at dksX9_fillCan_1 5 rfl rfl)
theorem dX9_fillCan_32 : decode cX9_fillCan 32 = .ok (.iconst 1, 1) := dk_4 (dk_at dksX9_fillCan_1 8 rfl rfl)
theorem dX9_fillCan_33 : decode cX9_fillCan 33 = .ok (.goto 4, 3) := dk_167 0 4 (dk_at dksX9_fillCan_1 9 rfl rfl)
theorem dX9_fillCan_36 : decode cX9_fillCan 36 = .ok (.iconst 0, 1) := dk_3 (dk_at dksX9_fillCan_1 12 rfl rfl)
theorem dX9_fillCan_37 : decode cX9_fillCan 37 = .ok (.bastore, 1) := dk_84 (dk_at dksX9_fillCan_1 13 rfl rfl)
theorem dX9_fillCan_38 : decode cX9_fillCan 38 = .ok (.iinc 3 1, 3) := dk_132 3 1 (dk_at dksX9_fillCan_1 14 rfl rfl)
theorem dX9_fillCan_41 : decode cX9_fillCan 41 = .ok (.goto (-30), 3) := dk_167 255 226 (dk_at dksX9_fillCan_1 17 rfl rfl)
theorem dX9_fillCan_44 : decode cX9_fillCan 44 = .ok (.iload_n 1, 1) := dk_27 (dk_at dksX9_fillCan_1 20 rfl rfl)
theorem dX9_fillCan_45 : decode cX9_fillCan 45 = .ok (.iconst 1, 1) := dk_4 (dk_at dksX9_fillCan_1 21 rfl rfl)
theorem dX9_fillCan_46 : decode cX9_fillCan 46 = .ok (.isub, 1) := dk_100 (dk_at dksX9_fillCan_1 22 rfl rfl)
theorem dX9_fillCan_47 : decode cX9_fillCan 47 = .ok (.istore_n 3, 1) := dk_62 (dk_at dksX9_fillCan_1 23 rfl rfl)
theorem dX9_fillCan_48 : decode cX9_fillCan 48 = .ok (.iload_n 3, 1) := dk_29 (dk_at dksX9_fillCan_2 0 rfl rfl)
theorem dX9_fillCan_49 : decode cX9_fillCan 49 = .ok (.ifCond .lt 131, 3) := dk_155 0 131 (dk_at dksX9_fillCan_2 1 rfl rfl)
theorem dX9_fillCan_52 : decode cX9_fillCan 52 = .ok (.iconst 0, 1) := dk_3 (dk_at dksX9_fillCan_2 4 rfl rfl)
theorem dX9_fillCan_53 : decode cX9_fillCan 53 = .ok (.istore 4, 2) := dk_54 4 (dk_at dksX9_fillCan_2 5 rfl rfl)
theorem dX9_fillCan_55 : decode cX9_fillCan 55 = .ok (.iload 4, 2) := dk_21 4 (dk_at dksX9_fillCan_2 7 rfl rfl)
theorem dX9_fillCan_57 : decode cX9_fillCan 57 = .ok (.iload_n 2, 1) := dk_28 (dk_at dksX9_fillCan_2 9 rfl rfl)
theorem dX9_fillCan_58 : decode cX9_fillCan 58 = .ok (.if_icmp .gt 116, 3) := dk_163 0 116 (dk_at dksX9_fillCan_2 10 rfl rfl)
theorem dX9_fillCan_61 : decode cX9_fillCan 61 = .ok (.iload_n 2, 1) := dk_28 (dk_at dksX9_fillCan_2 13 rfl rfl)
theorem dX9_fillCan_62 : decode cX9_fillCan 62 = .ok (.iload 4, 2) := dk_21 4 (dk_at dksX9_fillCan_2 14 rfl rfl)
theorem dX9_fillCan_64 : decode cX9_fillCan 64 = .ok (.iconst (-1), 1) := dk_2 (dk_at dksX9_fillCan_2 16 rfl rfl)
theorem dX9_fillCan_65 : decode cX9_fillCan 65 = .ok (.ixor, 1) := dk_130 (dk_at dksX9_fillCan_2 17 rfl rfl)
theorem dX9_fillCan_66 : decode cX9_fillCan 66 = .ok (.iand, 1) := dk_126 (dk_at dksX9_fillCan_2 18 rfl rfl)
theorem dX9_fillCan_67 : decode cX9_fillCan 67 = .ok (.istore 5, 2) := dk_54 5 (dk_at dksX9_fillCan_2 19 rfl rfl)
theorem dX9_fillCan_69 : decode cX9_fillCan 69 = .ok (.iconst 0, 1) := dk_3 (dk_at dksX9_fillCan_2 21 rfl rfl)
theorem dX9_fillCan_70 : decode cX9_fillCan 70 = .ok (.istore 6, 2) := dk_54 6 (dk_at dksX9_fillCan_2 22 rfl rfl)
theorem dX9_fillCan_72 : decode cX9_fillCan 72 = .ok (.iload 5, 2) := dk_21 5 (dk_at dksX9_fillCan_3 0 rfl rfl)
theorem dX9_fillCan_74 : decode cX9_fillCan 74 = .ok (.istore 7, 2) := dk_54 7 (dk_at dksX9_fillCan_3 2 rfl rfl)
theorem dX9_fillCan_76 : decode cX9_fillCan 76 = .ok (.iconst 1, 1) := dk_4 (dk_at dksX9_fillCan_3 4 rfl rfl)
theorem dX9_fillCan_77 : decode cX9_fillCan 77 = .ok (.istore 8, 2) := dk_54 8 (dk_at dksX9_fillCan_3 5 rfl rfl)
theorem dX9_fillCan_79 : decode cX9_fillCan 79 = .ok (.iload 8, 2) := dk_21 8 (dk_at dksX9_fillCan_3 7 rfl rfl)
theorem dX9_fillCan_81 : decode cX9_fillCan 81 = .ok (.ifCond .eq 72, 3) := dk_153 0 72 (dk_at dksX9_fillCan_3 9 rfl rfl)
theorem dX9_fillCan_84 : decode cX9_fillCan 84 = .ok (.iload 6, 2) := dk_21 6 (dk_at dksX9_fillCan_3 12 rfl rfl)
theorem dX9_fillCan_86 : decode cX9_fillCan 86 = .ok (.ifCond .ne 67, 3) := dk_154 0 67 (dk_at dksX9_fillCan_3 14 rfl rfl)
theorem dX9_fillCan_89 : decode cX9_fillCan 89 = .ok (.aload_n 0, 1) := dk_42 (dk_at dksX9_fillCan_3 17 rfl rfl)
theorem dX9_fillCan_90 : decode cX9_fillCan 90 = .ok (.getfield 62, 3) := dk_180 0 62 (dk_at dksX9_fillCan_3 18 rfl rfl)
theorem dX9_fillCan_93 : decode cX9_fillCan 93 = .ok (.sipush 1024, 3) := dk_17 4 0 (dk_at dksX9_fillCan_3 21 rfl rfl)
theorem dX9_fillCan_96 : decode cX9_fillCan 96 = .ok (.iload_n 3, 1) := dk_29 (dk_at dksX9_fillCan_4 0 rfl rfl)
theorem dX9_fillCan_97 : decode cX9_fillCan 97 = .ok (.iconst 1, 1) := dk_4 (dk_at dksX9_fillCan_4 1 rfl rfl)
theorem dX9_fillCan_98 : decode cX9_fillCan 98 = .ok (.iadd, 1) := dk_96 (dk_at dksX9_fillCan_4 2 rfl rfl)
theorem dX9_fillCan_99 : decode cX9_fillCan 99 = .ok (.imul, 1) := dk_104 (dk_at dksX9_fillCan_4 3 rfl rfl)
theorem dX9_fillCan_100 : decode cX9_fillCan 100 = .ok (.iload 4, 2) := dk_21 4 (dk_at dksX9_fillCan_4 4 rfl rfl)
theorem dX9_fillCan_102 : decode cX9_fillCan 102 = .ok (.iload 7, 2) := dk_21 7 (dk_at dksX9_fillCan_4 6 rfl rfl)
theorem dX9_fillCan_104 : decode cX9_fillCan 104 = .ok (.ior, 1) := dk_128 (dk_at dksX9_fillCan_4 8 rfl rfl)
theorem dX9_fillCan_105 : decode cX9_fillCan 105 = .ok (.iadd, 1) := dk_96 (dk_at dksX9_fillCan_4 9 rfl rfl)
theorem dX9_fillCan_106 : decode cX9_fillCan 106 = .ok (.baload, 1) := dk_51 (dk_at dksX9_fillCan_4 10 rfl rfl)
theorem dX9_fillCan_107 : decode cX9_fillCan 107 = .ok (.ifCond .eq 19, 3) := dk_153 0 19 (dk_at dksX9_fillCan_4 11 rfl rfl)
theorem dX9_fillCan_110 : decode cX9_fillCan 110 = .ok (.aload_n 0, 1) := dk_42 (dk_at dksX9_fillCan_4 14 rfl rfl)
theorem dX9_fillCan_111 : decode cX9_fillCan 111 = .ok (.iload_n 3, 1) := dk_29 (dk_at dksX9_fillCan_4 15 rfl rfl)
theorem dX9_fillCan_112 : decode cX9_fillCan 112 = .ok (.iload 7, 2) := dk_21 7 (dk_at dksX9_fillCan_4 16 rfl rfl)
theorem dX9_fillCan_114 : decode cX9_fillCan 114 = .ok (.iload 4, 2) := dk_21 4 (dk_at dksX9_fillCan_4 18 rfl rfl)
theorem dX9_fillCan_116 : decode cX9_fillCan 116 = .ok (.invokevirtual 199, 3) := dk_182 0 199 (dk_at dksX9_fillCan_4 20 rfl rfl)
theorem dX9_fillCan_119 : decode cX9_fillCan 119 = .ok (.ifCond .eq 7, 3) := dk_153 0 7 (dk_at dksX9_fillCan_5 0 rfl rfl)
theorem dX9_fillCan_122 : decode cX9_fillCan 122 = .ok (.iconst 1, 1) := dk_4 (dk_at dksX9_fillCan_5 3 rfl rfl)
theorem dX9_fillCan_123 : decode cX9_fillCan 123 = .ok (.goto 4, 3) := dk_167 0 4 (dk_at dksX9_fillCan_5 4 rfl rfl)
theorem dX9_fillCan_126 : decode cX9_fillCan 126 = .ok (.iconst 0, 1) := dk_3 (dk_at dksX9_fillCan_5 7 rfl rfl)
theorem dX9_fillCan_127 : decode cX9_fillCan 127 = .ok (.istore 6, 2) := dk_54 6 (dk_at dksX9_fillCan_5 8 rfl rfl)
theorem dX9_fillCan_129 : decode cX9_fillCan 129 = .ok (.iload 7, 2) := dk_21 7 (dk_at dksX9_fillCan_5 10 rfl rfl)
theorem dX9_fillCan_131 : decode cX9_fillCan 131 = .ok (.ifCond .le 7, 3) := dk_158 0 7 (dk_at dksX9_fillCan_5 12 rfl rfl)
theorem dX9_fillCan_134 : decode cX9_fillCan 134 = .ok (.iconst 1, 1) := dk_4 (dk_at dksX9_fillCan_5 15 rfl rfl)
theorem dX9_fillCan_135 : decode cX9_fillCan 135 = .ok (.goto 4, 3) := dk_167 0 4 (dk_at dksX9_fillCan_5 16 rfl rfl)
theorem dX9_fillCan_138 : decode cX9_fillCan 138 = .ok (.iconst 0, 1) := dk_3 (dk_at dksX9_fillCan_5 19 rfl rfl)
theorem dX9_fillCan_139 : decode cX9_fillCan 139 = .ok (.istore 8, 2) := dk_54 8 (dk_at dksX9_fillCan_5 20 rfl rfl)
theorem dX9_fillCan_141 : decode cX9_fillCan 141 = .ok (.iload 7, 2) := dk_21 7 (dk_at dksX9_fillCan_5 22 rfl rfl)
theorem dX9_fillCan_143 : decode cX9_fillCan 143 = .ok (.iconst 1, 1) := dk_4 (dk_at dksX9_fillCan_6 0 rfl rfl)
theorem dX9_fillCan_144 : decode cX9_fillCan 144 = .ok (.isub, 1) := dk_100 (dk_at dksX9_fillCan_6 1 rfl rfl)
theorem dX9_fillCan_145 : decode cX9_fillCan 145 = .ok (.iload 5, 2) := dk_21 5 (dk_at dksX9_fillCan_6 2 rfl rfl)
theorem dX9_fillCan_147 : decode cX9_fillCan 147 = .ok (.iand, 1) := dk_126 (dk_at dksX9_fillCan_6 4 rfl rfl)
theorem dX9_fillCan_148 : decode cX9_fillCan 148 = .ok (.istore 7, 2) := dk_54 7 (dk_at dksX9_fillCan_6 5 rfl rfl)
theorem dX9_fillCan_150 : decode cX9_fillCan 150 = .ok (.goto (-71), 3) := dk_167 255 185 (dk_at dksX9_fillCan_6 7 rfl rfl)
theorem dX9_fillCan_153 : decode cX9_fillCan 153 = .ok (.aload_n 0, 1) := dk_42 (dk_at dksX9_fillCan_6 10 rfl rfl)
theorem dX9_fillCan_154 : decode cX9_fillCan 154 = .ok (.getfield 62, 3) := dk_180 0 62 (dk_at dksX9_fillCan_6 11 rfl rfl)
theorem dX9_fillCan_157 : decode cX9_fillCan 157 = .ok (.sipush 1024, 3) := dk_17 4 0 (dk_at dksX9_fillCan_6 14 rfl rfl)
theorem dX9_fillCan_160 : decode cX9_fillCan 160 = .ok (.iload_n 3, 1) := dk_29 (dk_at dksX9_fillCan_6 17 rfl rfl)
theorem dX9_fillCan_161 : decode cX9_fillCan 161 = .ok (.imul, 1) := dk_104 (dk_at dksX9_fillCan_6 18 rfl rfl)
theorem dX9_fillCan_162 : decode cX9_fillCan 162 = .ok (.iload 4, 2) := dk_21 4 (dk_at dksX9_fillCan_6 19 rfl rfl)
theorem dX9_fillCan_164 : decode cX9_fillCan 164 = .ok (.iadd, 1) := dk_96 (dk_at dksX9_fillCan_6 21 rfl rfl)
theorem dX9_fillCan_165 : decode cX9_fillCan 165 = .ok (.iload 6, 2) := dk_21 6 (dk_at dksX9_fillCan_6 22 rfl rfl)
theorem dX9_fillCan_167 : decode cX9_fillCan 167 = .ok (.bastore, 1) := dk_84 (dk_at dksX9_fillCan_7 0 rfl rfl)
theorem dX9_fillCan_168 : decode cX9_fillCan 168 = .ok (.iinc 4 1, 3) := dk_132 4 1 (dk_at dksX9_fillCan_7 1 rfl rfl)
theorem dX9_fillCan_171 : decode cX9_fillCan 171 = .ok (.goto (-116), 3) := dk_167 255 140 (dk_at dksX9_fillCan_7 4 rfl rfl)
theorem dX9_fillCan_174 : decode cX9_fillCan 174 = .ok (.iinc 3 (-1), 3) := dk_132 3 255 (dk_at dksX9_fillCan_7 7 rfl rfl)
theorem dX9_fillCan_177 : decode cX9_fillCan 177 = .ok (.goto (-129), 3) := dk_167 255 127 (dk_at dksX9_fillCan_7 10 rfl rfl)
theorem dX9_fillCan_180 : decode cX9_fillCan 180 = .ok (.return_, 1) := dk_177 (dk_at dksX9_fillCan_7 13 rfl rfl)
abbrev cX9_mayDo : ByteArray := prog_19_method_29_code
def yX9_mayDo : MethodName := ⟨RX9, "mayDo", "(III)Z"⟩
def dkwX9_mayDo_10 : List UInt8 := [21, 5, 154, 0, 5, 3, 172, 132, 4, 1, 167, 255, 152, 4, 172]
abbrev dktX9_mayDo_10 : List UInt8 := dkwX9_mayDo_10 ++ []
def dkwX9_mayDo_9 : List UInt8 := [180, 0, 56, 21, 6, 46, 21, 4, 160, 0, 7, 4, 167, 0, 4, 3, 54, 5, 132, 6, 1, 167, 255, 210]
abbrev dktX9_mayDo_9 : List UInt8 := dkwX9_mayDo_9 ++ dktX9_mayDo_10
def dkwX9_mayDo_8 : List UInt8 := [180, 0, 191, 162, 0, 43, 21, 5, 154, 0, 25, 28, 21, 6, 122, 4, 126, 4, 160, 0, 19, 42]
abbrev dktX9_mayDo_8 : List UInt8 := dkwX9_mayDo_8 ++ dktX9_mayDo_9
def dkwX9_mayDo_7 : List UInt8 := [16, 6, 27, 104, 21, 4, 96, 46, 157, 0, 6, 167, 0, 65, 3, 54, 5, 3, 54, 6, 21, 6, 42]
abbrev dktX9_mayDo_7 : List UInt8 := dkwX9_mayDo_7 ++ dktX9_mayDo_8
def dkwX9_mayDo_6 : List UInt8 := [42, 180, 0, 117, 4, 100, 162, 0, 99, 42, 27, 21, 4, 182, 0, 133, 153, 0, 83, 42, 180, 0, 19]
abbrev dktX9_mayDo_6 : List UInt8 := dkwX9_mayDo_6 ++ dktX9_mayDo_7
def dkwX9_mayDo_5 : List UInt8 := [4, 126, 154, 0, 5, 3, 172, 132, 6, 1, 167, 255, 224, 132, 4, 1, 167, 255, 134, 3, 54, 4, 21, 4]
abbrev dktX9_mayDo_5 : List UInt8 := dkwX9_mayDo_5 ++ dktX9_mayDo_6
def dkwX9_mayDo_4 : List UInt8 := [54, 6, 21, 6, 21, 4, 162, 0, 31, 42, 21, 6, 21, 4, 182, 0, 196, 153, 0, 14, 29, 21, 6, 122]
abbrev dktX9_mayDo_4 : List UInt8 := dkwX9_mayDo_4 ++ dktX9_mayDo_5
def dkwX9_mayDo_3 : List UInt8 := [155, 0, 22, 42, 180, 0, 19, 21, 5, 46, 42, 180, 0, 59, 21, 4, 46, 159, 0, 5, 3, 172, 3]
abbrev dktX9_mayDo_3 : List UInt8 := dkwX9_mayDo_3 ++ dktX9_mayDo_4
def dkwX9_mayDo_2 : List UInt8 := [172, 16, 6, 27, 104, 42, 180, 0, 56, 21, 4, 46, 96, 54, 5, 42, 180, 0, 19, 21, 5, 46]
abbrev dktX9_mayDo_2 : List UInt8 := dkwX9_mayDo_2 ++ dktX9_mayDo_3
def dkwX9_mayDo_1 : List UInt8 := [4, 126, 154, 0, 6, 167, 0, 101, 42, 27, 42, 180, 0, 56, 21, 4, 46, 182, 0, 133, 154, 0, 5, 3]
abbrev dktX9_mayDo_1 : List UInt8 := dkwX9_mayDo_1 ++ dktX9_mayDo_2
def dkwX9_mayDo_0 : List UInt8 := [28, 29, 126, 153, 0, 5, 3, 172, 3, 54, 4, 21, 4, 42, 180, 0, 191, 162, 0, 119, 28, 21, 4, 122]
abbrev dktX9_mayDo_0 : List UInt8 := dkwX9_mayDo_0 ++ dktX9_mayDo_1
theorem dksX9_mayDo_0 : cX9_mayDo.data.toList.drop 0 = dktX9_mayDo_0 := by decide +kernel
theorem dksX9_mayDo_1 : cX9_mayDo.data.toList.drop 24 = dktX9_mayDo_1 := dk_seg dksX9_mayDo_0 24 rfl rfl
theorem dksX9_mayDo_2 : cX9_mayDo.data.toList.drop 48 = dktX9_mayDo_2 := dk_seg dksX9_mayDo_1 24 rfl rfl
theorem dksX9_mayDo_3 : cX9_mayDo.data.toList.drop 70 = dktX9_mayDo_3 := dk_seg dksX9_mayDo_2 22 rfl rfl
theorem dksX9_mayDo_4 : cX9_mayDo.data.toList.drop 93 = dktX9_mayDo_4 := dk_seg dksX9_mayDo_3 23 rfl rfl
theorem dksX9_mayDo_5 : cX9_mayDo.data.toList.drop 117 = dktX9_mayDo_5 := dk_seg dksX9_mayDo_4 24 rfl rfl
theorem dksX9_mayDo_6 : cX9_mayDo.data.toList.drop 141 = dktX9_mayDo_6 := dk_seg dksX9_mayDo_5 24 rfl rfl
theorem dksX9_mayDo_7 : cX9_mayDo.data.toList.drop 164 = dktX9_mayDo_7 := dk_seg dksX9_mayDo_6 23 rfl rfl
theorem dksX9_mayDo_8 : cX9_mayDo.data.toList.drop 187 = dktX9_mayDo_8 := dk_seg dksX9_mayDo_7 23 rfl rfl
theorem dksX9_mayDo_9 : cX9_mayDo.data.toList.drop 209 = dktX9_mayDo_9 := dk_seg dksX9_mayDo_8 22 rfl rfl
theorem dksX9_mayDo_10 : cX9_mayDo.data.toList.drop 233 = dktX9_mayDo_10 := dk_seg dksX9_mayDo_9 24 rfl rfl
theorem dX9_mayDo_0 : decode cX9_mayDo 0 = .ok (.iload_n 2, 1) := dk_28 (dk_at dksX9_mayDo_0 0 rfl rfl)
theorem dX9_mayDo_1 : decode cX9_mayDo 1 = .ok (.iload_n 3, 1) := dk_29 (dk_at dksX9_mayDo_0 1 rfl rfl)
theorem dX9_mayDo_2 : decode cX9_mayDo 2 = .ok (.iand, 1) := dk_126 (dk_at dksX9_mayDo_0 2 rfl rfl)
theorem dX9_mayDo_3 : decode cX9_mayDo 3 = .ok (.ifCond .eq 5, 3) := dk_153 0 5 (dk_at dksX9_mayDo_0 3 rfl rfl)
theorem dX9_mayDo_6 : decode cX9_mayDo 6 = .ok (.iconst 0, 1) := dk_3 (dk_at dksX9_mayDo_0 6 rfl rfl)
theorem dX9_mayDo_7 : decode cX9_mayDo 7 = .ok (.ireturn, 1) := dk_172 (dk_at dksX9_mayDo_0 7 rfl rfl)
theorem dX9_mayDo_8 : decode cX9_mayDo 8 = .ok (.iconst 0, 1) := dk_3 (dk_at dksX9_mayDo_0 8 rfl rfl)
theorem dX9_mayDo_9 : decode cX9_mayDo 9 = .ok (.istore 4, 2) := dk_54 4 (dk_at dksX9_mayDo_0 9 rfl rfl)
theorem dX9_mayDo_11 : decode cX9_mayDo 11 = .ok (.iload 4, 2) := dk_21 4 (dk_at dksX9_mayDo_0 11 rfl rfl)
theorem dX9_mayDo_13 : decode cX9_mayDo 13 = .ok (.aload_n 0, 1) := dk_42 (dk_at dksX9_mayDo_0 13 rfl rfl)
theorem dX9_mayDo_14 : decode cX9_mayDo 14 = .ok (.getfield 191, 3) := dk_180 0 191 (dk_at dksX9_mayDo_0 14 rfl rfl)
theorem dX9_mayDo_17 : decode cX9_mayDo 17 = .ok (.if_icmp .ge 119, 3) := dk_162 0 119 (dk_at dksX9_mayDo_0 17 rfl rfl)
theorem dX9_mayDo_20 : decode cX9_mayDo 20 = .ok (.iload_n 2, 1) := dk_28 (dk_at dksX9_mayDo_0 20 rfl rfl)
theorem dX9_mayDo_21 : decode cX9_mayDo 21 = .ok (.iload 4, 2) := dk_21 4 (dk_at dksX9_mayDo_0 21 rfl rfl)
theorem dX9_mayDo_23 : decode cX9_mayDo 23 = .ok (.ishr, 1) := dk_122 (dk_at dksX9_mayDo_0 23 rfl rfl)
theorem dX9_mayDo_24 : decode cX9_mayDo 24 = .ok (.iconst 1, 1) := dk_4 (dk_at dksX9_mayDo_1 0 rfl rfl)
theorem dX9_mayDo_25 : decode cX9_mayDo 25 = .ok (.iand, 1) := dk_126 (dk_at dksX9_mayDo_1 1 rfl rfl)
theorem dX9_mayDo_26 : decode cX9_mayDo 26 = .ok (.ifCond .ne 6, 3) := dk_154 0 6 (dk_at dksX9_mayDo_1 2 rfl rfl)
theorem dX9_mayDo_29 : decode cX9_mayDo 29 = .ok (.goto 101, 3) := dk_167 0 101 (dk_at dksX9_mayDo_1 5 rfl rfl)
theorem dX9_mayDo_32 : decode cX9_mayDo 32 = .ok (.aload_n 0, 1) := dk_42 (dk_at dksX9_mayDo_1 8 rfl rfl)
theorem dX9_mayDo_33 : decode cX9_mayDo 33 = .ok (.iload_n 1, 1) := dk_27 (dk_at dksX9_mayDo_1 9 rfl rfl)
theorem dX9_mayDo_34 : decode cX9_mayDo 34 = .ok (.aload_n 0, 1) := dk_42 (dk_at dksX9_mayDo_1 10 rfl rfl)
theorem dX9_mayDo_35 : decode cX9_mayDo 35 = .ok (.getfield 56, 3) := dk_180 0 56 (dk_at dksX9_mayDo_1 11 rfl rfl)
theorem dX9_mayDo_38 : decode cX9_mayDo 38 = .ok (.iload 4, 2) := dk_21 4 (dk_at dksX9_mayDo_1 14 rfl rfl)
theorem dX9_mayDo_40 : decode cX9_mayDo 40 = .ok (.iaload, 1) := dk_46 (dk_at dksX9_mayDo_1 16 rfl rfl)
theorem dX9_mayDo_41 : decode cX9_mayDo 41 = .ok (.invokevirtual 133, 3) := dk_182 0 133 (dk_at dksX9_mayDo_1 17 rfl rfl)
theorem dX9_mayDo_44 : decode cX9_mayDo 44 = .ok (.ifCond .ne 5, 3) := dk_154 0 5 (dk_at dksX9_mayDo_1 20 rfl rfl)
theorem dX9_mayDo_47 : decode cX9_mayDo 47 = .ok (.iconst 0, 1) := dk_3 (dk_at dksX9_mayDo_1 23 rfl rfl)
theorem dX9_mayDo_48 : decode cX9_mayDo 48 = .ok (.ireturn, 1) := dk_172 (dk_at dksX9_mayDo_2 0 rfl rfl)
theorem dX9_mayDo_49 : decode cX9_mayDo 49 = .ok (.bipush 6, 2) := dk_16 6 (dk_at dksX9_mayDo_2 1 rfl rfl)
theorem dX9_mayDo_51 : decode cX9_mayDo 51 = .ok (.iload_n 1, 1) := dk_27 (dk_at dksX9_mayDo_2 3 rfl rfl)
theorem dX9_mayDo_52 : decode cX9_mayDo 52 = .ok (.imul, 1) := dk_104 (dk_at dksX9_mayDo_2 4 rfl rfl)
theorem dX9_mayDo_53 : decode cX9_mayDo 53 = .ok (.aload_n 0, 1) := dk_42 (dk_at dksX9_mayDo_2 5 rfl rfl)
theorem dX9_mayDo_54 : decode cX9_mayDo 54 = .ok (.getfield 56, 3) := dk_180 0 56 (dk_at dksX9_mayDo_2 6 rfl rfl)
theorem dX9_mayDo_57 : decode cX9_mayDo 57 = .ok (.iload 4, 2) := dk_21 4 (dk_at dksX9_mayDo_2 9 rfl rfl)
theorem dX9_mayDo_59 : decode cX9_mayDo 59 = .ok (.iaload, 1) := dk_46 (dk_at dksX9_mayDo_2 11 rfl rfl)
theorem dX9_mayDo_60 : decode cX9_mayDo 60 = .ok (.iadd, 1) := dk_96 (dk_at dksX9_mayDo_2 12 rfl rfl)
theorem dX9_mayDo_61 : decode cX9_mayDo 61 = .ok (.istore 5, 2) := dk_54 5 (dk_at dksX9_mayDo_2 13 rfl rfl)
theorem dX9_mayDo_63 : decode cX9_mayDo 63 = .ok (.aload_n 0, 1) := dk_42 (dk_at dksX9_mayDo_2 15 rfl rfl)
theorem dX9_mayDo_64 : decode cX9_mayDo 64 = .ok (.getfield 19, 3) := dk_180 0 19 (dk_at dksX9_mayDo_2 16 rfl rfl)
theorem dX9_mayDo_67 : decode cX9_mayDo 67 = .ok (.iload 5, 2) := dk_21 5 (dk_at dksX9_mayDo_2 19 rfl rfl)
theorem dX9_mayDo_69 : decode cX9_mayDo 69 = .ok (.iaload, 1) := dk_46 (dk_at dksX9_mayDo_2 21 rfl rfl)
theorem dX9_mayDo_70 : decode cX9_mayDo 70 = .ok (.ifCond .lt 22, 3) := dk_155 0 22 (dk_at dksX9_mayDo_3 0 rfl rfl)
theorem dX9_mayDo_73 : decode cX9_mayDo 73 = .ok (.aload_n 0, 1) := dk_42 (dk_at dksX9_mayDo_3 3 rfl rfl)
theorem dX9_mayDo_74 : decode cX9_mayDo 74 = .ok (.getfield 19, 3) := dk_180 0 19 (dk_at dksX9_mayDo_3 4 rfl rfl)
theorem dX9_mayDo_77 : decode cX9_mayDo 77 = .ok (.iload 5, 2) := dk_21 5 (dk_at dksX9_mayDo_3 7 rfl rfl)
theorem dX9_mayDo_79 : decode cX9_mayDo 79 = .ok (.iaload, 1) := dk_46 (dk_at dksX9_mayDo_3 9 rfl rfl)
theorem dX9_mayDo_80 : decode cX9_mayDo 80 = .ok (.aload_n 0, 1) := dk_42 (dk_at dksX9_mayDo_3 10 rfl rfl)
theorem dX9_mayDo_81 : decode cX9_mayDo 81 = .ok (.getfield 59, 3) := dk_180 0 59 (dk_at dksX9_mayDo_3 11 rfl rfl)
theorem dX9_mayDo_84 : decode cX9_mayDo 84 = .ok (.iload 4, 2) := dk_21 4 (dk_at dksX9_mayDo_3 14 rfl rfl)
theorem dX9_mayDo_86 : decode cX9_mayDo 86 = .ok (.iaload, 1) := dk_46 (dk_at dksX9_mayDo_3 16 rfl rfl)
theorem dX9_mayDo_87 : decode cX9_mayDo 87 = .ok (.if_icmp .eq 5, 3) := dk_159 0 5 (dk_at dksX9_mayDo_3 17 rfl rfl)
theorem dX9_mayDo_90 : decode cX9_mayDo 90 = .ok (.iconst 0, 1) := dk_3 (dk_at dksX9_mayDo_3 20 rfl rfl)
theorem dX9_mayDo_91 : decode cX9_mayDo 91 = .ok (.ireturn, 1) := dk_172 (dk_at dksX9_mayDo_3 21 rfl rfl)
theorem dX9_mayDo_92 : decode cX9_mayDo 92 = .ok (.iconst 0, 1) := dk_3 (dk_at dksX9_mayDo_3 22 rfl rfl)
theorem dX9_mayDo_93 : decode cX9_mayDo 93 = .ok (.istore 6, 2) := dk_54 6 (dk_at dksX9_mayDo_4 0 rfl rfl)
theorem dX9_mayDo_95 : decode cX9_mayDo 95 = .ok (.iload 6, 2) := dk_21 6 (dk_at dksX9_mayDo_4 2 rfl rfl)
theorem dX9_mayDo_97 : decode cX9_mayDo 97 = .ok (.iload 4, 2) := dk_21 4 (dk_at dksX9_mayDo_4 4 rfl rfl)
theorem dX9_mayDo_99 : decode cX9_mayDo 99 = .ok (.if_icmp .ge 31, 3) := dk_162 0 31 (dk_at dksX9_mayDo_4 6 rfl rfl)
theorem dX9_mayDo_102 : decode cX9_mayDo 102 = .ok (.aload_n 0, 1) := dk_42 (dk_at dksX9_mayDo_4 9 rfl rfl)
theorem dX9_mayDo_103 : decode cX9_mayDo 103 = .ok (.iload 6, 2) := dk_21 6 (dk_at dksX9_mayDo_4 10 rfl rfl)
theorem dX9_mayDo_105 : decode cX9_mayDo 105 = .ok (.iload 4, 2) := dk_21 4 (dk_at dksX9_mayDo_4 12 rfl rfl)
theorem dX9_mayDo_107 : decode cX9_mayDo 107 = .ok (.invokevirtual 196, 3) := dk_182 0 196 (dk_at dksX9_mayDo_4 14 rfl rfl)
theorem dX9_mayDo_110 : decode cX9_mayDo 110 = .ok (.ifCond .eq 14, 3) := dk_153 0 14 (dk_at dksX9_mayDo_4 17 rfl rfl)
theorem dX9_mayDo_113 : decode cX9_mayDo 113 = .ok (.iload_n 3, 1) := dk_29 (dk_at dksX9_mayDo_4 20 rfl rfl)
theorem dX9_mayDo_114 : decode cX9_mayDo 114 = .ok (.iload 6, 2) := dk_21 6 (dk_at dksX9_mayDo_4 21 rfl rfl)
theorem dX9_mayDo_116 : decode cX9_mayDo 116 = .ok (.ishr, 1) := dk_122 (dk_at dksX9_mayDo_4 23 rfl rfl)
theorem dX9_mayDo_117 : decode cX9_mayDo 117 = .ok (.iconst 1, 1) := dk_4 (dk_at dksX9_mayDo_5 0 rfl rfl)
theorem dX9_mayDo_118 : decode cX9_mayDo 118 = .ok (.iand, 1) := dk_126 (dk_at dksX9_mayDo_5 1 rfl rfl)
theorem dX9_mayDo_119 : decode cX9_mayDo 119 = .ok (.ifCond .ne 5, 3) := dk_154 0 5 (dk_at dksX9_mayDo_5 2 rfl rfl)
theorem dX9_mayDo_122 : decode cX9_mayDo 122 = .ok (.iconst 0, 1) := dk_3 (dk_at dksX9_mayDo_5 5 rfl rfl)
theorem dX9_mayDo_123 : decode cX9_mayDo 123 = .ok (.ireturn, 1) := dk_172 (dk_at dksX9_mayDo_5 6 rfl rfl)
theorem dX9_mayDo_124 : decode cX9_mayDo 124 = .ok (.iinc 6 1, 3) := dk_132 6 1 (dk_at dksX9_mayDo_5 7 rfl rfl)
theorem dX9_mayDo_127 : decode cX9_mayDo 127 = .ok (.goto (-32), 3) := dk_167 255 224 (dk_at dksX9_mayDo_5 10 rfl rfl)
theorem dX9_mayDo_130 : decode cX9_mayDo 130 = .ok (.iinc 4 1, 3) := dk_132 4 1 (dk_at dksX9_mayDo_5 13 rfl rfl)
theorem dX9_mayDo_133 : decode cX9_mayDo 133 = .ok (.goto (-122), 3) := dk_167 255 134 (dk_at dksX9_mayDo_5 16 rfl rfl)
theorem dX9_mayDo_136 : decode cX9_mayDo 136 = .ok (.iconst 0, 1) := dk_3 (dk_at dksX9_mayDo_5 19 rfl rfl)
theorem dX9_mayDo_137 : decode cX9_mayDo 137 = .ok (.istore 4, 2) := dk_54 4 (dk_at dksX9_mayDo_5 20 rfl rfl)
theorem dX9_mayDo_139 : decode cX9_mayDo 139 = .ok (.iload 4, 2) := dk_21 4 (dk_at dksX9_mayDo_5 22 rfl rfl)
theorem dX9_mayDo_141 : decode cX9_mayDo 141 = .ok (.aload_n 0, 1) := dk_42 (dk_at dksX9_mayDo_6 0 rfl rfl)
theorem dX9_mayDo_142 : decode cX9_mayDo 142 = .ok (.getfield 117, 3) := dk_180 0 117 (dk_at dksX9_mayDo_6 1 rfl rfl)
theorem dX9_mayDo_145 : decode cX9_mayDo 145 = .ok (.iconst 1, 1) := dk_4 (dk_at dksX9_mayDo_6 4 rfl rfl)
theorem dX9_mayDo_146 : decode cX9_mayDo 146 = .ok (.isub, 1) := dk_100 (dk_at dksX9_mayDo_6 5 rfl rfl)
theorem dX9_mayDo_147 : decode cX9_mayDo 147 = .ok (.if_icmp .ge 99, 3) := dk_162 0 99 (dk_at dksX9_mayDo_6 6 rfl rfl)
theorem dX9_mayDo_150 : decode cX9_mayDo 150 = .ok (.aload_n 0, 1) := dk_42 (dk_at dksX9_mayDo_6 9 rfl rfl)
theorem dX9_mayDo_151 : decode cX9_mayDo 151 = .ok (.iload_n 1, 1) := dk_27 (dk_at dksX9_mayDo_6 10 rfl rfl)
theorem dX9_mayDo_152 : decode cX9_mayDo 152 = .ok (.iload 4, 2) := dk_21 4 (dk_at dksX9_mayDo_6 11 rfl rfl)
theorem dX9_mayDo_154 : decode cX9_mayDo 154 = .ok (.invokevirtual 133, 3) := dk_182 0 133 (dk_at dksX9_mayDo_6 13 rfl rfl)
theorem dX9_mayDo_157 : decode cX9_mayDo 157 = .ok (.ifCond .eq 83, 3) := dk_153 0 83 (dk_at dksX9_mayDo_6 16 rfl rfl)
theorem dX9_mayDo_160 : decode cX9_mayDo 160 = .ok (.aload_n 0, 1) := dk_42 (dk_at dksX9_mayDo_6 19 rfl rfl)
theorem dX9_mayDo_161 : decode cX9_mayDo 161 = .ok (.getfield 19, 3) := dk_180 0 19 (dk_at dksX9_mayDo_6 20 rfl rfl)
theorem dX9_mayDo_164 : decode cX9_mayDo 164 = .ok (.bipush 6, 2) := dk_16 6 (dk_at dksX9_mayDo_7 0 rfl rfl)
theorem dX9_mayDo_166 : decode cX9_mayDo 166 = .ok (.iload_n 1, 1) := dk_27 (dk_at dksX9_mayDo_7 2 rfl rfl)
theorem dX9_mayDo_167 : decode cX9_mayDo 167 = .ok (.imul, 1) := dk_104 (dk_at dksX9_mayDo_7 3 rfl rfl)
theorem dX9_mayDo_168 : decode cX9_mayDo 168 = .ok (.iload 4, 2) := dk_21 4 (dk_at dksX9_mayDo_7 4 rfl rfl)
theorem dX9_mayDo_170 : decode cX9_mayDo 170 = .ok (.iadd, 1) := dk_96 (dk_at dksX9_mayDo_7 6 rfl rfl)
theorem dX9_mayDo_171 : decode cX9_mayDo 171 = .ok (.iaload, 1) := dk_46 (dk_at dksX9_mayDo_7 7 rfl rfl)
theorem dX9_mayDo_172 : decode cX9_mayDo 172 = .ok (.ifCond .gt 6, 3) := dk_157 0 6 (dk_at dksX9_mayDo_7 8 rfl rfl)
theorem dX9_mayDo_175 : decode cX9_mayDo 175 = .ok (.goto 65, 3) := dk_167 0 65 (dk_at dksX9_mayDo_7 11 rfl rfl)
theorem dX9_mayDo_178 : decode cX9_mayDo 178 = .ok (.iconst 0, 1) := dk_3 (dk_at dksX9_mayDo_7 14 rfl rfl)
theorem dX9_mayDo_179 : decode cX9_mayDo 179 = .ok (.istore 5, 2) := dk_54 5 (dk_at dksX9_mayDo_7 15 rfl rfl)
theorem dX9_mayDo_181 : decode cX9_mayDo 181 = .ok (.iconst 0, 1) := dk_3 (dk_at dksX9_mayDo_7 17 rfl rfl)
theorem dX9_mayDo_182 : decode cX9_mayDo 182 = .ok (.istore 6, 2) := dk_54 6 (dk_at dksX9_mayDo_7 18 rfl rfl)
theorem dX9_mayDo_184 : decode cX9_mayDo 184 = .ok (.iload 6, 2) := dk_21 6 (dk_at dksX9_mayDo_7 20 rfl rfl)
theorem dX9_mayDo_186 : decode cX9_mayDo 186 = .ok (.aload_n 0, 1) := dk_42 (dk_at dksX9_mayDo_7 22 rfl rfl)
theorem dX9_mayDo_187 : decode cX9_mayDo 187 = .ok (.getfield 191, 3) := dk_180 0 191 (dk_at dksX9_mayDo_8 0 rfl rfl)
theorem dX9_mayDo_190 : decode cX9_mayDo 190 = .ok (.if_icmp .ge 43, 3) := dk_162 0 43 (dk_at dksX9_mayDo_8 3 rfl rfl)
theorem dX9_mayDo_193 : decode cX9_mayDo 193 = .ok (.iload 5, 2) := dk_21 5 (dk_at dksX9_mayDo_8 6 rfl rfl)
theorem dX9_mayDo_195 : decode cX9_mayDo 195 = .ok (.ifCond .ne 25, 3) := dk_154 0 25 (dk_at dksX9_mayDo_8 8 rfl rfl)
theorem dX9_mayDo_198 : decode cX9_mayDo 198 = .ok (.iload_n 2, 1) := dk_28 (dk_at dksX9_mayDo_8 11 rfl rfl)
theorem dX9_mayDo_199 : decode cX9_mayDo 199 = .ok (.iload 6, 2) := dk_21 6 (dk_at dksX9_mayDo_8 12 rfl rfl)
theorem dX9_mayDo_201 : decode cX9_mayDo 201 = .ok (.ishr, 1) := dk_122 (dk_at dksX9_mayDo_8 14 rfl rfl)
theorem dX9_mayDo_202 : decode cX9_mayDo 202 = .ok (.iconst 1, 1) := dk_4 (dk_at dksX9_mayDo_8 15 rfl rfl)
theorem dX9_mayDo_203 : decode cX9_mayDo 203 = .ok (.iand, 1) := dk_126 (dk_at dksX9_mayDo_8 16 rfl rfl)
theorem dX9_mayDo_204 : decode cX9_mayDo 204 = .ok (.iconst 1, 1) := dk_4 (dk_at dksX9_mayDo_8 17 rfl rfl)
theorem dX9_mayDo_205 : decode cX9_mayDo 205 = .ok (.if_icmp .ne 19, 3) := dk_160 0 19 (dk_at dksX9_mayDo_8 18 rfl rfl)
theorem dX9_mayDo_208 : decode cX9_mayDo 208 = .ok (.aload_n 0, 1) := dk_42 (dk_at dksX9_mayDo_8 21 rfl rfl)
theorem dX9_mayDo_209 : decode cX9_mayDo 209 = .ok (.getfield 56, 3) := dk_180 0 56 (dk_at dksX9_mayDo_9 0 rfl rfl)
theorem dX9_mayDo_212 : decode cX9_mayDo 212 = .ok (.iload 6, 2) := dk_21 6 (dk_at dksX9_mayDo_9 3 rfl rfl)
theorem dX9_mayDo_214 : decode cX9_mayDo 214 = .ok (.iaload, 1) := dk_46 (dk_at dksX9_mayDo_9 5 rfl rfl)
theorem dX9_mayDo_215 : decode cX9_mayDo 215 = .ok (.iload 4, 2) := dk_21 4 (dk_at dksX9_mayDo_9 6 rfl rfl)
theorem dX9_mayDo_217 : decode cX9_mayDo 217 = .ok (.if_icmp .ne 7, 3) := dk_160 0 7 (dk_at dksX9_mayDo_9 8 rfl rfl)
theorem dX9_mayDo_220 : decode cX9_mayDo 220 = .ok (.iconst 1, 1) := dk_4 (dk_at dksX9_mayDo_9 11 rfl rfl)
theorem dX9_mayDo_221 : decode cX9_mayDo 221 = .ok (.goto 4, 3) := dk_167 0 4 (dk_at dksX9_mayDo_9 12 rfl rfl)
theorem dX9_mayDo_224 : decode cX9_mayDo 224 = .ok (.iconst 0, 1) := dk_3 (dk_at dksX9_mayDo_9 15 rfl rfl)
theorem dX9_mayDo_225 : decode cX9_mayDo 225 = .ok (.istore 5, 2) := dk_54 5 (dk_at dksX9_mayDo_9 16 rfl rfl)
theorem dX9_mayDo_227 : decode cX9_mayDo 227 = .ok (.iinc 6 1, 3) := dk_132 6 1 (dk_at dksX9_mayDo_9 18 rfl rfl)
theorem dX9_mayDo_230 : decode cX9_mayDo 230 = .ok (.goto (-46), 3) := dk_167 255 210 (dk_at dksX9_mayDo_9 21 rfl rfl)
theorem dX9_mayDo_233 : decode cX9_mayDo 233 = .ok (.iload 5, 2) := dk_21 5 (dk_at dksX9_mayDo_10 0 rfl rfl)
theorem dX9_mayDo_235 : decode cX9_mayDo 235 = .ok (.ifCond .ne 5, 3) := dk_154 0 5 (dk_at dksX9_mayDo_10 2 rfl rfl)
theorem dX9_mayDo_238 : decode cX9_mayDo 238 = .ok (.iconst 0, 1) := dk_3 (dk_at dksX9_mayDo_10 5 rfl rfl)
theorem dX9_mayDo_239 : decode cX9_mayDo 239 = .ok (.ireturn, 1) := dk_172 (dk_at dksX9_mayDo_10 6 rfl rfl)
theorem dX9_mayDo_240 : decode cX9_mayDo 240 = .ok (.iinc 4 1, 3) := dk_132 4 1 (dk_at dksX9_mayDo_10 7 rfl rfl)
theorem dX9_mayDo_243 : decode cX9_mayDo 243 = .ok (.goto (-104), 3) := dk_167 255 152 (dk_at dksX9_mayDo_10 10 rfl rfl)
theorem dX9_mayDo_246 : decode cX9_mayDo 246 = .ok (.iconst 1, 1) := dk_4 (dk_at dksX9_mayDo_10 13 rfl rfl)
theorem dX9_mayDo_247 : decode cX9_mayDo 247 = .ok (.ireturn, 1) := dk_172 (dk_at dksX9_mayDo_10 14 rfl rfl)
abbrev cX9_haveLane : ByteArray := prog_19_method_28_code
def yX9_haveLane : MethodName := ⟨RX9, "haveLane", "(II)Z"⟩
def dkwX9_haveLane_0 : List UInt8 := [42, 180, 0, 56, 27, 46, 42, 180, 0, 56, 28, 46, 100, 133, 20, 0, 194, 10, 184, 0, 126, 172]
abbrev dktX9_haveLane_0 : List UInt8 := dkwX9_haveLane_0 ++ []
theorem dksX9_haveLane_0 : cX9_haveLane.data.toList.drop 0 = dktX9_haveLane_0 := by decide +kernel
theorem dX9_haveLane_0 : decode cX9_haveLane 0 = .ok (.aload_n 0, 1) := dk_42 (dk_at dksX9_haveLane_0 0 rfl rfl)
theorem dX9_haveLane_1 : decode cX9_haveLane 1 = .ok (.getfield 56, 3) := dk_180 0 56 (dk_at dksX9_haveLane_0 1 rfl rfl)
theorem dX9_haveLane_4 : decode cX9_haveLane 4 = .ok (.iload_n 1, 1) := dk_27 (dk_at dksX9_haveLane_0 4 rfl rfl)
theorem dX9_haveLane_5 : decode cX9_haveLane 5 = .ok (.iaload, 1) := dk_46 (dk_at dksX9_haveLane_0 5 rfl rfl)
theorem dX9_haveLane_6 : decode cX9_haveLane 6 = .ok (.aload_n 0, 1) := dk_42 (dk_at dksX9_haveLane_0 6 rfl rfl)
theorem dX9_haveLane_7 : decode cX9_haveLane 7 = .ok (.getfield 56, 3) := dk_180 0 56 (dk_at dksX9_haveLane_0 7 rfl rfl)
theorem dX9_haveLane_10 : decode cX9_haveLane 10 = .ok (.iload_n 2, 1) := dk_28 (dk_at dksX9_haveLane_0 10 rfl rfl)
theorem dX9_haveLane_11 : decode cX9_haveLane 11 = .ok (.iaload, 1) := dk_46 (dk_at dksX9_haveLane_0 11 rfl rfl)
theorem dX9_haveLane_12 : decode cX9_haveLane 12 = .ok (.isub, 1) := dk_100 (dk_at dksX9_haveLane_0 12 rfl rfl)
theorem dX9_haveLane_13 : decode cX9_haveLane 13 = .ok (.i2l, 1) := dk_133 (dk_at dksX9_haveLane_0 13 rfl rfl)
theorem dX9_haveLane_14 : decode cX9_haveLane 14 = .ok (.ldc2_w 194, 3) := dk_20 0 194 (dk_at dksX9_haveLane_0 14 rfl rfl)
theorem dX9_haveLane_17 : decode cX9_haveLane 17 = .ok (.lconst 1, 1) := dk_10 (dk_at dksX9_haveLane_0 17 rfl rfl)
theorem dX9_haveLane_18 : decode cX9_haveLane 18 = .ok (.invokestatic 126, 3) := dk_184 0 126 (dk_at dksX9_haveLane_0 18 rfl rfl)
theorem dX9_haveLane_21 : decode cX9_haveLane 21 = .ok (.ireturn, 1) := dk_172 (dk_at dksX9_haveLane_0 21 rfl rfl)
abbrev cX9_feed : ByteArray := prog_19_method_33_code
def yX9_feed : MethodName := ⟨RX9, "feed", "(JI)I"⟩
def dkwX9_feed_3 : List UInt8 := [132, 4, 255, 167, 255, 217, 42, 180, 0, 211, 172]
abbrev dktX9_feed_3 : List UInt8 := dkwX9_feed_3 ++ []
def dkwX9_feed_2 : List UInt8 := [31, 16, 8, 21, 4, 104, 123, 20, 0, 214, 127, 136, 79, 42, 89, 180, 0, 211, 4, 96, 181, 0, 211]
abbrev dktX9_feed_2 : List UInt8 := dkwX9_feed_2 ++ dktX9_feed_3
def dkwX9_feed_1 : List UInt8 := [164, 0, 6, 16, 252, 172, 29, 4, 100, 54, 4, 21, 4, 155, 0, 40, 42, 180, 0, 66, 42, 180, 0, 211]
abbrev dktX9_feed_1 : List UInt8 := dkwX9_feed_1 ++ dktX9_feed_2
def dkwX9_feed_0 : List UInt8 := [29, 133, 10, 20, 0, 209, 184, 0, 126, 154, 0, 6, 16, 254, 172, 42, 180, 0, 211, 29, 96, 16, 100]
abbrev dktX9_feed_0 : List UInt8 := dkwX9_feed_0 ++ dktX9_feed_1
theorem dksX9_feed_0 : cX9_feed.data.toList.drop 0 = dktX9_feed_0 := by decide +kernel
theorem dksX9_feed_1 : cX9_feed.data.toList.drop 23 = dktX9_feed_1 := dk_seg dksX9_feed_0 23 rfl rfl
theorem dksX9_feed_2 : cX9_feed.data.toList.drop 47 = dktX9_feed_2 := dk_seg dksX9_feed_1 24 rfl rfl
theorem dksX9_feed_3 : cX9_feed.data.toList.drop 70 = dktX9_feed_3 := dk_seg dksX9_feed_2 23 rfl rfl
theorem dX9_feed_0 : decode cX9_feed 0 = .ok (.iload_n 3, 1) := dk_29 (dk_at dksX9_feed_0 0 rfl rfl)
theorem dX9_feed_1 : decode cX9_feed 1 = .ok (.i2l, 1) := dk_133 (dk_at dksX9_feed_0 1 rfl rfl)
theorem dX9_feed_2 : decode cX9_feed 2 = .ok (.lconst 1, 1) := dk_10 (dk_at dksX9_feed_0 2 rfl rfl)
theorem dX9_feed_3 : decode cX9_feed 3 = .ok (.ldc2_w 209, 3) := dk_20 0 209 (dk_at dksX9_feed_0 3 rfl rfl)
theorem dX9_feed_6 : decode cX9_feed 6 = .ok (.invokestatic 126, 3) := dk_184 0 126 (dk_at dksX9_feed_0 6 rfl rfl)
theorem dX9_feed_9 : decode cX9_feed 9 = .ok (.ifCond .ne 6, 3) := dk_154 0 6 (dk_at dksX9_feed_0 9 rfl rfl)
theorem dX9_feed_12 : decode cX9_feed 12 = .ok (.bipush (-2), 2) := dk_16 254 (dk_at dksX9_feed_0 12 rfl rfl)
theorem dX9_feed_14 : decode cX9_feed 14 = .ok (.ireturn, 1) := dk_172 (dk_at dksX9_feed_0 14 rfl rfl)
theorem dX9_feed_15 : decode cX9_feed 15 = .ok (.aload_n 0, 1) := dk_42 (dk_at dksX9_feed_0 15 rfl rfl)
theorem dX9_feed_16 : decode cX9_feed 16 = .ok (.getfield 211, 3) := dk_180 0 211 (dk_at dksX9_feed_0 16 rfl rfl)
theorem dX9_feed_19 : decode cX9_feed 19 = .ok (.iload_n 3, 1) := dk_29 (dk_at dksX9_feed_0 19 rfl rfl)
theorem dX9_feed_20 : decode cX9_feed 20 = .ok (.iadd, 1) := dk_96 (dk_at dksX9_feed_0 20 rfl rfl)
theorem dX9_feed_21 : decode cX9_feed 21 = .ok (.bipush 100, 2) := dk_16 100 (dk_at dksX9_feed_0 21 rfl rfl)
theorem dX9_feed_23 : decode cX9_feed 23 = .ok (.if_icmp .le 6, 3) := dk_164 0 6 (dk_at dksX9_feed_1 0 rfl rfl)
theorem dX9_feed_26 : decode cX9_feed 26 = .ok (.bipush (-4), 2) := dk_16 252 (dk_at dksX9_feed_1 3 rfl rfl)
theorem dX9_feed_28 : decode cX9_feed 28 = .ok (.ireturn, 1) := dk_172 (dk_at dksX9_feed_1 5 rfl rfl)
theorem dX9_feed_29 : decode cX9_feed 29 = .ok (.iload_n 3, 1) := dk_29 (dk_at dksX9_feed_1 6 rfl rfl)
theorem dX9_feed_30 : decode cX9_feed 30 = .ok (.iconst 1, 1) := dk_4 (dk_at dksX9_feed_1 7 rfl rfl)
theorem dX9_feed_31 : decode cX9_feed 31 = .ok (.isub, 1) := dk_100 (dk_at dksX9_feed_1 8 rfl rfl)
theorem dX9_feed_32 : decode cX9_feed 32 = .ok (.istore 4, 2) := dk_54 4 (dk_at dksX9_feed_1 9 rfl rfl)
theorem dX9_feed_34 : decode cX9_feed 34 = .ok (.iload 4, 2) := dk_21 4 (dk_at dksX9_feed_1 11 rfl rfl)
theorem dX9_feed_36 : decode cX9_feed 36 = .ok (.ifCond .lt 40, 3) := dk_155 0 40 (dk_at dksX9_feed_1 13 rfl rfl)
theorem dX9_feed_39 : decode cX9_feed 39 = .ok (.aload_n 0, 1) := dk_42 (dk_at dksX9_feed_1 16 rfl rfl)
theorem dX9_feed_40 : decode cX9_feed 40 = .ok (.getfield 66, 3) := dk_180 0 66 (dk_at dksX9_feed_1 17 rfl rfl)
theorem dX9_feed_43 : decode cX9_feed 43 = .ok (.aload_n 0, 1) := dk_42 (dk_at dksX9_feed_1 20 rfl rfl)
theorem dX9_feed_44 : decode cX9_feed 44 = .ok (.getfield 211, 3) := dk_180 0 211 (dk_at dksX9_feed_1 21 rfl rfl)
theorem dX9_feed_47 : decode cX9_feed 47 = .ok (.lload_n 1, 1) := dk_31 (dk_at dksX9_feed_2 0 rfl rfl)
theorem dX9_feed_48 : decode cX9_feed 48 = .ok (.bipush 8, 2) := dk_16 8 (dk_at dksX9_feed_2 1 rfl rfl)
theorem dX9_feed_50 : decode cX9_feed 50 = .ok (.iload 4, 2) := dk_21 4 (dk_at dksX9_feed_2 3 rfl rfl)
theorem dX9_feed_52 : decode cX9_feed 52 = .ok (.imul, 1) := dk_104 (dk_at dksX9_feed_2 5 rfl rfl)
theorem dX9_feed_53 : decode cX9_feed 53 = .ok (.lshr, 1) := dk_123 (dk_at dksX9_feed_2 6 rfl rfl)
theorem dX9_feed_54 : decode cX9_feed 54 = .ok (.ldc2_w 214, 3) := dk_20 0 214 (dk_at dksX9_feed_2 7 rfl rfl)
theorem dX9_feed_57 : decode cX9_feed 57 = .ok (.land, 1) := dk_127 (dk_at dksX9_feed_2 10 rfl rfl)
theorem dX9_feed_58 : decode cX9_feed 58 = .ok (.l2i, 1) := dk_136 (dk_at dksX9_feed_2 11 rfl rfl)
theorem dX9_feed_59 : decode cX9_feed 59 = .ok (.iastore, 1) := dk_79 (dk_at dksX9_feed_2 12 rfl rfl)
theorem dX9_feed_60 : decode cX9_feed 60 = .ok (.aload_n 0, 1) := dk_42 (dk_at dksX9_feed_2 13 rfl rfl)
theorem dX9_feed_61 : decode cX9_feed 61 = .ok (.dup, 1) := dk_89 (dk_at dksX9_feed_2 14 rfl rfl)
theorem dX9_feed_62 : decode cX9_feed 62 = .ok (.getfield 211, 3) := dk_180 0 211 (dk_at dksX9_feed_2 15 rfl rfl)
theorem dX9_feed_65 : decode cX9_feed 65 = .ok (.iconst 1, 1) := dk_4 (dk_at dksX9_feed_2 18 rfl rfl)
theorem dX9_feed_66 : decode cX9_feed 66 = .ok (.iadd, 1) := dk_96 (dk_at dksX9_feed_2 19 rfl rfl)
theorem dX9_feed_67 : decode cX9_feed 67 = .ok (.putfield 211, 3) := dk_181 0 211 (dk_at dksX9_feed_2 20 rfl rfl)
theorem dX9_feed_70 : decode cX9_feed 70 = .ok (.iinc 4 (-1), 3) := dk_132 4 255 (dk_at dksX9_feed_3 0 rfl rfl)
theorem dX9_feed_73 : decode cX9_feed 73 = .ok (.goto (-39), 3) := dk_167 255 217 (dk_at dksX9_feed_3 3 rfl rfl)
theorem dX9_feed_76 : decode cX9_feed 76 = .ok (.aload_n 0, 1) := dk_42 (dk_at dksX9_feed_3 6 rfl rfl)
theorem dX9_feed_77 : decode cX9_feed 77 = .ok (.getfield 211, 3) := dk_180 0 211 (dk_at dksX9_feed_3 7 rfl rfl)
theorem dX9_feed_80 : decode cX9_feed 80 = .ok (.ireturn, 1) := dk_172 (dk_at dksX9_feed_3 10 rfl rfl)
abbrev cX9_program : ByteArray := prog_19_method_44_code
def yX9_program : MethodName := ⟨RX9, "program", "()I"⟩
def dkwX9_program_4 : List UInt8 := [180, 0, 69, 28, 46, 16, 100, 112, 79, 132, 2, 1, 167, 255, 215, 42, 180, 0, 191, 172]
abbrev dktX9_program_4 : List UInt8 := dkwX9_program_4 ++ []
def dkwX9_program_3 : List UInt8 := [162, 0, 39, 42, 180, 0, 56, 28, 42, 180, 0, 69, 28, 46, 16, 100, 108, 79, 42, 180, 0, 59, 28, 42]
abbrev dktX9_program_3 : List UInt8 := dkwX9_program_3 ++ dktX9_program_4
def dkwX9_program_2 : List UInt8 := [164, 0, 7, 17, 244, 72, 172, 42, 42, 180, 0, 72, 3, 46, 181, 0, 191, 3, 61, 28, 42, 180, 0, 191]
abbrev dktX9_program_2 : List UInt8 := dkwX9_program_2 ++ dktX9_program_3
def dkwX9_program_1 : List UInt8 := [180, 0, 246, 155, 0, 12, 17, 248, 48, 42, 180, 0, 246, 100, 172, 42, 180, 0, 72, 3, 46, 16, 10]
abbrev dktX9_program_1 : List UInt8 := dkwX9_program_1 ++ dktX9_program_2
def dkwX9_program_0 : List UInt8 := [42, 182, 1, 0, 60, 42, 3, 181, 0, 211, 27, 154, 0, 12, 17, 252, 24, 42, 180, 0, 216, 100, 172, 42]
abbrev dktX9_program_0 : List UInt8 := dkwX9_program_0 ++ dktX9_program_1
theorem dksX9_program_0 : cX9_program.data.toList.drop 0 = dktX9_program_0 := by decide +kernel
theorem dksX9_program_1 : cX9_program.data.toList.drop 24 = dktX9_program_1 := dk_seg dksX9_program_0 24 rfl rfl
theorem dksX9_program_2 : cX9_program.data.toList.drop 47 = dktX9_program_2 := dk_seg dksX9_program_1 23 rfl rfl
theorem dksX9_program_3 : cX9_program.data.toList.drop 71 = dktX9_program_3 := dk_seg dksX9_program_2 24 rfl rfl
theorem dksX9_program_4 : cX9_program.data.toList.drop 95 = dktX9_program_4 := dk_seg dksX9_program_3 24 rfl rfl
theorem dX9_program_0 : decode cX9_program 0 = .ok (.aload_n 0, 1) := dk_42 (dk_at dksX9_program_0 0 rfl rfl)
theorem dX9_program_1 : decode cX9_program 1 = .ok (.invokevirtual 256, 3) := dk_182 1 0 (dk_at dksX9_program_0 1 rfl rfl)
theorem dX9_program_4 : decode cX9_program 4 = .ok (.istore_n 1, 1) := dk_60 (dk_at dksX9_program_0 4 rfl rfl)
theorem dX9_program_5 : decode cX9_program 5 = .ok (.aload_n 0, 1) := dk_42 (dk_at dksX9_program_0 5 rfl rfl)
theorem dX9_program_6 : decode cX9_program 6 = .ok (.iconst 0, 1) := dk_3 (dk_at dksX9_program_0 6 rfl rfl)
theorem dX9_program_7 : decode cX9_program 7 = .ok (.putfield 211, 3) := dk_181 0 211 (dk_at dksX9_program_0 7 rfl rfl)
theorem dX9_program_10 : decode cX9_program 10 = .ok (.iload_n 1, 1) := dk_27 (dk_at dksX9_program_0 10 rfl rfl)
theorem dX9_program_11 : decode cX9_program 11 = .ok (.ifCond .ne 12, 3) := dk_154 0 12 (dk_at dksX9_program_0 11 rfl rfl)
theorem dX9_program_14 : decode cX9_program 14 = .ok (.sipush (-1000), 3) := dk_17 252 24 (dk_at dksX9_program_0 14 rfl rfl)
theorem dX9_program_17 : decode cX9_program 17 = .ok (.aload_n 0, 1) := dk_42 (dk_at dksX9_program_0 17 rfl rfl)
theorem dX9_program_18 : decode cX9_program 18 = .ok (.getfield 216, 3) := dk_180 0 216 (dk_at dksX9_program_0 18 rfl rfl)
theorem dX9_program_21 : decode cX9_program 21 = .ok (.isub, 1) := dk_100 (dk_at dksX9_program_0 21 rfl rfl)
theorem dX9_program_22 : decode cX9_program 22 = .ok (.ireturn, 1) := dk_172 (dk_at dksX9_program_0 22 rfl rfl)
theorem dX9_program_23 : decode cX9_program 23 = .ok (.aload_n 0, 1) := dk_42 (dk_at dksX9_program_0 23 rfl rfl)
theorem dX9_program_24 : decode cX9_program 24 = .ok (.getfield 246, 3) := dk_180 0 246 (dk_at dksX9_program_1 0 rfl rfl)
theorem dX9_program_27 : decode cX9_program 27 = .ok (.ifCond .lt 12, 3) := dk_155 0 12 (dk_at dksX9_program_1 3 rfl rfl)
theorem dX9_program_30 : decode cX9_program 30 = .ok (.sipush (-2000), 3) := dk_17 248 48 (dk_at dksX9_program_1 6 rfl rfl)
theorem dX9_program_33 : decode cX9_program 33 = .ok (.aload_n 0, 1) := dk_42 (dk_at dksX9_program_1 9 rfl rfl)
theorem dX9_program_34 : decode cX9_program 34 = .ok (.getfield 246, 3) := dk_180 0 246 (dk_at dksX9_program_1 10 rfl rfl)
theorem dX9_program_37 : decode cX9_program 37 = .ok (.isub, 1) := dk_100 (dk_at dksX9_program_1 13 rfl rfl)
theorem dX9_program_38 : decode cX9_program 38 = .ok (.ireturn, 1) := dk_172 (dk_at dksX9_program_1 14 rfl rfl)
theorem dX9_program_39 : decode cX9_program 39 = .ok (.aload_n 0, 1) := dk_42 (dk_at dksX9_program_1 15 rfl rfl)
theorem dX9_program_40 : decode cX9_program 40 = .ok (.getfield 72, 3) := dk_180 0 72 (dk_at dksX9_program_1 16 rfl rfl)
theorem dX9_program_43 : decode cX9_program 43 = .ok (.iconst 0, 1) := dk_3 (dk_at dksX9_program_1 19 rfl rfl)
theorem dX9_program_44 : decode cX9_program 44 = .ok (.iaload, 1) := dk_46 (dk_at dksX9_program_1 20 rfl rfl)
theorem dX9_program_45 : decode cX9_program 45 = .ok (.bipush 10, 2) := dk_16 10 (dk_at dksX9_program_1 21 rfl rfl)
theorem dX9_program_47 : decode cX9_program 47 = .ok (.if_icmp .le 7, 3) := dk_164 0 7 (dk_at dksX9_program_2 0 rfl rfl)
theorem dX9_program_50 : decode cX9_program 50 = .ok (.sipush (-3000), 3) := dk_17 244 72 (dk_at dksX9_program_2 3 rfl rfl)
theorem dX9_program_53 : decode cX9_program 53 = .ok (.ireturn, 1) := dk_172 (dk_at dksX9_program_2 6 rfl rfl)
theorem dX9_program_54 : decode cX9_program 54 = .ok (.aload_n 0, 1) := dk_42 (dk_at dksX9_program_2 7 rfl rfl)
theorem dX9_program_55 : decode cX9_program 55 = .ok (.aload_n 0, 1) := dk_42 (dk_at dksX9_program_2 8 rfl rfl)
theorem dX9_program_56 : decode cX9_program 56 = .ok (.getfield 72, 3) := dk_180 0 72 (dk_at dksX9_program_2 9 rfl rfl)
theorem dX9_program_59 : decode cX9_program 59 = .ok (.iconst 0, 1) := dk_3 (dk_at dksX9_program_2 12 rfl rfl)
theorem dX9_program_60 : decode cX9_program 60 = .ok (.iaload, 1) := dk_46 (dk_at dksX9_program_2 13 rfl rfl)
theorem dX9_program_61 : decode cX9_program 61 = .ok (.putfield 191, 3) := dk_181 0 191 (dk_at dksX9_program_2 14 rfl rfl)
theorem dX9_program_64 : decode cX9_program 64 = .ok (.iconst 0, 1) := dk_3 (dk_at dksX9_program_2 17 rfl rfl)
theorem dX9_program_65 : decode cX9_program 65 = .ok (.istore_n 2, 1) := dk_61 (dk_at dksX9_program_2 18 rfl rfl)
theorem dX9_program_66 : decode cX9_program 66 = .ok (.iload_n 2, 1) := dk_28 (dk_at dksX9_program_2 19 rfl rfl)
theorem dX9_program_67 : decode cX9_program 67 = .ok (.aload_n 0, 1) := dk_42 (dk_at dksX9_program_2 20 rfl rfl)
theorem dX9_program_68 : decode cX9_program 68 = .ok (.getfield 191, 3) := dk_180 0 191 (dk_at dksX9_program_2 21 rfl rfl)
theorem dX9_program_71 : decode cX9_program 71 = .ok (.if_icmp .ge 39, 3) := dk_162 0 39 (dk_at dksX9_program_3 0 rfl rfl)
theorem dX9_program_74 : decode cX9_program 74 = .ok (.aload_n 0, 1) := dk_42 (dk_at dksX9_program_3 3 rfl rfl)
theorem dX9_program_75 : decode cX9_program 75 = .ok (.getfield 56, 3) := dk_180 0 56 (dk_at dksX9_program_3 4 rfl rfl)
theorem dX9_program_78 : decode cX9_program 78 = .ok (.iload_n 2, 1) := dk_28 (dk_at dksX9_program_3 7 rfl rfl)
theorem dX9_program_79 : decode cX9_program 79 = .ok (.aload_n 0, 1) := dk_42 (dk_at dksX9_program_3 8 rfl rfl)
theorem dX9_program_80 : decode cX9_program 80 = .ok (.getfield 69, 3) := dk_180 0 69 (dk_at dksX9_program_3 9 rfl rfl)
theorem dX9_program_83 : decode cX9_program 83 = .ok (.iload_n 2, 1) := dk_28 (dk_at dksX9_program_3 12 rfl rfl)
theorem dX9_program_84 : decode cX9_program 84 = .ok (.iaload, 1) := dk_46 (dk_at dksX9_program_3 13 rfl rfl)
theorem dX9_program_85 : decode cX9_program 85 = .ok (.bipush 100, 2) := dk_16 100 (dk_at dksX9_program_3 14 rfl rfl)
theorem dX9_program_87 : decode cX9_program 87 = .ok (.idiv, 1) := dk_108 (dk_at dksX9_program_3 16 rfl rfl)
theorem dX9_program_88 : decode cX9_program 88 = .ok (.iastore, 1) := dk_79 (dk_at dksX9_program_3 17 rfl rfl)
theorem dX9_program_89 : decode cX9_program 89 = .ok (.aload_n 0, 1) := dk_42 (dk_at dksX9_program_3 18 rfl rfl)
theorem dX9_program_90 : decode cX9_program 90 = .ok (.getfield 59, 3) := dk_180 0 59 (dk_at dksX9_program_3 19 rfl rfl)
theorem dX9_program_93 : decode cX9_program 93 = .ok (.iload_n 2, 1) := dk_28 (dk_at dksX9_program_3 22 rfl rfl)
theorem dX9_program_94 : decode cX9_program 94 = .ok (.aload_n 0, 1) := dk_42 (dk_at dksX9_program_3 23 rfl rfl)
theorem dX9_program_95 : decode cX9_program 95 = .ok (.getfield 69, 3) := dk_180 0 69 (dk_at dksX9_program_4 0 rfl rfl)
theorem dX9_program_98 : decode cX9_program 98 = .ok (.iload_n 2, 1) := dk_28 (dk_at dksX9_program_4 3 rfl rfl)
theorem dX9_program_99 : decode cX9_program 99 = .ok (.iaload, 1) := dk_46 (dk_at dksX9_program_4 4 rfl rfl)
theorem dX9_program_100 : decode cX9_program 100 = .ok (.bipush 100, 2) := dk_16 100 (dk_at dksX9_program_4 5 rfl rfl)
theorem dX9_program_102 : decode cX9_program 102 = .ok (.irem, 1) := dk_112 (dk_at dksX9_program_4 7 rfl rfl)
theorem dX9_program_103 : decode cX9_program 103 = .ok (.iastore, 1) := dk_79 (dk_at dksX9_program_4 8 rfl rfl)
theorem dX9_program_104 : decode cX9_program 104 = .ok (.iinc 2 1, 3) := dk_132 2 1 (dk_at dksX9_program_4 9 rfl rfl)
theorem dX9_program_107 : decode cX9_program 107 = .ok (.goto (-41), 3) := dk_167 255 215 (dk_at dksX9_program_4 12 rfl rfl)
theorem dX9_program_110 : decode cX9_program 110 = .ok (.aload_n 0, 1) := dk_42 (dk_at dksX9_program_4 15 rfl rfl)
theorem dX9_program_111 : decode cX9_program 111 = .ok (.getfield 191, 3) := dk_180 0 191 (dk_at dksX9_program_4 16 rfl rfl)
theorem dX9_program_114 : decode cX9_program 114 = .ok (.ireturn, 1) := dk_172 (dk_at dksX9_program_4 19 rfl rfl)
abbrev cX9_parses : ByteArray := prog_19_method_43_code
def yX9_parses : MethodName := ⟨RX9, "parses", "()Z"⟩
def dkwX9_parses_5 : List UInt8 := [4, 96, 181, 0, 216, 167, 255, 176]
abbrev dktX9_parses_5 : List UInt8 := dkwX9_parses_5 ++ []
def dkwX9_parses_4 : List UInt8 := [180, 0, 229, 154, 0, 5, 4, 172, 42, 182, 0, 219, 16, 59, 159, 0, 5, 3, 172, 42, 89, 180, 0, 216]
abbrev dktX9_parses_4 : List UInt8 := dkwX9_parses_4 ++ dktX9_parses_5
def dkwX9_parses_3 : List UInt8 := [180, 0, 216, 4, 96, 181, 0, 216, 42, 182, 0, 253, 167, 255, 226, 42, 182, 0, 219, 2, 160, 0, 12, 42]
abbrev dktX9_parses_3 : List UInt8 := dkwX9_parses_3 ++ dktX9_parses_4
def dkwX9_parses_2 : List UInt8 := [154, 0, 5, 3, 172, 42, 182, 0, 219, 16, 41, 160, 0, 27, 42, 180, 0, 229, 158, 0, 20, 42, 89]
abbrev dktX9_parses_2 : List UInt8 := dkwX9_parses_2 ++ dktX9_parses_3
def dkwX9_parses_1 : List UInt8 := [27, 16, 6, 162, 0, 16, 42, 180, 0, 84, 27, 3, 84, 132, 1, 1, 167, 255, 240, 42, 182, 0, 249]
abbrev dktX9_parses_1 : List UInt8 := dkwX9_parses_1 ++ dktX9_parses_2
def dkwX9_parses_0 : List UInt8 := [42, 3, 181, 0, 216, 42, 3, 181, 0, 229, 42, 180, 0, 72, 3, 3, 79, 42, 2, 181, 0, 246, 3, 60]
abbrev dktX9_parses_0 : List UInt8 := dkwX9_parses_0 ++ dktX9_parses_1
theorem dksX9_parses_0 : cX9_parses.data.toList.drop 0 = dktX9_parses_0 := by decide +kernel
theorem dksX9_parses_1 : cX9_parses.data.toList.drop 24 = dktX9_parses_1 := dk_seg dksX9_parses_0 24 rfl rfl
theorem dksX9_parses_2 : cX9_parses.data.toList.drop 47 = dktX9_parses_2 := dk_seg dksX9_parses_1 23 rfl rfl
theorem dksX9_parses_3 : cX9_parses.data.toList.drop 70 = dktX9_parses_3 := dk_seg dksX9_parses_2 23 rfl rfl
theorem dksX9_parses_4 : cX9_parses.data.toList.drop 94 = dktX9_parses_4 := dk_seg dksX9_parses_3 24 rfl rfl
theorem dksX9_parses_5 : cX9_parses.data.toList.drop 118 = dktX9_parses_5 := dk_seg dksX9_parses_4 24 rfl rfl
theorem dX9_parses_0 : decode cX9_parses 0 = .ok (.aload_n 0, 1) := dk_42 (dk_at dksX9_parses_0 0 rfl rfl)
theorem dX9_parses_1 : decode cX9_parses 1 = .ok (.iconst 0, 1) := dk_3 (dk_at dksX9_parses_0 1 rfl rfl)
theorem dX9_parses_2 : decode cX9_parses 2 = .ok (.putfield 216, 3) := dk_181 0 216 (dk_at dksX9_parses_0 2 rfl rfl)
theorem dX9_parses_5 : decode cX9_parses 5 = .ok (.aload_n 0, 1) := dk_42 (dk_at dksX9_parses_0 5 rfl rfl)
theorem dX9_parses_6 : decode cX9_parses 6 = .ok (.iconst 0, 1) := dk_3 (dk_at dksX9_parses_0 6 rfl rfl)
theorem dX9_parses_7 : decode cX9_parses 7 = .ok (.putfield 229, 3) := dk_181 0 229 (dk_at dksX9_parses_0 7 rfl rfl)
theorem dX9_parses_10 : decode cX9_parses 10 = .ok (.aload_n 0, 1) := dk_42 (dk_at dksX9_parses_0 10 rfl rfl)
theorem dX9_parses_11 : decode cX9_parses 11 = .ok (.getfield 72, 3) := dk_180 0 72 (dk_at dksX9_parses_0 11 rfl rfl)
theorem dX9_parses_14 : decode cX9_parses 14 = .ok (.iconst 0, 1) := dk_3 (dk_at dksX9_parses_0 14 rfl rfl)
theorem dX9_parses_15 : decode cX9_parses 15 = .ok (.iconst 0, 1) := dk_3 (dk_at dksX9_parses_0 15 rfl rfl)
theorem dX9_parses_16 : decode cX9_parses 16 = .ok (.iastore, 1) := dk_79 (dk_at dksX9_parses_0 16 rfl rfl)
theorem dX9_parses_17 : decode cX9_parses 17 = .ok (.aload_n 0, 1) := dk_42 (dk_at dksX9_parses_0 17 rfl rfl)
theorem dX9_parses_18 : decode cX9_parses 18 = .ok (.iconst (-1), 1) := dk_2 (dk_at dksX9_parses_0 18 rfl rfl)
theorem dX9_parses_19 : decode cX9_parses 19 = .ok (.putfield 246, 3) := dk_181 0 246 (dk_at dksX9_parses_0 19 rfl rfl)
theorem dX9_parses_22 : decode cX9_parses 22 = .ok (.iconst 0, 1) := dk_3 (dk_at dksX9_parses_0 22 rfl rfl)
theorem dX9_parses_23 : decode cX9_parses 23 = .ok (.istore_n 1, 1) := dk_60 (dk_at dksX9_parses_0 23 rfl rfl)
theorem dX9_parses_24 : decode cX9_parses 24 = .ok (.iload_n 1, 1) := dk_27 (dk_at dksX9_parses_1 0 rfl rfl)
theorem dX9_parses_25 : decode cX9_parses 25 = .ok (.bipush 6, 2) := dk_16 6 (dk_at dksX9_parses_1 1 rfl rfl)
theorem dX9_parses_27 : decode cX9_parses 27 = .ok (.if_icmp .ge 16, 3) := dk_162 0 16 (dk_at dksX9_parses_1 3 rfl rfl)
theorem dX9_parses_30 : decode cX9_parses 30 = .ok (.aload_n 0, 1) := dk_42 (dk_at dksX9_parses_1 6 rfl rfl)
theorem dX9_parses_31 : decode cX9_parses 31 = .ok (.getfield 84, 3) := dk_180 0 84 (dk_at dksX9_parses_1 7 rfl rfl)
theorem dX9_parses_34 : decode cX9_parses 34 = .ok (.iload_n 1, 1) := dk_27 (dk_at dksX9_parses_1 10 rfl rfl)
theorem dX9_parses_35 : decode cX9_parses 35 = .ok (.iconst 0, 1) := dk_3 (dk_at dksX9_parses_1 11 rfl rfl)
theorem dX9_parses_36 : decode cX9_parses 36 = .ok (.bastore, 1) := dk_84 (dk_at dksX9_parses_1 12 rfl rfl)
theorem dX9_parses_37 : decode cX9_parses 37 = .ok (.iinc 1 1, 3) := dk_132 1 1 (dk_at dksX9_parses_1 13 rfl rfl)
theorem dX9_parses_40 : decode cX9_parses 40 = .ok (.goto (-16), 3) := dk_167 255 240 (dk_at dksX9_parses_1 16 rfl rfl)
theorem dX9_parses_43 : decode cX9_parses 43 = .ok (.aload_n 0, 1) := dk_42 (dk_at dksX9_parses_1 19 rfl rfl)
theorem dX9_parses_44 : decode cX9_parses 44 = .ok (.invokevirtual 249, 3) := dk_182 0 249 (dk_at dksX9_parses_1 20 rfl rfl)
theorem dX9_parses_47 : decode cX9_parses 47 = .ok (.ifCond .ne 5, 3) := dk_154 0 5 (dk_at dksX9_parses_2 0 rfl rfl)
theorem dX9_parses_50 : decode cX9_parses 50 = .ok (.iconst 0, 1) := dk_3 (dk_at dksX9_parses_2 3 rfl rfl)
theorem dX9_parses_51 : decode cX9_parses 51 = .ok (.ireturn, 1) := dk_172 (dk_at dksX9_parses_2 4 rfl rfl)
theorem dX9_parses_52 : decode cX9_parses 52 = .ok (.aload_n 0, 1) := dk_42 (dk_at dksX9_parses_2 5 rfl rfl)
theorem dX9_parses_53 : decode cX9_parses 53 = .ok (.invokevirtual 219, 3) := dk_182 0 219 (dk_at dksX9_parses_2 6 rfl rfl)
theorem dX9_parses_56 : decode cX9_parses 56 = .ok (.bipush 41, 2) := dk_16 41 (dk_at dksX9_parses_2 9 rfl rfl)
theorem dX9_parses_58 : decode cX9_parses 58 = .ok (.if_icmp .ne 27, 3) := dk_160 0 27 (dk_at dksX9_parses_2 11 rfl rfl)
theorem dX9_parses_61 : decode cX9_parses 61 = .ok (.aload_n 0, 1) := dk_42 (dk_at dksX9_parses_2 14 rfl rfl)
theorem dX9_parses_62 : decode cX9_parses 62 = .ok (.getfield 229, 3) := dk_180 0 229 (dk_at dksX9_parses_2 15 rfl rfl)
theorem dX9_parses_65 : decode cX9_parses 65 = .ok (.ifCond .le 20, 3) := dk_158 0 20 (dk_at dksX9_parses_2 18 rfl rfl)
theorem dX9_parses_68 : decode cX9_parses 68 = .ok (.aload_n 0, 1) := dk_42 (dk_at dksX9_parses_2 21 rfl rfl)
theorem dX9_parses_69 : decode cX9_parses 69 = .ok (.dup, 1) := dk_89 (dk_at dksX9_parses_2 22 rfl rfl)
theorem dX9_parses_70 : decode cX9_parses 70 = .ok (.getfield 216, 3) := dk_180 0 216 (dk_at dksX9_parses_3 0 rfl rfl)
theorem dX9_parses_73 : decode cX9_parses 73 = .ok (.iconst 1, 1) := dk_4 (dk_at dksX9_parses_3 3 rfl rfl)
theorem dX9_parses_74 : decode cX9_parses 74 = .ok (.iadd, 1) := dk_96 (dk_at dksX9_parses_3 4 rfl rfl)
theorem dX9_parses_75 : decode cX9_parses 75 = .ok (.putfield 216, 3) := dk_181 0 216 (dk_at dksX9_parses_3 5 rfl rfl)
theorem dX9_parses_78 : decode cX9_parses 78 = .ok (.aload_n 0, 1) := dk_42 (dk_at dksX9_parses_3 8 rfl rfl)
theorem dX9_parses_79 : decode cX9_parses 79 = .ok (.invokevirtual 253, 3) := dk_182 0 253 (dk_at dksX9_parses_3 9 rfl rfl)
theorem dX9_parses_82 : decode cX9_parses 82 = .ok (.goto (-30), 3) := dk_167 255 226 (dk_at dksX9_parses_3 12 rfl rfl)
theorem dX9_parses_85 : decode cX9_parses 85 = .ok (.aload_n 0, 1) := dk_42 (dk_at dksX9_parses_3 15 rfl rfl)
theorem dX9_parses_86 : decode cX9_parses 86 = .ok (.invokevirtual 219, 3) := dk_182 0 219 (dk_at dksX9_parses_3 16 rfl rfl)
theorem dX9_parses_89 : decode cX9_parses 89 = .ok (.iconst (-1), 1) := dk_2 (dk_at dksX9_parses_3 19 rfl rfl)
theorem dX9_parses_90 : decode cX9_parses 90 = .ok (.if_icmp .ne 12, 3) := dk_160 0 12 (dk_at dksX9_parses_3 20 rfl rfl)
theorem dX9_parses_93 : decode cX9_parses 93 = .ok (.aload_n 0, 1) := dk_42 (dk_at dksX9_parses_3 23 rfl rfl)
theorem dX9_parses_94 : decode cX9_parses 94 = .ok (.getfield 229, 3) := dk_180 0 229 (dk_at dksX9_parses_4 0 rfl rfl)
theorem dX9_parses_97 : decode cX9_parses 97 = .ok (.ifCond .ne 5, 3) := dk_154 0 5 (dk_at dksX9_parses_4 3 rfl rfl)
theorem dX9_parses_100 : decode cX9_parses 100 = .ok (.iconst 1, 1) := dk_4 (dk_at dksX9_parses_4 6 rfl rfl)
theorem dX9_parses_101 : decode cX9_parses 101 = .ok (.ireturn, 1) := dk_172 (dk_at dksX9_parses_4 7 rfl rfl)
theorem dX9_parses_102 : decode cX9_parses 102 = .ok (.aload_n 0, 1) := dk_42 (dk_at dksX9_parses_4 8 rfl rfl)
theorem dX9_parses_103 : decode cX9_parses 103 = .ok (.invokevirtual 219, 3) := dk_182 0 219 (dk_at dksX9_parses_4 9 rfl rfl)
theorem dX9_parses_106 : decode cX9_parses 106 = .ok (.bipush 59, 2) := dk_16 59 (dk_at dksX9_parses_4 12 rfl rfl)
theorem dX9_parses_108 : decode cX9_parses 108 = .ok (.if_icmp .eq 5, 3) := dk_159 0 5 (dk_at dksX9_parses_4 14 rfl rfl)
theorem dX9_parses_111 : decode cX9_parses 111 = .ok (.iconst 0, 1) := dk_3 (dk_at dksX9_parses_4 17 rfl rfl)
theorem dX9_parses_112 : decode cX9_parses 112 = .ok (.ireturn, 1) := dk_172 (dk_at dksX9_parses_4 18 rfl rfl)
theorem dX9_parses_113 : decode cX9_parses 113 = .ok (.aload_n 0, 1) := dk_42 (dk_at dksX9_parses_4 19 rfl rfl)
theorem dX9_parses_114 : decode cX9_parses 114 = .ok (.dup, 1) := dk_89 (dk_at dksX9_parses_4 20 rfl rfl)
theorem dX9_parses_115 : decode cX9_parses 115 = .ok (.getfield 216, 3) := dk_180 0 216 (dk_at dksX9_parses_4 21 rfl rfl)
theorem dX9_parses_118 : decode cX9_parses 118 = .ok (.iconst 1, 1) := dk_4 (dk_at dksX9_parses_5 0 rfl rfl)
theorem dX9_parses_119 : decode cX9_parses 119 = .ok (.iadd, 1) := dk_96 (dk_at dksX9_parses_5 1 rfl rfl)
theorem dX9_parses_120 : decode cX9_parses 120 = .ok (.putfield 216, 3) := dk_181 0 216 (dk_at dksX9_parses_5 2 rfl rfl)
theorem dX9_parses_123 : decode cX9_parses 123 = .ok (.goto (-80), 3) := dk_167 255 176 (dk_at dksX9_parses_5 5 rfl rfl)
abbrev cX9_statement : ByteArray := prog_19_method_41_code
def yX9_statement : MethodName := ⟨RX9, "statement", "()Z"⟩
def dkwX9_statement_10 : List UInt8 := [167, 255, 22]
abbrev dktX9_statement_10 : List UInt8 := dkwX9_statement_10 ++ []
def dkwX9_statement_9 : List UInt8 := [182, 0, 237, 153, 0, 13, 16, 10, 27, 96, 16, 97, 100, 167, 0, 7, 27, 16, 48, 100, 182, 0, 243]
abbrev dktX9_statement_9 : List UInt8 := dkwX9_statement_9 ++ dktX9_statement_10
def dkwX9_statement_8 : List UInt8 := [42, 182, 0, 219, 16, 40, 159, 0, 5, 3, 172, 42, 89, 180, 0, 216, 4, 96, 181, 0, 216, 42, 42, 27]
abbrev dktX9_statement_8 : List UInt8 := dkwX9_statement_8 ++ dktX9_statement_9
def dkwX9_statement_7 : List UInt8 := [100, 182, 0, 240, 4, 172, 42, 27, 182, 0, 237, 153, 0, 13, 42, 89, 180, 0, 216, 4, 96, 181, 0, 216]
abbrev dktX9_statement_7 : List UInt8 := dkwX9_statement_7 ++ dktX9_statement_8
def dkwX9_statement_6 : List UInt8 := [181, 0, 216, 42, 27, 182, 0, 237, 153, 0, 22, 42, 182, 0, 219, 16, 61, 159, 0, 13, 42, 27, 16, 97]
abbrev dktX9_statement_6 : List UInt8 := dkwX9_statement_6 ++ dktX9_statement_7
def dkwX9_statement_5 : List UInt8 := [184, 0, 223, 154, 0, 13, 42, 27, 182, 0, 237, 154, 0, 5, 3, 172, 42, 89, 180, 0, 216, 4, 96]
abbrev dktX9_statement_5 : List UInt8 := dkwX9_statement_5 ++ dktX9_statement_6
def dkwX9_statement_4 : List UInt8 := [180, 0, 226, 167, 0, 13, 16, 96, 42, 180, 0, 226, 100, 16, 96, 112, 96, 182, 0, 232, 4, 172, 27]
abbrev dktX9_statement_4 : List UInt8 := dkwX9_statement_4 ++ dktX9_statement_5
def dkwX9_statement_3 : List UInt8 := [16, 100, 28, 104, 27, 16, 115, 160, 0, 8, 16, 24, 167, 0, 26, 27, 16, 116, 160, 0, 10, 42]
abbrev dktX9_statement_3 : List UInt8 := dkwX9_statement_3 ++ dktX9_statement_4
def dkwX9_statement_2 : List UInt8 := [42, 180, 0, 226, 61, 27, 16, 115, 159, 0, 14, 42, 16, 95, 182, 0, 235, 154, 0, 5, 3, 172, 42]
abbrev dktX9_statement_2 : List UInt8 := dkwX9_statement_2 ++ dktX9_statement_3
def dkwX9_statement_1 : List UInt8 := [89, 180, 0, 216, 4, 96, 181, 0, 216, 42, 42, 180, 0, 117, 5, 100, 182, 0, 235, 154, 0, 5, 3, 172]
abbrev dktX9_statement_1 : List UInt8 := dkwX9_statement_1 ++ dktX9_statement_2
def dkwX9_statement_0 : List UInt8 := [42, 182, 0, 219, 60, 27, 16, 116, 159, 0, 15, 27, 16, 117, 159, 0, 9, 27, 16, 115, 160, 0, 95, 42]
abbrev dktX9_statement_0 : List UInt8 := dkwX9_statement_0 ++ dktX9_statement_1
theorem dksX9_statement_0 : cX9_statement.data.toList.drop 0 = dktX9_statement_0 := by decide +kernel
theorem dksX9_statement_1 : cX9_statement.data.toList.drop 24 = dktX9_statement_1 := dk_seg dksX9_statement_0 24 rfl rfl
theorem dksX9_statement_2 : cX9_statement.data.toList.drop 48 = dktX9_statement_2 := dk_seg dksX9_statement_1 24 rfl rfl
theorem dksX9_statement_3 : cX9_statement.data.toList.drop 71 = dktX9_statement_3 := dk_seg dksX9_statement_2 23 rfl rfl
theorem dksX9_statement_4 : cX9_statement.data.toList.drop 93 = dktX9_statement_4 := dk_seg dksX9_statement_3 22 rfl rfl
theorem dksX9_statement_5 : cX9_statement.data.toList.drop 116 = dktX9_statement_5 := dk_seg dksX9_statement_4 23 rfl rfl
theorem dksX9_statement_6 : cX9_statement.data.toList.drop 139 = dktX9_statement_6 := dk_seg dksX9_statement_5 23 rfl rfl
theorem dksX9_statement_7 : cX9_statement.data.toList.drop 163 = dktX9_statement_7 := dk_seg dksX9_statement_6 24 rfl rfl
theorem dksX9_statement_8 : cX9_statement.data.toList.drop 187 = dktX9_statement_8 := dk_seg dksX9_statement_7 24 rfl rfl
theorem dksX9_statement_9 : cX9_statement.data.toList.drop 211 = dktX9_statement_9 := dk_seg dksX9_statement_8 24 rfl rfl
theorem dksX9_statement_10 : cX9_statement.data.toList.drop 234 = dktX9_statement_10 := dk_seg dksX9_statement_9 23 rfl rfl
theorem dX9_statement_0 : decode cX9_statement 0 = .ok (.aload_n 0, 1) := dk_42 (dk_at dksX9_statement_0 0 rfl rfl)
theorem dX9_statement_1 : decode cX9_statement 1 = .ok (.invokevirtual 219, 3) := dk_182 0 219 (dk_at dksX9_statement_0 1 rfl rfl)
theorem dX9_statement_4 : decode cX9_statement 4 = .ok (.istore_n 1, 1) := dk_60 (dk_at dksX9_statement_0 4 rfl rfl)
theorem dX9_statement_5 : decode cX9_statement 5 = .ok (.iload_n 1, 1) := dk_27 (dk_at dksX9_statement_0 5 rfl rfl)
theorem dX9_statement_6 : decode cX9_statement 6 = .ok (.bipush 116, 2) := dk_16 116 (dk_at dksX9_statement_0 6 rfl rfl)
theorem dX9_statement_8 : decode cX9_statement 8 = .ok (.if_icmp .eq 15, 3) := dk_159 0 15 (dk_at dksX9_statement_0 8 rfl rfl)
theorem dX9_statement_11 : decode cX9_statement 11 = .ok (.iload_n 1, 1) := dk_27 (dk_at dksX9_statement_0 11 rfl rfl)
theorem dX9_statement_12 : decode cX9_statement 12 = .ok (.bipush 117, 2) := dk_16 117 (dk_at dksX9_statement_0 12 rfl rfl)
theorem dX9_statement_14 : decode cX9_statement 14 = .ok (.if_icmp .eq 9, 3) := dk_159 0 9 (dk_at dksX9_statement_0 14 rfl rfl)
theorem dX9_statement_17 : decode cX9_statement 17 = .ok (.iload_n 1, 1) := dk_27 (dk_at dksX9_statement_0 17 rfl rfl)
theorem dX9_statement_18 : decode cX9_statement 18 = .ok (.bipush 115, 2) := dk_16 115 (dk_at dksX9_statement_0 18 rfl rfl)
theorem dX9_statement_20 : decode cX9_statement 20 = .ok (.if_icmp .ne 95, 3) := dk_160 0 95 (dk_at dksX9_statement_0 20 rfl rfl)
theorem dX9_statement_23 : decode cX9_statement 23 = .ok (.aload_n 0, 1) := dk_42 (dk_at dksX9_statement_0 23 rfl rfl)
theorem dX9_statement_24 : decode cX9_statement 24 = .ok (.dup, 1) := dk_89 (dk_at dksX9_statement_1 0 rfl rfl)
theorem dX9_statement_25 : decode cX9_statement 25 = .ok (.getfield 216, 3) := dk_180 0 216 (dk_at dksX9_statement_1 1 rfl rfl)
theorem dX9_statement_28 : decode cX9_statement 28 = .ok (.iconst 1, 1) := dk_4 (dk_at dksX9_statement_1 4 rfl rfl)
theorem dX9_statement_29 : decode cX9_statement 29 = .ok (.iadd, 1) := dk_96 (dk_at dksX9_statement_1 5 rfl rfl)
theorem dX9_statement_30 : decode cX9_statement 30 = .ok (.putfield 216, 3) := dk_181 0 216 (dk_at dksX9_statement_1 6 rfl rfl)
theorem dX9_statement_33 : decode cX9_statement 33 = .ok (.aload_n 0, 1) := dk_42 (dk_at dksX9_statement_1 9 rfl rfl)
theorem dX9_statement_34 : decode cX9_statement 34 = .ok (.aload_n 0, 1) := dk_42 (dk_at dksX9_statement_1 10 rfl rfl)
theorem dX9_statement_35 : decode cX9_statement 35 = .ok (.getfield 117, 3) := dk_180 0 117 (dk_at dksX9_statement_1 11 rfl rfl)
theorem dX9_statement_38 : decode cX9_statement 38 = .ok (.iconst 2, 1) := dk_5 (dk_at dksX9_statement_1 14 rfl rfl)
theorem dX9_statement_39 : decode cX9_statement 39 = .ok (.isub, 1) := dk_100 (dk_at dksX9_statement_1 15 rfl rfl)
theorem dX9_statement_40 : decode cX9_statement 40 = .ok (.invokevirtual 235, 3) := dk_182 0 235 (dk_at dksX9_statement_1 16 rfl rfl)
theorem dX9_statement_43 : decode cX9_statement 43 = .ok (.ifCond .ne 5, 3) := dk_154 0 5 (dk_at dksX9_statement_1 19 rfl rfl)
theorem dX9_statement_46 : decode cX9_statement 46 = .ok (.iconst 0, 1) := dk_3 (dk_at dksX9_statement_1 22 rfl rfl)
theorem dX9_statement_47 : decode cX9_statement 47 = .ok (.ireturn, 1) := dk_172 (dk_at dksX9_statement_1 23 rfl rfl)
theorem dX9_statement_48 : decode cX9_statement 48 = .ok (.aload_n 0, 1) := dk_42 (dk_at dksX9_statement_2 0 rfl rfl)
theorem dX9_statement_49 : decode cX9_statement 49 = .ok (.getfield 226, 3) := dk_180 0 226 (dk_at dksX9_statement_2 1 rfl rfl)
theorem dX9_statement_52 : decode cX9_statement 52 = .ok (.istore_n 2, 1) := dk_61 (dk_at dksX9_statement_2 4 rfl rfl)
theorem dX9_statement_53 : decode cX9_statement 53 = .ok (.iload_n 1, 1) := dk_27 (dk_at dksX9_statement_2 5 rfl rfl)
theorem dX9_statement_54 : decode cX9_statement 54 = .ok (.bipush 115, 2) := dk_16 115 (dk_at dksX9_statement_2 6 rfl rfl)
theorem dX9_statement_56 : decode cX9_statement 56 = .ok (.if_icmp .eq 14, 3) := dk_159 0 14 (dk_at dksX9_statement_2 8 rfl rfl)
theorem dX9_statement_59 : decode cX9_statement 59 = .ok (.aload_n 0, 1) := dk_42 (dk_at dksX9_statement_2 11 rfl rfl)
theorem dX9_statement_60 : decode cX9_statement 60 = .ok (.bipush 95, 2) := dk_16 95 (dk_at dksX9_statement_2 12 rfl rfl)
theorem dX9_statement_62 : decode cX9_statement 62 = .ok (.invokevirtual 235, 3) := dk_182 0 235 (dk_at dksX9_statement_2 14 rfl rfl)
theorem dX9_statement_65 : decode cX9_statement 65 = .ok (.ifCond .ne 5, 3) := dk_154 0 5 (dk_at dksX9_statement_2 17 rfl rfl)
theorem dX9_statement_68 : decode cX9_statement 68 = .ok (.iconst 0, 1) := dk_3 (dk_at dksX9_statement_2 20 rfl rfl)
theorem dX9_statement_69 : decode cX9_statement 69 = .ok (.ireturn, 1) := dk_172 (dk_at dksX9_statement_2 21 rfl rfl)
theorem dX9_statement_70 : decode cX9_statement 70 = .ok (.aload_n 0, 1) := dk_42 (dk_at dksX9_statement_2 22 rfl rfl)
theorem dX9_statement_71 : decode cX9_statement 71 = .ok (.bipush 100, 2) := dk_16 100 (dk_at dksX9_statement_3 0 rfl rfl)
theorem dX9_statement_73 : decode cX9_statement 73 = .ok (.iload_n 2, 1) := dk_28 (dk_at dksX9_statement_3 2 rfl rfl)
theorem dX9_statement_74 : decode cX9_statement 74 = .ok (.imul, 1) := dk_104 (dk_at dksX9_statement_3 3 rfl rfl)
theorem dX9_statement_75 : decode cX9_statement 75 = .ok (.iload_n 1, 1) := dk_27 (dk_at dksX9_statement_3 4 rfl rfl)
theorem dX9_statement_76 : decode cX9_statement 76 = .ok (.bipush 115, 2) := dk_16 115 (dk_at dksX9_statement_3 5 rfl rfl)
theorem dX9_statement_78 : decode cX9_statement 78 = .ok (.if_icmp .ne 8, 3) := dk_160 0 8 (dk_at dksX9_statement_3 7 rfl rfl)
theorem dX9_statement_81 : decode cX9_statement 81 = .ok (.bipush 24, 2) := dk_16 24 (dk_at dksX9_statement_3 10 rfl rfl)
theorem dX9_statement_83 : decode cX9_statement 83 = .ok (.goto 26, 3) := dk_167 0 26 (dk_at dksX9_statement_3 12 rfl rfl)
theorem dX9_statement_86 : decode cX9_statement 86 = .ok (.iload_n 1, 1) := dk_27 (dk_at dksX9_statement_3 15 rfl rfl)
theorem dX9_statement_87 : decode cX9_statement 87 = .ok (.bipush 116, 2) := dk_16 116 (dk_at dksX9_statement_3 16 rfl rfl)
theorem dX9_statement_89 : decode cX9_statement 89 = .ok (.if_icmp .ne 10, 3) := dk_160 0 10 (dk_at dksX9_statement_3 18 rfl rfl)
theorem dX9_statement_92 : decode cX9_statement 92 = .ok (.aload_n 0, 1) := dk_42 (dk_at dksX9_statement_3 21 rfl rfl)
theorem dX9_statement_93 : decode cX9_statement 93 = .ok (.getfield 226, 3) := dk_180 0 226 (dk_at dksX9_statement_4 0 rfl rfl)
theorem dX9_statement_96 : decode cX9_statement 96 = .ok (.goto 13, 3) := dk_167 0 13 (dk_at dksX9_statement_4 3 rfl rfl)
theorem dX9_statement_99 : decode cX9_statement 99 = .ok (.bipush 96, 2) := dk_16 96 (dk_at dksX9_statement_4 6 rfl rfl)
theorem dX9_statement_101 : decode cX9_statement 101 = .ok (.aload_n 0, 1) := dk_42 (dk_at dksX9_statement_4 8 rfl rfl)
theorem dX9_statement_102 : decode cX9_statement 102 = .ok (.getfield 226, 3) := dk_180 0 226 (dk_at dksX9_statement_4 9 rfl rfl)
theorem dX9_statement_105 : decode cX9_statement 105 = .ok (.isub, 1) := dk_100 (dk_at dksX9_statement_4 12 rfl rfl)
theorem dX9_statement_106 : decode cX9_statement 106 = .ok (.bipush 96, 2) := dk_16 96 (dk_at dksX9_statement_4 13 rfl rfl)
theorem dX9_statement_108 : decode cX9_statement 108 = .ok (.irem, 1) := dk_112 (dk_at dksX9_statement_4 15 rfl rfl)
theorem dX9_statement_109 : decode cX9_statement 109 = .ok (.iadd, 1) := dk_96 (dk_at dksX9_statement_4 16 rfl rfl)
theorem dX9_statement_110 : decode cX9_statement 110 = .ok (.invokevirtual 232, 3) := dk_182 0 232 (dk_at dksX9_statement_4 17 rfl rfl)
theorem dX9_statement_113 : decode cX9_statement 113 = .ok (.iconst 1, 1) := dk_4 (dk_at dksX9_statement_4 20 rfl rfl)
theorem dX9_statement_114 : decode cX9_statement 114 = .ok (.ireturn, 1) := dk_172 (dk_at dksX9_statement_4 21 rfl rfl)
theorem dX9_statement_115 : decode cX9_statement 115 = .ok (.iload_n 1, 1) := dk_27 (dk_at dksX9_statement_4 22 rfl rfl)
theorem dX9_statement_116 : decode cX9_statement 116 = .ok (.invokestatic 223, 3) := dk_184 0 223 (dk_at dksX9_statement_5 0 rfl rfl)
theorem dX9_statement_119 : decode cX9_statement 119 = .ok (.ifCond .ne 13, 3) := dk_154 0 13 (dk_at dksX9_statement_5 3 rfl rfl)
theorem dX9_statement_122 : decode cX9_statement 122 = .ok (.aload_n 0, 1) := dk_42 (dk_at dksX9_statement_5 6 rfl rfl)
theorem dX9_statement_123 : decode cX9_statement 123 = .ok (.iload_n 1, 1) := dk_27 (dk_at dksX9_statement_5 7 rfl rfl)
theorem dX9_statement_124 : decode cX9_statement 124 = .ok (.invokevirtual 237, 3) := dk_182 0 237 (dk_at dksX9_statement_5 8 rfl rfl)
theorem dX9_statement_127 : decode cX9_statement 127 = .ok (.ifCond .ne 5, 3) := dk_154 0 5 (dk_at dksX9_statement_5 11 rfl rfl)
theorem dX9_statement_130 : decode cX9_statement 130 = .ok (.iconst 0, 1) := dk_3 (dk_at dksX9_statement_5 14 rfl rfl)
theorem dX9_statement_131 : decode cX9_statement 131 = .ok (.ireturn, 1) := dk_172 (dk_at dksX9_statement_5 15 rfl rfl)
theorem dX9_statement_132 : decode cX9_statement 132 = .ok (.aload_n 0, 1) := dk_42 (dk_at dksX9_statement_5 16 rfl rfl)
theorem dX9_statement_133 : decode cX9_statement 133 = .ok (.dup, 1) := dk_89 (dk_at dksX9_statement_5 17 rfl rfl)
theorem dX9_statement_134 : decode cX9_statement 134 = .ok (.getfield 216, 3) := dk_180 0 216 (dk_at dksX9_statement_5 18 rfl rfl)
theorem dX9_statement_137 : decode cX9_statement 137 = .ok (.iconst 1, 1) := dk_4 (dk_at dksX9_statement_5 21 rfl rfl)
theorem dX9_statement_138 : decode cX9_statement 138 = .ok (.iadd, 1) := dk_96 (dk_at dksX9_statement_5 22 rfl rfl)
theorem dX9_statement_139 : decode cX9_statement 139 = .ok (.putfield 216, 3) := dk_181 0 216 (dk_at dksX9_statement_6 0 rfl rfl)
theorem dX9_statement_142 : decode cX9_statement 142 = .ok (.aload_n 0, 1) := dk_42 (dk_at dksX9_statement_6 3 rfl rfl)
theorem dX9_statement_143 : decode cX9_statement 143 = .ok (.iload_n 1, 1) := dk_27 (dk_at dksX9_statement_6 4 rfl rfl)
theorem dX9_statement_144 : decode cX9_statement 144 = .ok (.invokevirtual 237, 3) := dk_182 0 237 (dk_at dksX9_statement_6 5 rfl rfl)
theorem dX9_statement_147 : decode cX9_statement 147 = .ok (.ifCond .eq 22, 3) := dk_153 0 22 (dk_at dksX9_statement_6 8 rfl rfl)
theorem dX9_statement_150 : decode cX9_statement 150 = .ok (.aload_n 0, 1) := dk_42 (dk_at dksX9_statement_6 11 rfl rfl)
theorem dX9_statement_151 : decode cX9_statement 151 = .ok (.invokevirtual 219, 3) := dk_182 0 219 (dk_at dksX9_statement_6 12 rfl rfl)
theorem dX9_statement_154 : decode cX9_statement 154 = .ok (.bipush 61, 2) := dk_16 61 (dk_at dksX9_statement_6 15 rfl rfl)
theorem dX9_statement_156 : decode cX9_statement 156 = .ok (.if_icmp .eq 13, 3) := dk_159 0 13 (dk_at dksX9_statement_6 17 rfl rfl)
theorem dX9_statement_159 : decode cX9_statement 159 = .ok (.aload_n 0, 1) := dk_42 (dk_at dksX9_statement_6 20 rfl rfl)
theorem dX9_statement_160 : decode cX9_statement 160 = .ok (.iload_n 1, 1) := dk_27 (dk_at dksX9_statement_6 21 rfl rfl)
theorem dX9_statement_161 : decode cX9_statement 161 = .ok (.bipush 97, 2) := dk_16 97 (dk_at dksX9_statement_6 22 rfl rfl)
theorem dX9_statement_163 : decode cX9_statement 163 = .ok (.isub, 1) := dk_100 (dk_at dksX9_statement_7 0 rfl rfl)
theorem dX9_statement_164 : decode cX9_statement 164 = .ok (.invokevirtual 240, 3) := dk_182 0 240 (dk_at dksX9_statement_7 1 rfl rfl)
theorem dX9_statement_167 : decode cX9_statement 167 = .ok (.iconst 1, 1) := dk_4 (dk_at dksX9_statement_7 4 rfl rfl)
theorem dX9_statement_168 : decode cX9_statement 168 = .ok (.ireturn, 1) := dk_172 (dk_at dksX9_statement_7 5 rfl rfl)
theorem dX9_statement_169 : decode cX9_statement 169 = .ok (.aload_n 0, 1) := dk_42 (dk_at dksX9_statement_7 6 rfl rfl)
theorem dX9_statement_170 : decode cX9_statement 170 = .ok (.iload_n 1, 1) := dk_27 (dk_at dksX9_statement_7 7 rfl rfl)
theorem dX9_statement_171 : decode cX9_statement 171 = .ok (.invokevirtual 237, 3) := dk_182 0 237 (dk_at dksX9_statement_7 8 rfl rfl)
theorem dX9_statement_174 : decode cX9_statement 174 = .ok (.ifCond .eq 13, 3) := dk_153 0 13 (dk_at dksX9_statement_7 11 rfl rfl)
theorem dX9_statement_177 : decode cX9_statement 177 = .ok (.aload_n 0, 1) := dk_42 (dk_at dksX9_statement_7 14 rfl rfl)
theorem dX9_statement_178 : decode cX9_statement 178 = .ok (.dup, 1) := dk_89 (dk_at dksX9_statement_7 15 rfl rfl)
theorem dX9_statement_179 : decode cX9_statement 179 = .ok (.getfield 216, 3) := dk_180 0 216 (dk_at dksX9_statement_7 16 rfl rfl)
theorem dX9_statement_182 : decode cX9_statement 182 = .ok (.iconst 1, 1) := dk_4 (dk_at dksX9_statement_7 19 rfl rfl)
theorem dX9_statement_183 : decode cX9_statement 183 = .ok (.iadd, 1) := dk_96 (dk_at dksX9_statement_7 20 rfl rfl)
theorem dX9_statement_184 : decode cX9_statement 184 = .ok (.putfield 216, 3) := dk_181 0 216 (dk_at dksX9_statement_7 21 rfl rfl)
theorem dX9_statement_187 : decode cX9_statement 187 = .ok (.aload_n 0, 1) := dk_42 (dk_at dksX9_statement_8 0 rfl rfl)
theorem dX9_statement_188 : decode cX9_statement 188 = .ok (.invokevirtual 219, 3) := dk_182 0 219 (dk_at dksX9_statement_8 1 rfl rfl)
theorem dX9_statement_191 : decode cX9_statement 191 = .ok (.bipush 40, 2) := dk_16 40 (dk_at dksX9_statement_8 4 rfl rfl)
theorem dX9_statement_193 : decode cX9_statement 193 = .ok (.if_icmp .eq 5, 3) := dk_159 0 5 (dk_at dksX9_statement_8 6 rfl rfl)
theorem dX9_statement_196 : decode cX9_statement 196 = .ok (.iconst 0, 1) := dk_3 (dk_at dksX9_statement_8 9 rfl rfl)
theorem dX9_statement_197 : decode cX9_statement 197 = .ok (.ireturn, 1) := dk_172 (dk_at dksX9_statement_8 10 rfl rfl)
theorem dX9_statement_198 : decode cX9_statement 198 = .ok (.aload_n 0, 1) := dk_42 (dk_at dksX9_statement_8 11 rfl rfl)
theorem dX9_statement_199 : decode cX9_statement 199 = .ok (.dup, 1) := dk_89 (dk_at dksX9_statement_8 12 rfl rfl)
theorem dX9_statement_200 : decode cX9_statement 200 = .ok (.getfield 216, 3) := dk_180 0 216 (dk_at dksX9_statement_8 13 rfl rfl)
theorem dX9_statement_203 : decode cX9_statement 203 = .ok (.iconst 1, 1) := dk_4 (dk_at dksX9_statement_8 16 rfl rfl)
theorem dX9_statement_204 : decode cX9_statement 204 = .ok (.iadd, 1) := dk_96 (dk_at dksX9_statement_8 17 rfl rfl)
theorem dX9_statement_205 : decode cX9_statement 205 = .ok (.putfield 216, 3) := dk_181 0 216 (dk_at dksX9_statement_8 18 rfl rfl)
theorem dX9_statement_208 : decode cX9_statement 208 = .ok (.aload_n 0, 1) := dk_42 (dk_at dksX9_statement_8 21 rfl rfl)
theorem dX9_statement_209 : decode cX9_statement 209 = .ok (.aload_n 0, 1) := dk_42 (dk_at dksX9_statement_8 22 rfl rfl)
theorem dX9_statement_210 : decode cX9_statement 210 = .ok (.iload_n 1, 1) := dk_27 (dk_at dksX9_statement_8 23 rfl rfl)
theorem dX9_statement_211 : decode cX9_statement 211 = .ok (.invokevirtual 237, 3) := dk_182 0 237 (dk_at dksX9_statement_9 0 rfl rfl)
theorem dX9_statement_214 : decode cX9_statement 214 = .ok (.ifCond .eq 13, 3) := dk_153 0 13 (dk_at dksX9_statement_9 3 rfl rfl)
theorem dX9_statement_217 : decode cX9_statement 217 = .ok (.bipush 10, 2) := dk_16 10 (dk_at dksX9_statement_9 6 rfl rfl)
theorem dX9_statement_219 : decode cX9_statement 219 = .ok (.iload_n 1, 1) := dk_27 (dk_at dksX9_statement_9 8 rfl rfl)
theorem dX9_statement_220 : decode cX9_statement 220 = .ok (.iadd, 1) := dk_96 (dk_at dksX9_statement_9 9 rfl rfl)
theorem dX9_statement_221 : decode cX9_statement 221 = .ok (.bipush 97, 2) := dk_16 97 (dk_at dksX9_statement_9 10 rfl rfl)
theorem dX9_statement_223 : decode cX9_statement 223 = .ok (.isub, 1) := dk_100 (dk_at dksX9_statement_9 12 rfl rfl)
theorem dX9_statement_224 : decode cX9_statement 224 = .ok (.goto 7, 3) := dk_167 0 7 (dk_at dksX9_statement_9 13 rfl rfl)
theorem dX9_statement_227 : decode cX9_statement 227 = .ok (.iload_n 1, 1) := dk_27 (dk_at dksX9_statement_9 16 rfl rfl)
theorem dX9_statement_228 : decode cX9_statement 228 = .ok (.bipush 48, 2) := dk_16 48 (dk_at dksX9_statement_9 17 rfl rfl)
theorem dX9_statement_230 : decode cX9_statement 230 = .ok (.isub, 1) := dk_100 (dk_at dksX9_statement_9 19 rfl rfl)
theorem dX9_statement_231 : decode cX9_statement 231 = .ok (.invokevirtual 243, 3) := dk_182 0 243 (dk_at dksX9_statement_9 20 rfl rfl)
theorem dX9_statement_234 : decode cX9_statement 234 = .ok (.goto (-234), 3) := dk_167 255 22 (dk_at dksX9_statement_10 0 rfl rfl)
abbrev cX9_signAt : ByteArray := prog_19_method_34_code
def yX9_signAt : MethodName := ⟨RX9, "signAt", "()I"⟩
def dkwX9_signAt_1 : List UInt8 := [172]
abbrev dktX9_signAt_1 : List UInt8 := dkwX9_signAt_1 ++ []
def dkwX9_signAt_0 : List UInt8 := [42, 180, 0, 216, 42, 180, 0, 211, 162, 0, 15, 42, 180, 0, 66, 42, 180, 0, 216, 46, 167, 0, 4, 2]
abbrev dktX9_signAt_0 : List UInt8 := dkwX9_signAt_0 ++ dktX9_signAt_1
theorem dksX9_signAt_0 : cX9_signAt.data.toList.drop 0 = dktX9_signAt_0 := by decide +kernel
theorem dksX9_signAt_1 : cX9_signAt.data.toList.drop 24 = dktX9_signAt_1 := dk_seg dksX9_signAt_0 24 rfl rfl
theorem dX9_signAt_0 : decode cX9_signAt 0 = .ok (.aload_n 0, 1) := dk_42 (dk_at dksX9_signAt_0 0 rfl rfl)
theorem dX9_signAt_1 : decode cX9_signAt 1 = .ok (.getfield 216, 3) := dk_180 0 216 (dk_at dksX9_signAt_0 1 rfl rfl)
theorem dX9_signAt_4 : decode cX9_signAt 4 = .ok (.aload_n 0, 1) := dk_42 (dk_at dksX9_signAt_0 4 rfl rfl)
theorem dX9_signAt_5 : decode cX9_signAt 5 = .ok (.getfield 211, 3) := dk_180 0 211 (dk_at dksX9_signAt_0 5 rfl rfl)
theorem dX9_signAt_8 : decode cX9_signAt 8 = .ok (.if_icmp .ge 15, 3) := dk_162 0 15 (dk_at dksX9_signAt_0 8 rfl rfl)
theorem dX9_signAt_11 : decode cX9_signAt 11 = .ok (.aload_n 0, 1) := dk_42 (dk_at dksX9_signAt_0 11 rfl rfl)
theorem dX9_signAt_12 : decode cX9_signAt 12 = .ok (.getfield 66, 3) := dk_180 0 66 (dk_at dksX9_signAt_0 12 rfl rfl)
theorem dX9_signAt_15 : decode cX9_signAt 15 = .ok (.aload_n 0, 1) := dk_42 (dk_at dksX9_signAt_0 15 rfl rfl)
theorem dX9_signAt_16 : decode cX9_signAt 16 = .ok (.getfield 216, 3) := dk_180 0 216 (dk_at dksX9_signAt_0 16 rfl rfl)
theorem dX9_signAt_19 : decode cX9_signAt 19 = .ok (.iaload, 1) := dk_46 (dk_at dksX9_signAt_0 19 rfl rfl)
theorem dX9_signAt_20 : decode cX9_signAt 20 = .ok (.goto 4, 3) := dk_167 0 4 (dk_at dksX9_signAt_0 20 rfl rfl)
theorem dX9_signAt_23 : decode cX9_signAt 23 = .ok (.iconst (-1), 1) := dk_2 (dk_at dksX9_signAt_0 23 rfl rfl)
theorem dX9_signAt_24 : decode cX9_signAt 24 = .ok (.ireturn, 1) := dk_172 (dk_at dksX9_signAt_1 0 rfl rfl)
abbrev cX9_number : ByteArray := prog_19_method_36_code
def yX9_number : MethodName := ⟨RX9, "number", "(I)Z"⟩
def dkwX9_number_5 : List UInt8 := [182, 0, 219, 96, 16, 48, 100, 181, 0, 226, 42, 89, 180, 0, 216, 4, 96, 181, 0, 216, 4, 172]
abbrev dktX9_number_5 : List UInt8 := dkwX9_number_5 ++ []
def dkwX9_number_4 : List UInt8 := [182, 0, 219, 96, 16, 48, 100, 27, 164, 0, 5, 3, 172, 42, 16, 10, 42, 180, 0, 226, 104, 42]
abbrev dktX9_number_4 : List UInt8 := dkwX9_number_4 ++ dktX9_number_5
def dkwX9_number_3 : List UInt8 := [184, 0, 223, 153, 0, 10, 42, 180, 0, 226, 154, 0, 5, 4, 172, 16, 10, 42, 180, 0, 226, 104, 42]
abbrev dktX9_number_3 : List UInt8 := dkwX9_number_3 ++ dktX9_number_4
def dkwX9_number_2 : List UInt8 := [182, 0, 219, 16, 48, 100, 181, 0, 226, 42, 89, 180, 0, 216, 4, 96, 181, 0, 216, 42, 182, 0, 219]
abbrev dktX9_number_2 : List UInt8 := dkwX9_number_2 ++ dktX9_number_3
def dkwX9_number_1 : List UInt8 := [182, 0, 219, 184, 0, 223, 153, 0, 14, 42, 182, 0, 219, 16, 48, 100, 27, 164, 0, 5, 3, 172, 42, 42]
abbrev dktX9_number_1 : List UInt8 := dkwX9_number_1 ++ dktX9_number_2
def dkwX9_number_0 : List UInt8 := [42, 182, 0, 219, 16, 32, 159, 0, 5, 3, 172, 42, 89, 180, 0, 216, 4, 96, 181, 0, 216, 42]
abbrev dktX9_number_0 : List UInt8 := dkwX9_number_0 ++ dktX9_number_1
theorem dksX9_number_0 : cX9_number.data.toList.drop 0 = dktX9_number_0 := by decide +kernel
theorem dksX9_number_1 : cX9_number.data.toList.drop 22 = dktX9_number_1 := dk_seg dksX9_number_0 22 rfl rfl
theorem dksX9_number_2 : cX9_number.data.toList.drop 46 = dktX9_number_2 := dk_seg dksX9_number_1 24 rfl rfl
theorem dksX9_number_3 : cX9_number.data.toList.drop 69 = dktX9_number_3 := dk_seg dksX9_number_2 23 rfl rfl
theorem dksX9_number_4 : cX9_number.data.toList.drop 92 = dktX9_number_4 := dk_seg dksX9_number_3 23 rfl rfl
theorem dksX9_number_5 : cX9_number.data.toList.drop 114 = dktX9_number_5 := dk_seg dksX9_number_4 22 rfl rfl
theorem dX9_number_0 : decode cX9_number 0 = .ok (.aload_n 0, 1) := dk_42 (dk_at dksX9_number_0 0 rfl rfl)
theorem dX9_number_1 : decode cX9_number 1 = .ok (.invokevirtual 219, 3) := dk_182 0 219 (dk_at dksX9_number_0 1 rfl rfl)
theorem dX9_number_4 : decode cX9_number 4 = .ok (.bipush 32, 2) := dk_16 32 (dk_at dksX9_number_0 4 rfl rfl)
theorem dX9_number_6 : decode cX9_number 6 = .ok (.if_icmp .eq 5, 3) := dk_159 0 5 (dk_at dksX9_number_0 6 rfl rfl)
theorem dX9_number_9 : decode cX9_number 9 = .ok (.iconst 0, 1) := dk_3 (dk_at dksX9_number_0 9 rfl rfl)
theorem dX9_number_10 : decode cX9_number 10 = .ok (.ireturn, 1) := dk_172 (dk_at dksX9_number_0 10 rfl rfl)
theorem dX9_number_11 : decode cX9_number 11 = .ok (.aload_n 0, 1) := dk_42 (dk_at dksX9_number_0 11 rfl rfl)
theorem dX9_number_12 : decode cX9_number 12 = .ok (.dup, 1) := dk_89 (dk_at dksX9_number_0 12 rfl rfl)
theorem dX9_number_13 : decode cX9_number 13 = .ok (.getfield 216, 3) := dk_180 0 216 (dk_at dksX9_number_0 13 rfl rfl)
theorem dX9_number_16 : decode cX9_number 16 = .ok (.iconst 1, 1) := dk_4 (dk_at dksX9_number_0 16 rfl rfl)
theorem dX9_number_17 : decode cX9_number 17 = .ok (.iadd, 1) := dk_96 (dk_at dksX9_number_0 17 rfl rfl)
theorem dX9_number_18 : decode cX9_number 18 = .ok (.putfield 216, 3) := dk_181 0 216 (dk_at dksX9_number_0 18 rfl rfl)
theorem dX9_number_21 : decode cX9_number 21 = .ok (.aload_n 0, 1) := dk_42 (dk_at dksX9_number_0 21 rfl rfl)
theorem dX9_number_22 : decode cX9_number 22 = .ok (.invokevirtual 219, 3) := dk_182 0 219 (dk_at dksX9_number_1 0 rfl rfl)
theorem dX9_number_25 : decode cX9_number 25 = .ok (.invokestatic 223, 3) := dk_184 0 223 (dk_at dksX9_number_1 3 rfl rfl)
theorem dX9_number_28 : decode cX9_number 28 = .ok (.ifCond .eq 14, 3) := dk_153 0 14 (dk_at dksX9_number_1 6 rfl rfl)
theorem dX9_number_31 : decode cX9_number 31 = .ok (.aload_n 0, 1) := dk_42 (dk_at dksX9_number_1 9 rfl rfl)
theorem dX9_number_32 : decode cX9_number 32 = .ok (.invokevirtual 219, 3) := dk_182 0 219 (dk_at dksX9_number_1 10 rfl rfl)
theorem dX9_number_35 : decode cX9_number 35 = .ok (.bipush 48, 2) := dk_16 48 (dk_at dksX9_number_1 13 rfl rfl)
theorem dX9_number_37 : decode cX9_number 37 = .ok (.isub, 1) := dk_100 (dk_at dksX9_number_1 15 rfl rfl)
theorem dX9_number_38 : decode cX9_number 38 = .ok (.iload_n 1, 1) := dk_27 (dk_at dksX9_number_1 16 rfl rfl)
theorem dX9_number_39 : decode cX9_number 39 = .ok (.if_icmp .le 5, 3) := dk_164 0 5 (dk_at dksX9_number_1 17 rfl rfl)
theorem dX9_number_42 : decode cX9_number 42 = .ok (.iconst 0, 1) := dk_3 (dk_at dksX9_number_1 20 rfl rfl)
theorem dX9_number_43 : decode cX9_number 43 = .ok (.ireturn, 1) := dk_172 (dk_at dksX9_number_1 21 rfl rfl)
theorem dX9_number_44 : decode cX9_number 44 = .ok (.aload_n 0, 1) := dk_42 (dk_at dksX9_number_1 22 rfl rfl)
theorem dX9_number_45 : decode cX9_number 45 = .ok (.aload_n 0, 1) := dk_42 (dk_at dksX9_number_1 23 rfl rfl)
theorem dX9_number_46 : decode cX9_number 46 = .ok (.invokevirtual 219, 3) := dk_182 0 219 (dk_at dksX9_number_2 0 rfl rfl)
theorem dX9_number_49 : decode cX9_number 49 = .ok (.bipush 48, 2) := dk_16 48 (dk_at dksX9_number_2 3 rfl rfl)
theorem dX9_number_51 : decode cX9_number 51 = .ok (.isub, 1) := dk_100 (dk_at dksX9_number_2 5 rfl rfl)
theorem dX9_number_52 : decode cX9_number 52 = .ok (.putfield 226, 3) := dk_181 0 226 (dk_at dksX9_number_2 6 rfl rfl)
theorem dX9_number_55 : decode cX9_number 55 = .ok (.aload_n 0, 1) := dk_42 (dk_at dksX9_number_2 9 rfl rfl)
theorem dX9_number_56 : decode cX9_number 56 = .ok (.dup, 1) := dk_89 (dk_at dksX9_number_2 10 rfl rfl)
theorem dX9_number_57 : decode cX9_number 57 = .ok (.getfield 216, 3) := dk_180 0 216 (dk_at dksX9_number_2 11 rfl rfl)
theorem dX9_number_60 : decode cX9_number 60 = .ok (.iconst 1, 1) := dk_4 (dk_at dksX9_number_2 14 rfl rfl)
theorem dX9_number_61 : decode cX9_number 61 = .ok (.iadd, 1) := dk_96 (dk_at dksX9_number_2 15 rfl rfl)
theorem dX9_number_62 : decode cX9_number 62 = .ok (.putfield 216, 3) := dk_181 0 216 (dk_at dksX9_number_2 16 rfl rfl)
theorem dX9_number_65 : decode cX9_number 65 = .ok (.aload_n 0, 1) := dk_42 (dk_at dksX9_number_2 19 rfl rfl)
theorem dX9_number_66 : decode cX9_number 66 = .ok (.invokevirtual 219, 3) := dk_182 0 219 (dk_at dksX9_number_2 20 rfl rfl)
theorem dX9_number_69 : decode cX9_number 69 = .ok (.invokestatic 223, 3) := dk_184 0 223 (dk_at dksX9_number_3 0 rfl rfl)
theorem dX9_number_72 : decode cX9_number 72 = .ok (.ifCond .eq 10, 3) := dk_153 0 10 (dk_at dksX9_number_3 3 rfl rfl)
theorem dX9_number_75 : decode cX9_number 75 = .ok (.aload_n 0, 1) := dk_42 (dk_at dksX9_number_3 6 rfl rfl)
theorem dX9_number_76 : decode cX9_number 76 = .ok (.getfield 226, 3) := dk_180 0 226 (dk_at dksX9_number_3 7 rfl rfl)
theorem dX9_number_79 : decode cX9_number 79 = .ok (.ifCond .ne 5, 3) := dk_154 0 5 (dk_at dksX9_number_3 10 rfl rfl)
theorem dX9_number_82 : decode cX9_number 82 = .ok (.iconst 1, 1) := dk_4 (dk_at dksX9_number_3 13 rfl rfl)
theorem dX9_number_83 : decode cX9_number 83 = .ok (.ireturn, 1) := dk_172 (dk_at dksX9_number_3 14 rfl rfl)
theorem dX9_number_84 : decode cX9_number 84 = .ok (.bipush 10, 2) := dk_16 10 (dk_at dksX9_number_3 15 rfl rfl)
theorem dX9_number_86 : decode cX9_number 86 = .ok (.aload_n 0, 1) := dk_42 (dk_at dksX9_number_3 17 rfl rfl)
theorem dX9_number_87 : decode cX9_number 87 = .ok (.getfield 226, 3) := dk_180 0 226 (dk_at dksX9_number_3 18 rfl rfl)
theorem dX9_number_90 : decode cX9_number 90 = .ok (.imul, 1) := dk_104 (dk_at dksX9_number_3 21 rfl rfl)
theorem dX9_number_91 : decode cX9_number 91 = .ok (.aload_n 0, 1) := dk_42 (dk_at dksX9_number_3 22 rfl rfl)
theorem dX9_number_92 : decode cX9_number 92 = .ok (.invokevirtual 219, 3) := dk_182 0 219 (dk_at dksX9_number_4 0 rfl rfl)
theorem dX9_number_95 : decode cX9_number 95 = .ok (.iadd, 1) := dk_96 (dk_at dksX9_number_4 3 rfl rfl)
theorem dX9_number_96 : decode cX9_number 96 = .ok (.bipush 48, 2) := dk_16 48 (dk_at dksX9_number_4 4 rfl rfl)
theorem dX9_number_98 : decode cX9_number 98 = .ok (.isub, 1) := dk_100 (dk_at dksX9_number_4 6 rfl rfl)
theorem dX9_number_99 : decode cX9_number 99 = .ok (.iload_n 1, 1) := dk_27 (dk_at dksX9_number_4 7 rfl rfl)
theorem dX9_number_100 : decode cX9_number 100 = .ok (.if_icmp .le 5, 3) := dk_164 0 5 (dk_at dksX9_number_4 8 rfl rfl)
theorem dX9_number_103 : decode cX9_number 103 = .ok (.iconst 0, 1) := dk_3 (dk_at dksX9_number_4 11 rfl rfl)
theorem dX9_number_104 : decode cX9_number 104 = .ok (.ireturn, 1) := dk_172 (dk_at dksX9_number_4 12 rfl rfl)
theorem dX9_number_105 : decode cX9_number 105 = .ok (.aload_n 0, 1) := dk_42 (dk_at dksX9_number_4 13 rfl rfl)
theorem dX9_number_106 : decode cX9_number 106 = .ok (.bipush 10, 2) := dk_16 10 (dk_at dksX9_number_4 14 rfl rfl)
theorem dX9_number_108 : decode cX9_number 108 = .ok (.aload_n 0, 1) := dk_42 (dk_at dksX9_number_4 16 rfl rfl)
theorem dX9_number_109 : decode cX9_number 109 = .ok (.getfield 226, 3) := dk_180 0 226 (dk_at dksX9_number_4 17 rfl rfl)
theorem dX9_number_112 : decode cX9_number 112 = .ok (.imul, 1) := dk_104 (dk_at dksX9_number_4 20 rfl rfl)
theorem dX9_number_113 : decode cX9_number 113 = .ok (.aload_n 0, 1) := dk_42 (dk_at dksX9_number_4 21 rfl rfl)
theorem dX9_number_114 : decode cX9_number 114 = .ok (.invokevirtual 219, 3) := dk_182 0 219 (dk_at dksX9_number_5 0 rfl rfl)
theorem dX9_number_117 : decode cX9_number 117 = .ok (.iadd, 1) := dk_96 (dk_at dksX9_number_5 3 rfl rfl)
theorem dX9_number_118 : decode cX9_number 118 = .ok (.bipush 48, 2) := dk_16 48 (dk_at dksX9_number_5 4 rfl rfl)
theorem dX9_number_120 : decode cX9_number 120 = .ok (.isub, 1) := dk_100 (dk_at dksX9_number_5 6 rfl rfl)
theorem dX9_number_121 : decode cX9_number 121 = .ok (.putfield 226, 3) := dk_181 0 226 (dk_at dksX9_number_5 7 rfl rfl)
theorem dX9_number_124 : decode cX9_number 124 = .ok (.aload_n 0, 1) := dk_42 (dk_at dksX9_number_5 10 rfl rfl)
theorem dX9_number_125 : decode cX9_number 125 = .ok (.dup, 1) := dk_89 (dk_at dksX9_number_5 11 rfl rfl)
theorem dX9_number_126 : decode cX9_number 126 = .ok (.getfield 216, 3) := dk_180 0 216 (dk_at dksX9_number_5 12 rfl rfl)
theorem dX9_number_129 : decode cX9_number 129 = .ok (.iconst 1, 1) := dk_4 (dk_at dksX9_number_5 15 rfl rfl)
theorem dX9_number_130 : decode cX9_number 130 = .ok (.iadd, 1) := dk_96 (dk_at dksX9_number_5 16 rfl rfl)
theorem dX9_number_131 : decode cX9_number 131 = .ok (.putfield 216, 3) := dk_181 0 216 (dk_at dksX9_number_5 17 rfl rfl)
theorem dX9_number_134 : decode cX9_number 134 = .ok (.iconst 1, 1) := dk_4 (dk_at dksX9_number_5 20 rfl rfl)
theorem dX9_number_135 : decode cX9_number 135 = .ok (.ireturn, 1) := dk_172 (dk_at dksX9_number_5 21 rfl rfl)
abbrev cX9_isDigit : ByteArray := prog_19_method_35_code
def yX9_isDigit : MethodName := ⟨RX9, "isDigit", "(I)Z"⟩
def dkwX9_isDigit_0 : List UInt8 := [26, 16, 48, 161, 0, 13, 26, 16, 57, 163, 0, 7, 4, 167, 0, 4, 3, 172]
abbrev dktX9_isDigit_0 : List UInt8 := dkwX9_isDigit_0 ++ []
theorem dksX9_isDigit_0 : cX9_isDigit.data.toList.drop 0 = dktX9_isDigit_0 := by decide +kernel
theorem dX9_isDigit_0 : decode cX9_isDigit 0 = .ok (.iload_n 0, 1) := dk_26 (dk_at dksX9_isDigit_0 0 rfl rfl)
theorem dX9_isDigit_1 : decode cX9_isDigit 1 = .ok (.bipush 48, 2) := dk_16 48 (dk_at dksX9_isDigit_0 1 rfl rfl)
theorem dX9_isDigit_3 : decode cX9_isDigit 3 = .ok (.if_icmp .lt 13, 3) := dk_161 0 13 (dk_at dksX9_isDigit_0 3 rfl rfl)
theorem dX9_isDigit_6 : decode cX9_isDigit 6 = .ok (.iload_n 0, 1) := dk_26 (dk_at dksX9_isDigit_0 6 rfl rfl)
theorem dX9_isDigit_7 : decode cX9_isDigit 7 = .ok (.bipush 57, 2) := dk_16 57 (dk_at dksX9_isDigit_0 7 rfl rfl)
theorem dX9_isDigit_9 : decode cX9_isDigit 9 = .ok (.if_icmp .gt 7, 3) := dk_163 0 7 (dk_at dksX9_isDigit_0 9 rfl rfl)
theorem dX9_isDigit_12 : decode cX9_isDigit 12 = .ok (.iconst 1, 1) := dk_4 (dk_at dksX9_isDigit_0 12 rfl rfl)
theorem dX9_isDigit_13 : decode cX9_isDigit 13 = .ok (.goto 4, 3) := dk_167 0 4 (dk_at dksX9_isDigit_0 13 rfl rfl)
theorem dX9_isDigit_16 : decode cX9_isDigit 16 = .ok (.iconst 0, 1) := dk_3 (dk_at dksX9_isDigit_0 16 rfl rfl)
theorem dX9_isDigit_17 : decode cX9_isDigit 17 = .ok (.ireturn, 1) := dk_172 (dk_at dksX9_isDigit_0 17 rfl rfl)
abbrev cX9_adds : ByteArray := prog_19_method_37_code
def yX9_adds : MethodName := ⟨RX9, "adds", "(I)V"⟩
def dkwX9_adds_2 : List UInt8 := [92, 46, 4, 96, 79, 177]
abbrev dktX9_adds_2 : List UInt8 := dkwX9_adds_2 ++ []
def dkwX9_adds_1 : List UInt8 := [180, 0, 229, 104, 42, 180, 0, 72, 42, 180, 0, 229, 46, 96, 27, 79, 42, 180, 0, 72, 42, 180, 0, 229]
abbrev dktX9_adds_1 : List UInt8 := dkwX9_adds_1 ++ dktX9_adds_2
def dkwX9_adds_0 : List UInt8 := [42, 180, 0, 72, 42, 180, 0, 229, 46, 16, 11, 160, 0, 4, 177, 42, 180, 0, 69, 16, 13, 42]
abbrev dktX9_adds_0 : List UInt8 := dkwX9_adds_0 ++ dktX9_adds_1
theorem dksX9_adds_0 : cX9_adds.data.toList.drop 0 = dktX9_adds_0 := by decide +kernel
theorem dksX9_adds_1 : cX9_adds.data.toList.drop 22 = dktX9_adds_1 := dk_seg dksX9_adds_0 22 rfl rfl
theorem dksX9_adds_2 : cX9_adds.data.toList.drop 46 = dktX9_adds_2 := dk_seg dksX9_adds_1 24 rfl rfl
theorem dX9_adds_0 : decode cX9_adds 0 = .ok (.aload_n 0, 1) := dk_42 (dk_at dksX9_adds_0 0 rfl rfl)
theorem dX9_adds_1 : decode cX9_adds 1 = .ok (.getfield 72, 3) := dk_180 0 72 (dk_at dksX9_adds_0 1 rfl rfl)
theorem dX9_adds_4 : decode cX9_adds 4 = .ok (.aload_n 0, 1) := dk_42 (dk_at dksX9_adds_0 4 rfl rfl)
theorem dX9_adds_5 : decode cX9_adds 5 = .ok (.getfield 229, 3) := dk_180 0 229 (dk_at dksX9_adds_0 5 rfl rfl)
theorem dX9_adds_8 : decode cX9_adds 8 = .ok (.iaload, 1) := dk_46 (dk_at dksX9_adds_0 8 rfl rfl)
theorem dX9_adds_9 : decode cX9_adds 9 = .ok (.bipush 11, 2) := dk_16 11 (dk_at dksX9_adds_0 9 rfl rfl)
theorem dX9_adds_11 : decode cX9_adds 11 = .ok (.if_icmp .ne 4, 3) := dk_160 0 4 (dk_at dksX9_adds_0 11 rfl rfl)
theorem dX9_adds_14 : decode cX9_adds 14 = .ok (.return_, 1) := dk_177 (dk_at dksX9_adds_0 14 rfl rfl)
theorem dX9_adds_15 : decode cX9_adds 15 = .ok (.aload_n 0, 1) := dk_42 (dk_at dksX9_adds_0 15 rfl rfl)
theorem dX9_adds_16 : decode cX9_adds 16 = .ok (.getfield 69, 3) := dk_180 0 69 (dk_at dksX9_adds_0 16 rfl rfl)
theorem dX9_adds_19 : decode cX9_adds 19 = .ok (.bipush 13, 2) := dk_16 13 (dk_at dksX9_adds_0 19 rfl rfl)
theorem dX9_adds_21 : decode cX9_adds 21 = .ok (.aload_n 0, 1) := dk_42 (dk_at dksX9_adds_0 21 rfl rfl)
theorem dX9_adds_22 : decode cX9_adds 22 = .ok (.getfield 229, 3) := dk_180 0 229 (dk_at dksX9_adds_1 0 rfl rfl)
theorem dX9_adds_25 : decode cX9_adds 25 = .ok (.imul, 1) := dk_104 (dk_at dksX9_adds_1 3 rfl rfl)
theorem dX9_adds_26 : decode cX9_adds 26 = .ok (.aload_n 0, 1) := dk_42 (dk_at dksX9_adds_1 4 rfl rfl)
theorem dX9_adds_27 : decode cX9_adds 27 = .ok (.getfield 72, 3) := dk_180 0 72 (dk_at dksX9_adds_1 5 rfl rfl)
theorem dX9_adds_30 : decode cX9_adds 30 = .ok (.aload_n 0, 1) := dk_42 (dk_at dksX9_adds_1 8 rfl rfl)
theorem dX9_adds_31 : decode cX9_adds 31 = .ok (.getfield 229, 3) := dk_180 0 229 (dk_at dksX9_adds_1 9 rfl rfl)
theorem dX9_adds_34 : decode cX9_adds 34 = .ok (.iaload, 1) := dk_46 (dk_at dksX9_adds_1 12 rfl rfl)
theorem dX9_adds_35 : decode cX9_adds 35 = .ok (.iadd, 1) := dk_96 (dk_at dksX9_adds_1 13 rfl rfl)
theorem dX9_adds_36 : decode cX9_adds 36 = .ok (.iload_n 1, 1) := dk_27 (dk_at dksX9_adds_1 14 rfl rfl)
theorem dX9_adds_37 : decode cX9_adds 37 = .ok (.iastore, 1) := dk_79 (dk_at dksX9_adds_1 15 rfl rfl)
theorem dX9_adds_38 : decode cX9_adds 38 = .ok (.aload_n 0, 1) := dk_42 (dk_at dksX9_adds_1 16 rfl rfl)
theorem dX9_adds_39 : decode cX9_adds 39 = .ok (.getfield 72, 3) := dk_180 0 72 (dk_at dksX9_adds_1 17 rfl rfl)
theorem dX9_adds_42 : decode cX9_adds 42 = .ok (.aload_n 0, 1) := dk_42 (dk_at dksX9_adds_1 20 rfl rfl)
theorem dX9_adds_43 : decode cX9_adds 43 = .ok (.getfield 229, 3) := dk_180 0 229 (dk_at dksX9_adds_1 21 rfl rfl)
theorem dX9_adds_46 : decode cX9_adds 46 = .ok (.dup2, 1) := dk_92 (dk_at dksX9_adds_2 0 rfl rfl)
theorem dX9_adds_47 : decode cX9_adds 47 = .ok (.iaload, 1) := dk_46 (dk_at dksX9_adds_2 1 rfl rfl)
theorem dX9_adds_48 : decode cX9_adds 48 = .ok (.iconst 1, 1) := dk_4 (dk_at dksX9_adds_2 2 rfl rfl)
theorem dX9_adds_49 : decode cX9_adds 49 = .ok (.iadd, 1) := dk_96 (dk_at dksX9_adds_2 3 rfl rfl)
theorem dX9_adds_50 : decode cX9_adds 50 = .ok (.iastore, 1) := dk_79 (dk_at dksX9_adds_2 4 rfl rfl)
theorem dX9_adds_51 : decode cX9_adds 51 = .ok (.return_, 1) := dk_177 (dk_at dksX9_adds_2 5 rfl rfl)
abbrev cX9_isName : ByteArray := prog_19_method_40_code
def yX9_isName : MethodName := ⟨RX9, "isName", "(I)Z"⟩
def dkwX9_isName_0 : List UInt8 := [27, 16, 97, 161, 0, 13, 27, 16, 102, 163, 0, 7, 4, 167, 0, 4, 3, 172]
abbrev dktX9_isName_0 : List UInt8 := dkwX9_isName_0 ++ []
theorem dksX9_isName_0 : cX9_isName.data.toList.drop 0 = dktX9_isName_0 := by decide +kernel
theorem dX9_isName_0 : decode cX9_isName 0 = .ok (.iload_n 1, 1) := dk_27 (dk_at dksX9_isName_0 0 rfl rfl)
theorem dX9_isName_1 : decode cX9_isName 1 = .ok (.bipush 97, 2) := dk_16 97 (dk_at dksX9_isName_0 1 rfl rfl)
theorem dX9_isName_3 : decode cX9_isName 3 = .ok (.if_icmp .lt 13, 3) := dk_161 0 13 (dk_at dksX9_isName_0 3 rfl rfl)
theorem dX9_isName_6 : decode cX9_isName 6 = .ok (.iload_n 1, 1) := dk_27 (dk_at dksX9_isName_0 6 rfl rfl)
theorem dX9_isName_7 : decode cX9_isName 7 = .ok (.bipush 102, 2) := dk_16 102 (dk_at dksX9_isName_0 7 rfl rfl)
theorem dX9_isName_9 : decode cX9_isName 9 = .ok (.if_icmp .gt 7, 3) := dk_163 0 7 (dk_at dksX9_isName_0 9 rfl rfl)
theorem dX9_isName_12 : decode cX9_isName 12 = .ok (.iconst 1, 1) := dk_4 (dk_at dksX9_isName_0 12 rfl rfl)
theorem dX9_isName_13 : decode cX9_isName 13 = .ok (.goto 4, 3) := dk_167 0 4 (dk_at dksX9_isName_0 13 rfl rfl)
theorem dX9_isName_16 : decode cX9_isName 16 = .ok (.iconst 0, 1) := dk_3 (dk_at dksX9_isName_0 16 rfl rfl)
theorem dX9_isName_17 : decode cX9_isName 17 = .ok (.ireturn, 1) := dk_172 (dk_at dksX9_isName_0 17 rfl rfl)
abbrev cX9_uses : ByteArray := prog_19_method_42_code
def yX9_uses : MethodName := ⟨RX9, "uses", "(I)V"⟩
def dkwX9_uses_2 : List UInt8 := [104, 28, 96, 46, 182, 0, 232, 132, 2, 1, 167, 255, 228, 177]
abbrev dktX9_uses_2 : List UInt8 := dkwX9_uses_2 ++ []
def dkwX9_uses_1 : List UInt8 := [181, 0, 246, 177, 3, 61, 28, 42, 180, 0, 81, 27, 46, 162, 0, 24, 42, 42, 180, 0, 78, 16, 11, 27]
abbrev dktX9_uses_1 : List UInt8 := dkwX9_uses_1 ++ dktX9_uses_2
def dkwX9_uses_0 : List UInt8 := [42, 180, 0, 84, 27, 51, 154, 0, 21, 42, 180, 0, 246, 156, 0, 13, 42, 42, 180, 0, 216, 4, 100]
abbrev dktX9_uses_0 : List UInt8 := dkwX9_uses_0 ++ dktX9_uses_1
theorem dksX9_uses_0 : cX9_uses.data.toList.drop 0 = dktX9_uses_0 := by decide +kernel
theorem dksX9_uses_1 : cX9_uses.data.toList.drop 23 = dktX9_uses_1 := dk_seg dksX9_uses_0 23 rfl rfl
theorem dksX9_uses_2 : cX9_uses.data.toList.drop 47 = dktX9_uses_2 := dk_seg dksX9_uses_1 24 rfl rfl
theorem dX9_uses_0 : decode cX9_uses 0 = .ok (.aload_n 0, 1) := dk_42 (dk_at dksX9_uses_0 0 rfl rfl)
theorem dX9_uses_1 : decode cX9_uses 1 = .ok (.getfield 84, 3) := dk_180 0 84 (dk_at dksX9_uses_0 1 rfl rfl)
theorem dX9_uses_4 : decode cX9_uses 4 = .ok (.iload_n 1, 1) := dk_27 (dk_at dksX9_uses_0 4 rfl rfl)
theorem dX9_uses_5 : decode cX9_uses 5 = .ok (.baload, 1) := dk_51 (dk_at dksX9_uses_0 5 rfl rfl)
theorem dX9_uses_6 : decode cX9_uses 6 = .ok (.ifCond .ne 21, 3) := dk_154 0 21 (dk_at dksX9_uses_0 6 rfl rfl)
theorem dX9_uses_9 : decode cX9_uses 9 = .ok (.aload_n 0, 1) := dk_42 (dk_at dksX9_uses_0 9 rfl rfl)
theorem dX9_uses_10 : decode cX9_uses 10 = .ok (.getfield 246, 3) := dk_180 0 246 (dk_at dksX9_uses_0 10 rfl rfl)
theorem dX9_uses_13 : decode cX9_uses 13 = .ok (.ifCond .ge 13, 3) := dk_156 0 13 (dk_at dksX9_uses_0 13 rfl rfl)
theorem dX9_uses_16 : decode cX9_uses 16 = .ok (.aload_n 0, 1) := dk_42 (dk_at dksX9_uses_0 16 rfl rfl)
theorem dX9_uses_17 : decode cX9_uses 17 = .ok (.aload_n 0, 1) := dk_42 (dk_at dksX9_uses_0 17 rfl rfl)
theorem dX9_uses_18 : decode cX9_uses 18 = .ok (.getfield 216, 3) := dk_180 0 216 (dk_at dksX9_uses_0 18 rfl rfl)
theorem dX9_uses_21 : decode cX9_uses 21 = .ok (.iconst 1, 1) := dk_4 (dk_at dksX9_uses_0 21 rfl rfl)
theorem dX9_uses_22 : decode cX9_uses 22 = .ok (.isub, 1) := dk_100 (dk_at dksX9_uses_0 22 rfl rfl)
theorem dX9_uses_23 : decode cX9_uses 23 = .ok (.putfield 246, 3) := dk_181 0 246 (dk_at dksX9_uses_1 0 rfl rfl)
theorem dX9_uses_26 : decode cX9_uses 26 = .ok (.return_, 1) := dk_177 (dk_at dksX9_uses_1 3 rfl rfl)
theorem dX9_uses_27 : decode cX9_uses 27 = .ok (.iconst 0, 1) := dk_3 (dk_at dksX9_uses_1 4 rfl rfl)
theorem dX9_uses_28 : decode cX9_uses 28 = .ok (.istore_n 2, 1) := dk_61 (dk_at dksX9_uses_1 5 rfl rfl)
theorem dX9_uses_29 : decode cX9_uses 29 = .ok (.iload_n 2, 1) := dk_28 (dk_at dksX9_uses_1 6 rfl rfl)
theorem dX9_uses_30 : decode cX9_uses 30 = .ok (.aload_n 0, 1) := dk_42 (dk_at dksX9_uses_1 7 rfl rfl)
theorem dX9_uses_31 : decode cX9_uses 31 = .ok (.getfield 81, 3) := dk_180 0 81 (dk_at dksX9_uses_1 8 rfl rfl)
theorem dX9_uses_34 : decode cX9_uses 34 = .ok (.iload_n 1, 1) := dk_27 (dk_at dksX9_uses_1 11 rfl rfl)
theorem dX9_uses_35 : decode cX9_uses 35 = .ok (.iaload, 1) := dk_46 (dk_at dksX9_uses_1 12 rfl rfl)
theorem dX9_uses_36 : decode cX9_uses 36 = .ok (.if_icmp .ge 24, 3) := dk_162 0 24 (dk_at dksX9_uses_1 13 rfl rfl)
theorem dX9_uses_39 : decode cX9_uses 39 = .ok (.aload_n 0, 1) := dk_42 (dk_at dksX9_uses_1 16 rfl rfl)
theorem dX9_uses_40 : decode cX9_uses 40 = .ok (.aload_n 0, 1) := dk_42 (dk_at dksX9_uses_1 17 rfl rfl)
theorem dX9_uses_41 : decode cX9_uses 41 = .ok (.getfield 78, 3) := dk_180 0 78 (dk_at dksX9_uses_1 18 rfl rfl)
theorem dX9_uses_44 : decode cX9_uses 44 = .ok (.bipush 11, 2) := dk_16 11 (dk_at dksX9_uses_1 21 rfl rfl)
theorem dX9_uses_46 : decode cX9_uses 46 = .ok (.iload_n 1, 1) := dk_27 (dk_at dksX9_uses_1 23 rfl rfl)
theorem dX9_uses_47 : decode cX9_uses 47 = .ok (.imul, 1) := dk_104 (dk_at dksX9_uses_2 0 rfl rfl)
theorem dX9_uses_48 : decode cX9_uses 48 = .ok (.iload_n 2, 1) := dk_28 (dk_at dksX9_uses_2 1 rfl rfl)
theorem dX9_uses_49 : decode cX9_uses 49 = .ok (.iadd, 1) := dk_96 (dk_at dksX9_uses_2 2 rfl rfl)
theorem dX9_uses_50 : decode cX9_uses 50 = .ok (.iaload, 1) := dk_46 (dk_at dksX9_uses_2 3 rfl rfl)
theorem dX9_uses_51 : decode cX9_uses 51 = .ok (.invokevirtual 232, 3) := dk_182 0 232 (dk_at dksX9_uses_2 4 rfl rfl)
theorem dX9_uses_54 : decode cX9_uses 54 = .ok (.iinc 2 1, 3) := dk_132 2 1 (dk_at dksX9_uses_2 7 rfl rfl)
theorem dX9_uses_57 : decode cX9_uses 57 = .ok (.goto (-28), 3) := dk_167 255 228 (dk_at dksX9_uses_2 10 rfl rfl)
theorem dX9_uses_60 : decode cX9_uses 60 = .ok (.return_, 1) := dk_177 (dk_at dksX9_uses_2 13 rfl rfl)
abbrev cX9_opens : ByteArray := prog_19_method_38_code
def yX9_opens : MethodName := ⟨RX9, "opens", "(I)V"⟩
def dkwX9_opens_1 : List UInt8 := [42, 180, 0, 229, 27, 79, 177]
abbrev dktX9_opens_1 : List UInt8 := dkwX9_opens_1 ++ []
def dkwX9_opens_0 : List UInt8 := [42, 89, 180, 0, 229, 4, 96, 181, 0, 229, 42, 180, 0, 72, 42, 180, 0, 229, 3, 79, 42, 180, 0, 75]
abbrev dktX9_opens_0 : List UInt8 := dkwX9_opens_0 ++ dktX9_opens_1
theorem dksX9_opens_0 : cX9_opens.data.toList.drop 0 = dktX9_opens_0 := by decide +kernel
theorem dksX9_opens_1 : cX9_opens.data.toList.drop 24 = dktX9_opens_1 := dk_seg dksX9_opens_0 24 rfl rfl
theorem dX9_opens_0 : decode cX9_opens 0 = .ok (.aload_n 0, 1) := dk_42 (dk_at dksX9_opens_0 0 rfl rfl)
theorem dX9_opens_1 : decode cX9_opens 1 = .ok (.dup, 1) := dk_89 (dk_at dksX9_opens_0 1 rfl rfl)
theorem dX9_opens_2 : decode cX9_opens 2 = .ok (.getfield 229, 3) := dk_180 0 229 (dk_at dksX9_opens_0 2 rfl rfl)
theorem dX9_opens_5 : decode cX9_opens 5 = .ok (.iconst 1, 1) := dk_4 (dk_at dksX9_opens_0 5 rfl rfl)
theorem dX9_opens_6 : decode cX9_opens 6 = .ok (.iadd, 1) := dk_96 (dk_at dksX9_opens_0 6 rfl rfl)
theorem dX9_opens_7 : decode cX9_opens 7 = .ok (.putfield 229, 3) := dk_181 0 229 (dk_at dksX9_opens_0 7 rfl rfl)
theorem dX9_opens_10 : decode cX9_opens 10 = .ok (.aload_n 0, 1) := dk_42 (dk_at dksX9_opens_0 10 rfl rfl)
theorem dX9_opens_11 : decode cX9_opens 11 = .ok (.getfield 72, 3) := dk_180 0 72 (dk_at dksX9_opens_0 11 rfl rfl)
theorem dX9_opens_14 : decode cX9_opens 14 = .ok (.aload_n 0, 1) := dk_42 (dk_at dksX9_opens_0 14 rfl rfl)
theorem dX9_opens_15 : decode cX9_opens 15 = .ok (.getfield 229, 3) := dk_180 0 229 (dk_at dksX9_opens_0 15 rfl rfl)
theorem dX9_opens_18 : decode cX9_opens 18 = .ok (.iconst 0, 1) := dk_3 (dk_at dksX9_opens_0 18 rfl rfl)
theorem dX9_opens_19 : decode cX9_opens 19 = .ok (.iastore, 1) := dk_79 (dk_at dksX9_opens_0 19 rfl rfl)
theorem dX9_opens_20 : decode cX9_opens 20 = .ok (.aload_n 0, 1) := dk_42 (dk_at dksX9_opens_0 20 rfl rfl)
theorem dX9_opens_21 : decode cX9_opens 21 = .ok (.getfield 75, 3) := dk_180 0 75 (dk_at dksX9_opens_0 21 rfl rfl)
theorem dX9_opens_24 : decode cX9_opens 24 = .ok (.aload_n 0, 1) := dk_42 (dk_at dksX9_opens_1 0 rfl rfl)
theorem dX9_opens_25 : decode cX9_opens 25 = .ok (.getfield 229, 3) := dk_180 0 229 (dk_at dksX9_opens_1 1 rfl rfl)
theorem dX9_opens_28 : decode cX9_opens 28 = .ok (.iload_n 1, 1) := dk_27 (dk_at dksX9_opens_1 4 rfl rfl)
theorem dX9_opens_29 : decode cX9_opens 29 = .ok (.iastore, 1) := dk_79 (dk_at dksX9_opens_1 5 rfl rfl)
theorem dX9_opens_30 : decode cX9_opens 30 = .ok (.return_, 1) := dk_177 (dk_at dksX9_opens_1 6 rfl rfl)
abbrev cX9_closes : ByteArray := prog_19_method_39_code
def yX9_closes : MethodName := ⟨RX9, "closes", "()V"⟩
def dkwX9_closes_6 : List UInt8 := [132, 4, 1, 167, 255, 226, 132, 3, 1, 167, 255, 212, 177]
abbrev dktX9_closes_6 : List UInt8 := dkwX9_closes_6 ++ []
def dkwX9_closes_5 : List UInt8 := [180, 0, 72, 28, 46, 162, 0, 25, 42, 42, 180, 0, 69, 16, 13, 28, 104, 21, 4, 96, 46, 182, 0, 232]
abbrev dktX9_closes_5 : List UInt8 := dkwX9_closes_5 ++ dktX9_closes_6
def dkwX9_closes_4 : List UInt8 := [96, 46, 79, 132, 4, 1, 167, 255, 218, 177, 3, 62, 29, 27, 162, 0, 45, 3, 54, 4, 21, 4, 42]
abbrev dktX9_closes_4 : List UInt8 := dkwX9_closes_4 ++ dktX9_closes_5
def dkwX9_closes_3 : List UInt8 := [162, 0, 33, 42, 180, 0, 78, 16, 11, 29, 104, 21, 4, 96, 42, 180, 0, 69, 16, 13, 28, 104, 21, 4]
abbrev dktX9_closes_3 : List UInt8 := dkwX9_closes_3 ++ dktX9_closes_4
def dkwX9_closes_2 : List UInt8 := [180, 0, 81, 29, 42, 180, 0, 72, 28, 46, 79, 3, 54, 4, 21, 4, 42, 180, 0, 72, 28, 46]
abbrev dktX9_closes_2 : List UInt8 := dkwX9_closes_2 ++ dktX9_closes_3
def dkwX9_closes_1 : List UInt8 := [181, 0, 229, 27, 16, 10, 161, 0, 72, 27, 16, 10, 100, 62, 42, 180, 0, 84, 29, 4, 84, 42]
abbrev dktX9_closes_1 : List UInt8 := dkwX9_closes_1 ++ dktX9_closes_2
def dkwX9_closes_0 : List UInt8 := [42, 180, 0, 75, 42, 180, 0, 229, 46, 60, 42, 180, 0, 229, 61, 42, 89, 180, 0, 229, 4, 100]
abbrev dktX9_closes_0 : List UInt8 := dkwX9_closes_0 ++ dktX9_closes_1
theorem dksX9_closes_0 : cX9_closes.data.toList.drop 0 = dktX9_closes_0 := by decide +kernel
theorem dksX9_closes_1 : cX9_closes.data.toList.drop 22 = dktX9_closes_1 := dk_seg dksX9_closes_0 22 rfl rfl
theorem dksX9_closes_2 : cX9_closes.data.toList.drop 44 = dktX9_closes_2 := dk_seg dksX9_closes_1 22 rfl rfl
theorem dksX9_closes_3 : cX9_closes.data.toList.drop 66 = dktX9_closes_3 := dk_seg dksX9_closes_2 22 rfl rfl
theorem dksX9_closes_4 : cX9_closes.data.toList.drop 90 = dktX9_closes_4 := dk_seg dksX9_closes_3 24 rfl rfl
theorem dksX9_closes_5 : cX9_closes.data.toList.drop 113 = dktX9_closes_5 := dk_seg dksX9_closes_4 23 rfl rfl
theorem dksX9_closes_6 : cX9_closes.data.toList.drop 137 = dktX9_closes_6 := dk_seg dksX9_closes_5 24 rfl rfl
theorem dX9_closes_0 : decode cX9_closes 0 = .ok (.aload_n 0, 1) := dk_42 (dk_at dksX9_closes_0 0 rfl rfl)
theorem dX9_closes_1 : decode cX9_closes 1 = .ok (.getfield 75, 3) := dk_180 0 75 (dk_at dksX9_closes_0 1 rfl rfl)
theorem dX9_closes_4 : decode cX9_closes 4 = .ok (.aload_n 0, 1) := dk_42 (dk_at dksX9_closes_0 4 rfl rfl)
theorem dX9_closes_5 : decode cX9_closes 5 = .ok (.getfield 229, 3) := dk_180 0 229 (dk_at dksX9_closes_0 5 rfl rfl)
theorem dX9_closes_8 : decode cX9_closes 8 = .ok (.iaload, 1) := dk_46 (dk_at dksX9_closes_0 8 rfl rfl)
theorem dX9_closes_9 : decode cX9_closes 9 = .ok (.istore_n 1, 1) := dk_60 (dk_at dksX9_closes_0 9 rfl rfl)
theorem dX9_closes_10 : decode cX9_closes 10 = .ok (.aload_n 0, 1) := dk_42 (dk_at dksX9_closes_0 10 rfl rfl)
theorem dX9_closes_11 : decode cX9_closes 11 = .ok (.getfield 229, 3) := dk_180 0 229 (dk_at dksX9_closes_0 11 rfl rfl)
theorem dX9_closes_14 : decode cX9_closes 14 = .ok (.istore_n 2, 1) := dk_61 (dk_at dksX9_closes_0 14 rfl rfl)
theorem dX9_closes_15 : decode cX9_closes 15 = .ok (.aload_n 0, 1) := dk_42 (dk_at dksX9_closes_0 15 rfl rfl)
theorem dX9_closes_16 : decode cX9_closes 16 = .ok (.dup, 1) := dk_89 (dk_at dksX9_closes_0 16 rfl rfl)
theorem dX9_closes_17 : decode cX9_closes 17 = .ok (.getfield 229, 3) := dk_180 0 229 (dk_at dksX9_closes_0 17 rfl rfl)
theorem dX9_closes_20 : decode cX9_closes 20 = .ok (.iconst 1, 1) := dk_4 (dk_at dksX9_closes_0 20 rfl rfl)
theorem dX9_closes_21 : decode cX9_closes 21 = .ok (.isub, 1) := dk_100 (dk_at dksX9_closes_0 21 rfl rfl)
theorem dX9_closes_22 : decode cX9_closes 22 = .ok (.putfield 229, 3) := dk_181 0 229 (dk_at dksX9_closes_1 0 rfl rfl)
theorem dX9_closes_25 : decode cX9_closes 25 = .ok (.iload_n 1, 1) := dk_27 (dk_at dksX9_closes_1 3 rfl rfl)
theorem dX9_closes_26 : decode cX9_closes 26 = .ok (.bipush 10, 2) := dk_16 10 (dk_at dksX9_closes_1 4 rfl rfl)
theorem dX9_closes_28 : decode cX9_closes 28 = .ok (.if_icmp .lt 72, 3) := dk_161 0 72 (dk_at dksX9_closes_1 6 rfl rfl)
theorem dX9_closes_31 : decode cX9_closes 31 = .ok (.iload_n 1, 1) := dk_27 (dk_at dksX9_closes_1 9 rfl rfl)
theorem dX9_closes_32 : decode cX9_closes 32 = .ok (.bipush 10, 2) := dk_16 10 (dk_at dksX9_closes_1 10 rfl rfl)
theorem dX9_closes_34 : decode cX9_closes 34 = .ok (.isub, 1) := dk_100 (dk_at dksX9_closes_1 12 rfl rfl)
theorem dX9_closes_35 : decode cX9_closes 35 = .ok (.istore_n 3, 1) := dk_62 (dk_at dksX9_closes_1 13 rfl rfl)
theorem dX9_closes_36 : decode cX9_closes 36 = .ok (.aload_n 0, 1) := dk_42 (dk_at dksX9_closes_1 14 rfl rfl)
theorem dX9_closes_37 : decode cX9_closes 37 = .ok (.getfield 84, 3) := dk_180 0 84 (dk_at dksX9_closes_1 15 rfl rfl)
theorem dX9_closes_40 : decode cX9_closes 40 = .ok (.iload_n 3, 1) := dk_29 (dk_at dksX9_closes_1 18 rfl rfl)
theorem dX9_closes_41 : decode cX9_closes 41 = .ok (.iconst 1, 1) := dk_4 (dk_at dksX9_closes_1 19 rfl rfl)
theorem dX9_closes_42 : decode cX9_closes 42 = .ok (.bastore, 1) := dk_84 (dk_at dksX9_closes_1 20 rfl rfl)
theorem dX9_closes_43 : decode cX9_closes 43 = .ok (.aload_n 0, 1) := dk_42 (dk_at dksX9_closes_1 21 rfl rfl)
theorem dX9_closes_44 : decode cX9_closes 44 = .ok (.getfield 81, 3) := dk_180 0 81 (dk_at dksX9_closes_2 0 rfl rfl)
theorem dX9_closes_47 : decode cX9_closes 47 = .ok (.iload_n 3, 1) := dk_29 (dk_at dksX9_closes_2 3 rfl rfl)
theorem dX9_closes_48 : decode cX9_closes 48 = .ok (.aload_n 0, 1) := dk_42 (dk_at dksX9_closes_2 4 rfl rfl)
theorem dX9_closes_49 : decode cX9_closes 49 = .ok (.getfield 72, 3) := dk_180 0 72 (dk_at dksX9_closes_2 5 rfl rfl)
theorem dX9_closes_52 : decode cX9_closes 52 = .ok (.iload_n 2, 1) := dk_28 (dk_at dksX9_closes_2 8 rfl rfl)
theorem dX9_closes_53 : decode cX9_closes 53 = .ok (.iaload, 1) := dk_46 (dk_at dksX9_closes_2 9 rfl rfl)
theorem dX9_closes_54 : decode cX9_closes 54 = .ok (.iastore, 1) := dk_79 (dk_at dksX9_closes_2 10 rfl rfl)
theorem dX9_closes_55 : decode cX9_closes 55 = .ok (.iconst 0, 1) := dk_3 (dk_at dksX9_closes_2 11 rfl rfl)
theorem dX9_closes_56 : decode cX9_closes 56 = .ok (.istore 4, 2) := dk_54 4 (dk_at dksX9_closes_2 12 rfl rfl)
theorem dX9_closes_58 : decode cX9_closes 58 = .ok (.iload 4, 2) := dk_21 4 (dk_at dksX9_closes_2 14 rfl rfl)
theorem dX9_closes_60 : decode cX9_closes 60 = .ok (.aload_n 0, 1) := dk_42 (dk_at dksX9_closes_2 16 rfl rfl)
theorem dX9_closes_61 : decode cX9_closes 61 = .ok (.getfield 72, 3) := dk_180 0 72 (dk_at dksX9_closes_2 17 rfl rfl)
theorem dX9_closes_64 : decode cX9_closes 64 = .ok (.iload_n 2, 1) := dk_28 (dk_at dksX9_closes_2 20 rfl rfl)
theorem dX9_closes_65 : decode cX9_closes 65 = .ok (.iaload, 1) := dk_46 (dk_at dksX9_closes_2 21 rfl rfl)
theorem dX9_closes_66 : decode cX9_closes 66 = .ok (.if_icmp .ge 33, 3) := dk_162 0 33 (dk_at dksX9_closes_3 0 rfl rfl)
theorem dX9_closes_69 : decode cX9_closes 69 = .ok (.aload_n 0, 1) := dk_42 (dk_at dksX9_closes_3 3 rfl rfl)
theorem dX9_closes_70 : decode cX9_closes 70 = .ok (.getfield 78, 3) := dk_180 0 78 (dk_at dksX9_closes_3 4 rfl rfl)
theorem dX9_closes_73 : decode cX9_closes 73 = .ok (.bipush 11, 2) := dk_16 11 (dk_at dksX9_closes_3 7 rfl rfl)
theorem dX9_closes_75 : decode cX9_closes 75 = .ok (.iload_n 3, 1) := dk_29 (dk_at dksX9_closes_3 9 rfl rfl)
theorem dX9_closes_76 : decode cX9_closes 76 = .ok (.imul, 1) := dk_104 (dk_at dksX9_closes_3 10 rfl rfl)
theorem dX9_closes_77 : decode cX9_closes 77 = .ok (.iload 4, 2) := dk_21 4 (dk_at dksX9_closes_3 11 rfl rfl)
theorem dX9_closes_79 : decode cX9_closes 79 = .ok (.iadd, 1) := dk_96 (dk_at dksX9_closes_3 13 rfl rfl)
theorem dX9_closes_80 : decode cX9_closes 80 = .ok (.aload_n 0, 1) := dk_42 (dk_at dksX9_closes_3 14 rfl rfl)
theorem dX9_closes_81 : decode cX9_closes 81 = .ok (.getfield 69, 3) := dk_180 0 69 (dk_at dksX9_closes_3 15 rfl rfl)
theorem dX9_closes_84 : decode cX9_closes 84 = .ok (.bipush 13, 2) := dk_16 13 (dk_at dksX9_closes_3 18 rfl rfl)
theorem dX9_closes_86 : decode cX9_closes 86 = .ok (.iload_n 2, 1) := dk_28 (dk_at dksX9_closes_3 20 rfl rfl)
theorem dX9_closes_87 : decode cX9_closes 87 = .ok (.imul, 1) := dk_104 (dk_at dksX9_closes_3 21 rfl rfl)
theorem dX9_closes_88 : decode cX9_closes 88 = .ok (.iload 4, 2) := dk_21 4 (dk_at dksX9_closes_3 22 rfl rfl)
theorem dX9_closes_90 : decode cX9_closes 90 = .ok (.iadd, 1) := dk_96 (dk_at dksX9_closes_4 0 rfl rfl)
theorem dX9_closes_91 : decode cX9_closes 91 = .ok (.iaload, 1) := dk_46 (dk_at dksX9_closes_4 1 rfl rfl)
theorem dX9_closes_92 : decode cX9_closes 92 = .ok (.iastore, 1) := dk_79 (dk_at dksX9_closes_4 2 rfl rfl)
theorem dX9_closes_93 : decode cX9_closes 93 = .ok (.iinc 4 1, 3) := dk_132 4 1 (dk_at dksX9_closes_4 3 rfl rfl)
theorem dX9_closes_96 : decode cX9_closes 96 = .ok (.goto (-38), 3) := dk_167 255 218 (dk_at dksX9_closes_4 6 rfl rfl)
theorem dX9_closes_99 : decode cX9_closes 99 = .ok (.return_, 1) := dk_177 (dk_at dksX9_closes_4 9 rfl rfl)
theorem dX9_closes_100 : decode cX9_closes 100 = .ok (.iconst 0, 1) := dk_3 (dk_at dksX9_closes_4 10 rfl rfl)
theorem dX9_closes_101 : decode cX9_closes 101 = .ok (.istore_n 3, 1) := dk_62 (dk_at dksX9_closes_4 11 rfl rfl)
theorem dX9_closes_102 : decode cX9_closes 102 = .ok (.iload_n 3, 1) := dk_29 (dk_at dksX9_closes_4 12 rfl rfl)
theorem dX9_closes_103 : decode cX9_closes 103 = .ok (.iload_n 1, 1) := dk_27 (dk_at dksX9_closes_4 13 rfl rfl)
theorem dX9_closes_104 : decode cX9_closes 104 = .ok (.if_icmp .ge 45, 3) := dk_162 0 45 (dk_at dksX9_closes_4 14 rfl rfl)
theorem dX9_closes_107 : decode cX9_closes 107 = .ok (.iconst 0, 1) := dk_3 (dk_at dksX9_closes_4 17 rfl rfl)
theorem dX9_closes_108 : decode cX9_closes 108 = .ok (.istore 4, 2) := dk_54 4 (dk_at dksX9_closes_4 18 rfl rfl)
theorem dX9_closes_110 : decode cX9_closes 110 = .ok (.iload 4, 2) := dk_21 4 (dk_at dksX9_closes_4 20 rfl rfl)
theorem dX9_closes_112 : decode cX9_closes 112 = .ok (.aload_n 0, 1) := dk_42 (dk_at dksX9_closes_4 22 rfl rfl)
theorem dX9_closes_113 : decode cX9_closes 113 = .ok (.getfield 72, 3) := dk_180 0 72 (dk_at dksX9_closes_5 0 rfl rfl)
theorem dX9_closes_116 : decode cX9_closes 116 = .ok (.iload_n 2, 1) := dk_28 (dk_at dksX9_closes_5 3 rfl rfl)
theorem dX9_closes_117 : decode cX9_closes 117 = .ok (.iaload, 1) := dk_46 (dk_at dksX9_closes_5 4 rfl rfl)
theorem dX9_closes_118 : decode cX9_closes 118 = .ok (.if_icmp .ge 25, 3) := dk_162 0 25 (dk_at dksX9_closes_5 5 rfl rfl)
theorem dX9_closes_121 : decode cX9_closes 121 = .ok (.aload_n 0, 1) := dk_42 (dk_at dksX9_closes_5 8 rfl rfl)
theorem dX9_closes_122 : decode cX9_closes 122 = .ok (.aload_n 0, 1) := dk_42 (dk_at dksX9_closes_5 9 rfl rfl)
theorem dX9_closes_123 : decode cX9_closes 123 = .ok (.getfield 69, 3) := dk_180 0 69 (dk_at dksX9_closes_5 10 rfl rfl)
theorem dX9_closes_126 : decode cX9_closes 126 = .ok (.bipush 13, 2) := dk_16 13 (dk_at dksX9_closes_5 13 rfl rfl)
theorem dX9_closes_128 : decode cX9_closes 128 = .ok (.iload_n 2, 1) := dk_28 (dk_at dksX9_closes_5 15 rfl rfl)
theorem dX9_closes_129 : decode cX9_closes 129 = .ok (.imul, 1) := dk_104 (dk_at dksX9_closes_5 16 rfl rfl)
theorem dX9_closes_130 : decode cX9_closes 130 = .ok (.iload 4, 2) := dk_21 4 (dk_at dksX9_closes_5 17 rfl rfl)
theorem dX9_closes_132 : decode cX9_closes 132 = .ok (.iadd, 1) := dk_96 (dk_at dksX9_closes_5 19 rfl rfl)
theorem dX9_closes_133 : decode cX9_closes 133 = .ok (.iaload, 1) := dk_46 (dk_at dksX9_closes_5 20 rfl rfl)
theorem dX9_closes_134 : decode cX9_closes 134 = .ok (.invokevirtual 232, 3) := dk_182 0 232 (dk_at dksX9_closes_5 21 rfl rfl)
theorem dX9_closes_137 : decode cX9_closes 137 = .ok (.iinc 4 1, 3) := dk_132 4 1 (dk_at dksX9_closes_6 0 rfl rfl)
theorem dX9_closes_140 : decode cX9_closes 140 = .ok (.goto (-30), 3) := dk_167 255 226 (dk_at dksX9_closes_6 3 rfl rfl)
theorem dX9_closes_143 : decode cX9_closes 143 = .ok (.iinc 3 1, 3) := dk_132 3 1 (dk_at dksX9_closes_6 6 rfl rfl)
theorem dX9_closes_146 : decode cX9_closes 146 = .ok (.goto (-44), 3) := dk_167 255 212 (dk_at dksX9_closes_6 9 rfl rfl)
theorem dX9_closes_149 : decode cX9_closes 149 = .ok (.return_, 1) := dk_177 (dk_at dksX9_closes_6 12 rfl rfl)
abbrev cX9_creep : ByteArray := prog_19_method_45_code
def yX9_creep : MethodName := ⟨RX9, "creep", "(I)I"⟩
def dkwX9_creep_1 : List UInt8 := [181, 0, 28, 28, 172]
abbrev dktX9_creep_1 : List UInt8 := dkwX9_creep_1 ++ []
def dkwX9_creep_0 : List UInt8 := [27, 133, 10, 20, 1, 3, 184, 0, 126, 154, 0, 6, 16, 254, 172, 42, 180, 0, 28, 61, 42, 27]
abbrev dktX9_creep_0 : List UInt8 := dkwX9_creep_0 ++ dktX9_creep_1
theorem dksX9_creep_0 : cX9_creep.data.toList.drop 0 = dktX9_creep_0 := by decide +kernel
theorem dksX9_creep_1 : cX9_creep.data.toList.drop 22 = dktX9_creep_1 := dk_seg dksX9_creep_0 22 rfl rfl
theorem dX9_creep_0 : decode cX9_creep 0 = .ok (.iload_n 1, 1) := dk_27 (dk_at dksX9_creep_0 0 rfl rfl)
theorem dX9_creep_1 : decode cX9_creep 1 = .ok (.i2l, 1) := dk_133 (dk_at dksX9_creep_0 1 rfl rfl)
theorem dX9_creep_2 : decode cX9_creep 2 = .ok (.lconst 1, 1) := dk_10 (dk_at dksX9_creep_0 2 rfl rfl)
theorem dX9_creep_3 : decode cX9_creep 3 = .ok (.ldc2_w 259, 3) := dk_20 1 3 (dk_at dksX9_creep_0 3 rfl rfl)
theorem dX9_creep_6 : decode cX9_creep 6 = .ok (.invokestatic 126, 3) := dk_184 0 126 (dk_at dksX9_creep_0 6 rfl rfl)
theorem dX9_creep_9 : decode cX9_creep 9 = .ok (.ifCond .ne 6, 3) := dk_154 0 6 (dk_at dksX9_creep_0 9 rfl rfl)
theorem dX9_creep_12 : decode cX9_creep 12 = .ok (.bipush (-2), 2) := dk_16 254 (dk_at dksX9_creep_0 12 rfl rfl)
theorem dX9_creep_14 : decode cX9_creep 14 = .ok (.ireturn, 1) := dk_172 (dk_at dksX9_creep_0 14 rfl rfl)
theorem dX9_creep_15 : decode cX9_creep 15 = .ok (.aload_n 0, 1) := dk_42 (dk_at dksX9_creep_0 15 rfl rfl)
theorem dX9_creep_16 : decode cX9_creep 16 = .ok (.getfield 28, 3) := dk_180 0 28 (dk_at dksX9_creep_0 16 rfl rfl)
theorem dX9_creep_19 : decode cX9_creep 19 = .ok (.istore_n 2, 1) := dk_61 (dk_at dksX9_creep_0 19 rfl rfl)
theorem dX9_creep_20 : decode cX9_creep 20 = .ok (.aload_n 0, 1) := dk_42 (dk_at dksX9_creep_0 20 rfl rfl)
theorem dX9_creep_21 : decode cX9_creep 21 = .ok (.iload_n 1, 1) := dk_27 (dk_at dksX9_creep_0 21 rfl rfl)
theorem dX9_creep_22 : decode cX9_creep 22 = .ok (.putfield 28, 3) := dk_181 0 28 (dk_at dksX9_creep_1 0 rfl rfl)
theorem dX9_creep_25 : decode cX9_creep 25 = .ok (.iload_n 2, 1) := dk_28 (dk_at dksX9_creep_1 3 rfl rfl)
theorem dX9_creep_26 : decode cX9_creep 26 = .ok (.ireturn, 1) := dk_172 (dk_at dksX9_creep_1 4 rfl rfl)
abbrev cX9_offset : ByteArray := prog_19_method_46_code
def yX9_offset : MethodName := ⟨RX9, "offset", "(III)I"⟩
def dkwX9_offset_2 : List UInt8 := [16, 6, 27, 104, 28, 96, 29, 79, 21, 4, 172]
abbrev dktX9_offset_2 : List UInt8 := dkwX9_offset_2 ++ []
def dkwX9_offset_1 : List UInt8 := [154, 0, 6, 16, 254, 172, 42, 180, 0, 25, 16, 6, 27, 104, 28, 96, 46, 54, 4, 42, 180, 0, 25]
abbrev dktX9_offset_1 : List UInt8 := dkwX9_offset_1 ++ dktX9_offset_2
def dkwX9_offset_0 : List UInt8 := [42, 27, 28, 182, 0, 133, 154, 0, 5, 2, 172, 29, 133, 20, 1, 5, 20, 0, 209, 184, 0, 126]
abbrev dktX9_offset_0 : List UInt8 := dkwX9_offset_0 ++ dktX9_offset_1
theorem dksX9_offset_0 : cX9_offset.data.toList.drop 0 = dktX9_offset_0 := by decide +kernel
theorem dksX9_offset_1 : cX9_offset.data.toList.drop 22 = dktX9_offset_1 := dk_seg dksX9_offset_0 22 rfl rfl
theorem dksX9_offset_2 : cX9_offset.data.toList.drop 45 = dktX9_offset_2 := dk_seg dksX9_offset_1 23 rfl rfl
theorem dX9_offset_0 : decode cX9_offset 0 = .ok (.aload_n 0, 1) := dk_42 (dk_at dksX9_offset_0 0 rfl rfl)
theorem dX9_offset_1 : decode cX9_offset 1 = .ok (.iload_n 1, 1) := dk_27 (dk_at dksX9_offset_0 1 rfl rfl)
theorem dX9_offset_2 : decode cX9_offset 2 = .ok (.iload_n 2, 1) := dk_28 (dk_at dksX9_offset_0 2 rfl rfl)
theorem dX9_offset_3 : decode cX9_offset 3 = .ok (.invokevirtual 133, 3) := dk_182 0 133 (dk_at dksX9_offset_0 3 rfl rfl)
theorem dX9_offset_6 : decode cX9_offset 6 = .ok (.ifCond .ne 5, 3) := dk_154 0 5 (dk_at dksX9_offset_0 6 rfl rfl)
theorem dX9_offset_9 : decode cX9_offset 9 = .ok (.iconst (-1), 1) := dk_2 (dk_at dksX9_offset_0 9 rfl rfl)
theorem dX9_offset_10 : decode cX9_offset 10 = .ok (.ireturn, 1) := dk_172 (dk_at dksX9_offset_0 10 rfl rfl)
theorem dX9_offset_11 : decode cX9_offset 11 = .ok (.iload_n 3, 1) := dk_29 (dk_at dksX9_offset_0 11 rfl rfl)
theorem dX9_offset_12 : decode cX9_offset 12 = .ok (.i2l, 1) := dk_133 (dk_at dksX9_offset_0 12 rfl rfl)
theorem dX9_offset_13 : decode cX9_offset 13 = .ok (.ldc2_w 261, 3) := dk_20 1 5 (dk_at dksX9_offset_0 13 rfl rfl)
theorem dX9_offset_16 : decode cX9_offset 16 = .ok (.ldc2_w 209, 3) := dk_20 0 209 (dk_at dksX9_offset_0 16 rfl rfl)
theorem dX9_offset_19 : decode cX9_offset 19 = .ok (.invokestatic 126, 3) := dk_184 0 126 (dk_at dksX9_offset_0 19 rfl rfl)
theorem dX9_offset_22 : decode cX9_offset 22 = .ok (.ifCond .ne 6, 3) := dk_154 0 6 (dk_at dksX9_offset_1 0 rfl rfl)
theorem dX9_offset_25 : decode cX9_offset 25 = .ok (.bipush (-2), 2) := dk_16 254 (dk_at dksX9_offset_1 3 rfl rfl)
theorem dX9_offset_27 : decode cX9_offset 27 = .ok (.ireturn, 1) := dk_172 (dk_at dksX9_offset_1 5 rfl rfl)
theorem dX9_offset_28 : decode cX9_offset 28 = .ok (.aload_n 0, 1) := dk_42 (dk_at dksX9_offset_1 6 rfl rfl)
theorem dX9_offset_29 : decode cX9_offset 29 = .ok (.getfield 25, 3) := dk_180 0 25 (dk_at dksX9_offset_1 7 rfl rfl)
theorem dX9_offset_32 : decode cX9_offset 32 = .ok (.bipush 6, 2) := dk_16 6 (dk_at dksX9_offset_1 10 rfl rfl)
theorem dX9_offset_34 : decode cX9_offset 34 = .ok (.iload_n 1, 1) := dk_27 (dk_at dksX9_offset_1 12 rfl rfl)
theorem dX9_offset_35 : decode cX9_offset 35 = .ok (.imul, 1) := dk_104 (dk_at dksX9_offset_1 13 rfl rfl)
theorem dX9_offset_36 : decode cX9_offset 36 = .ok (.iload_n 2, 1) := dk_28 (dk_at dksX9_offset_1 14 rfl rfl)
theorem dX9_offset_37 : decode cX9_offset 37 = .ok (.iadd, 1) := dk_96 (dk_at dksX9_offset_1 15 rfl rfl)
theorem dX9_offset_38 : decode cX9_offset 38 = .ok (.iaload, 1) := dk_46 (dk_at dksX9_offset_1 16 rfl rfl)
theorem dX9_offset_39 : decode cX9_offset 39 = .ok (.istore 4, 2) := dk_54 4 (dk_at dksX9_offset_1 17 rfl rfl)
theorem dX9_offset_41 : decode cX9_offset 41 = .ok (.aload_n 0, 1) := dk_42 (dk_at dksX9_offset_1 19 rfl rfl)
theorem dX9_offset_42 : decode cX9_offset 42 = .ok (.getfield 25, 3) := dk_180 0 25 (dk_at dksX9_offset_1 20 rfl rfl)
theorem dX9_offset_45 : decode cX9_offset 45 = .ok (.bipush 6, 2) := dk_16 6 (dk_at dksX9_offset_2 0 rfl rfl)
theorem dX9_offset_47 : decode cX9_offset 47 = .ok (.iload_n 1, 1) := dk_27 (dk_at dksX9_offset_2 2 rfl rfl)
theorem dX9_offset_48 : decode cX9_offset 48 = .ok (.imul, 1) := dk_104 (dk_at dksX9_offset_2 3 rfl rfl)
theorem dX9_offset_49 : decode cX9_offset 49 = .ok (.iload_n 2, 1) := dk_28 (dk_at dksX9_offset_2 4 rfl rfl)
theorem dX9_offset_50 : decode cX9_offset 50 = .ok (.iadd, 1) := dk_96 (dk_at dksX9_offset_2 5 rfl rfl)
theorem dX9_offset_51 : decode cX9_offset 51 = .ok (.iload_n 3, 1) := dk_29 (dk_at dksX9_offset_2 6 rfl rfl)
theorem dX9_offset_52 : decode cX9_offset 52 = .ok (.iastore, 1) := dk_79 (dk_at dksX9_offset_2 7 rfl rfl)
theorem dX9_offset_53 : decode cX9_offset 53 = .ok (.iload 4, 2) := dk_21 4 (dk_at dksX9_offset_2 8 rfl rfl)
theorem dX9_offset_55 : decode cX9_offset 55 = .ok (.ireturn, 1) := dk_172 (dk_at dksX9_offset_2 10 rfl rfl)
abbrev cX9_run : ByteArray := prog_19_method_47_code
def yX9_run : MethodName := ⟨RX9, "run", "(J)I"⟩
def dkwX9_run_8 : List UInt8 := [167, 255, 222, 42, 89, 180, 1, 9, 4, 96, 181, 1, 9, 42, 180, 1, 9, 4, 100, 172]
abbrev dktX9_run_8 : List UInt8 := dkwX9_run_8 ++ []
def dkwX9_run_7 : List UInt8 := [180, 0, 90, 16, 6, 42, 180, 1, 9, 104, 21, 5, 96, 42, 180, 0, 38, 21, 5, 46, 79, 132, 5, 1]
abbrev dktX9_run_7 : List UInt8 := dkwX9_run_7 ++ dktX9_run_8
def dkwX9_run_6 : List UInt8 := [42, 182, 0, 156, 42, 4, 182, 0, 167, 3, 54, 5, 21, 5, 42, 180, 0, 117, 162, 0, 31, 42]
abbrev dktX9_run_6 : List UInt8 := dkwX9_run_6 ++ dktX9_run_7
def dkwX9_run_5 : List UInt8 := [16, 72, 42, 180, 1, 9, 104, 21, 5, 96, 42, 180, 0, 16, 21, 5, 46, 79, 132, 5, 1, 167, 255, 224]
abbrev dktX9_run_5 : List UInt8 := dkwX9_run_5 ++ dktX9_run_6
def dkwX9_run_4 : List UInt8 := [21, 5, 46, 79, 132, 5, 1, 167, 255, 222, 3, 54, 5, 21, 5, 16, 72, 162, 0, 31, 42, 180, 0, 93]
abbrev dktX9_run_4 : List UInt8 := dkwX9_run_4 ++ dktX9_run_5
def dkwX9_run_3 : List UInt8 := [180, 0, 117, 162, 0, 31, 42, 180, 0, 87, 16, 6, 42, 180, 1, 9, 104, 21, 5, 96, 42, 180, 0, 38]
abbrev dktX9_run_3 : List UInt8 := dkwX9_run_3 ++ dktX9_run_4
def dkwX9_run_2 : List UInt8 := [153, 0, 6, 16, 254, 172, 42, 180, 1, 9, 16, 40, 160, 0, 6, 16, 252, 172, 3, 54, 5, 21, 5, 42]
abbrev dktX9_run_2 : List UInt8 := dkwX9_run_2 ++ dktX9_run_3
def dkwX9_run_1 : List UInt8 := [113, 136, 79, 33, 20, 1, 7, 109, 66, 132, 5, 1, 167, 255, 225, 31, 9, 148, 155, 0, 9, 33, 9, 148]
abbrev dktX9_run_1 : List UInt8 := dkwX9_run_1 ++ dktX9_run_2
def dkwX9_run_0 : List UInt8 := [31, 66, 3, 54, 5, 21, 5, 42, 180, 0, 117, 162, 0, 28, 42, 180, 0, 38, 21, 5, 33, 20, 1, 7]
abbrev dktX9_run_0 : List UInt8 := dkwX9_run_0 ++ dktX9_run_1
theorem dksX9_run_0 : cX9_run.data.toList.drop 0 = dktX9_run_0 := by decide +kernel
theorem dksX9_run_1 : cX9_run.data.toList.drop 24 = dktX9_run_1 := dk_seg dksX9_run_0 24 rfl rfl
theorem dksX9_run_2 : cX9_run.data.toList.drop 48 = dktX9_run_2 := dk_seg dksX9_run_1 24 rfl rfl
theorem dksX9_run_3 : cX9_run.data.toList.drop 72 = dktX9_run_3 := dk_seg dksX9_run_2 24 rfl rfl
theorem dksX9_run_4 : cX9_run.data.toList.drop 96 = dktX9_run_4 := dk_seg dksX9_run_3 24 rfl rfl
theorem dksX9_run_5 : cX9_run.data.toList.drop 120 = dktX9_run_5 := dk_seg dksX9_run_4 24 rfl rfl
theorem dksX9_run_6 : cX9_run.data.toList.drop 144 = dktX9_run_6 := dk_seg dksX9_run_5 24 rfl rfl
theorem dksX9_run_7 : cX9_run.data.toList.drop 166 = dktX9_run_7 := dk_seg dksX9_run_6 22 rfl rfl
theorem dksX9_run_8 : cX9_run.data.toList.drop 190 = dktX9_run_8 := dk_seg dksX9_run_7 24 rfl rfl
theorem dX9_run_0 : decode cX9_run 0 = .ok (.lload_n 1, 1) := dk_31 (dk_at dksX9_run_0 0 rfl rfl)
theorem dX9_run_1 : decode cX9_run 1 = .ok (.lstore_n 3, 1) := dk_66 (dk_at dksX9_run_0 1 rfl rfl)
theorem dX9_run_2 : decode cX9_run 2 = .ok (.iconst 0, 1) := dk_3 (dk_at dksX9_run_0 2 rfl rfl)
theorem dX9_run_3 : decode cX9_run 3 = .ok (.istore 5, 2) := dk_54 5 (dk_at dksX9_run_0 3 rfl rfl)
theorem dX9_run_5 : decode cX9_run 5 = .ok (.iload 5, 2) := dk_21 5 (dk_at dksX9_run_0 5 rfl rfl)
theorem dX9_run_7 : decode cX9_run 7 = .ok (.aload_n 0, 1) := dk_42 (dk_at dksX9_run_0 7 rfl rfl)
theorem dX9_run_8 : decode cX9_run 8 = .ok (.getfield 117, 3) := dk_180 0 117 (dk_at dksX9_run_0 8 rfl rfl)
theorem dX9_run_11 : decode cX9_run 11 = .ok (.if_icmp .ge 28, 3) := dk_162 0 28 (dk_at dksX9_run_0 11 rfl rfl)
theorem dX9_run_14 : decode cX9_run 14 = .ok (.aload_n 0, 1) := dk_42 (dk_at dksX9_run_0 14 rfl rfl)
theorem dX9_run_15 : decode cX9_run 15 = .ok (.getfield 38, 3) := dk_180 0 38 (dk_at dksX9_run_0 15 rfl rfl)
theorem dX9_run_18 : decode cX9_run 18 = .ok (.iload 5, 2) := dk_21 5 (dk_at dksX9_run_0 18 rfl rfl)
theorem dX9_run_20 : decode cX9_run 20 = .ok (.lload_n 3, 1) := dk_33 (dk_at dksX9_run_0 20 rfl rfl)
theorem dX9_run_21 : decode cX9_run 21 = .ok (.ldc2_w 263, 3) := dk_20 1 7 (dk_at dksX9_run_0 21 rfl rfl)
theorem dX9_run_24 : decode cX9_run 24 = .ok (.lrem, 1) := dk_113 (dk_at dksX9_run_1 0 rfl rfl)
theorem dX9_run_25 : decode cX9_run 25 = .ok (.l2i, 1) := dk_136 (dk_at dksX9_run_1 1 rfl rfl)
theorem dX9_run_26 : decode cX9_run 26 = .ok (.iastore, 1) := dk_79 (dk_at dksX9_run_1 2 rfl rfl)
theorem dX9_run_27 : decode cX9_run 27 = .ok (.lload_n 3, 1) := dk_33 (dk_at dksX9_run_1 3 rfl rfl)
theorem dX9_run_28 : decode cX9_run 28 = .ok (.ldc2_w 263, 3) := dk_20 1 7 (dk_at dksX9_run_1 4 rfl rfl)
theorem dX9_run_31 : decode cX9_run 31 = .ok (.ldiv, 1) := dk_109 (dk_at dksX9_run_1 7 rfl rfl)
theorem dX9_run_32 : decode cX9_run 32 = .ok (.lstore_n 3, 1) := dk_66 (dk_at dksX9_run_1 8 rfl rfl)
theorem dX9_run_33 : decode cX9_run 33 = .ok (.iinc 5 1, 3) := dk_132 5 1 (dk_at dksX9_run_1 9 rfl rfl)
theorem dX9_run_36 : decode cX9_run 36 = .ok (.goto (-31), 3) := dk_167 255 225 (dk_at dksX9_run_1 12 rfl rfl)
theorem dX9_run_39 : decode cX9_run 39 = .ok (.lload_n 1, 1) := dk_31 (dk_at dksX9_run_1 15 rfl rfl)
theorem dX9_run_40 : decode cX9_run 40 = .ok (.lconst 0, 1) := dk_9 (dk_at dksX9_run_1 16 rfl rfl)
theorem dX9_run_41 : decode cX9_run 41 = .ok (.lcmp, 1) := dk_148 (dk_at dksX9_run_1 17 rfl rfl)
theorem dX9_run_42 : decode cX9_run 42 = .ok (.ifCond .lt 9, 3) := dk_155 0 9 (dk_at dksX9_run_1 18 rfl rfl)
theorem dX9_run_45 : decode cX9_run 45 = .ok (.lload_n 3, 1) := dk_33 (dk_at dksX9_run_1 21 rfl rfl)
theorem dX9_run_46 : decode cX9_run 46 = .ok (.lconst 0, 1) := dk_9 (dk_at dksX9_run_1 22 rfl rfl)
theorem dX9_run_47 : decode cX9_run 47 = .ok (.lcmp, 1) := dk_148 (dk_at dksX9_run_1 23 rfl rfl)
theorem dX9_run_48 : decode cX9_run 48 = .ok (.ifCond .eq 6, 3) := dk_153 0 6 (dk_at dksX9_run_2 0 rfl rfl)
theorem dX9_run_51 : decode cX9_run 51 = .ok (.bipush (-2), 2) := dk_16 254 (dk_at dksX9_run_2 3 rfl rfl)
theorem dX9_run_53 : decode cX9_run 53 = .ok (.ireturn, 1) := dk_172 (dk_at dksX9_run_2 5 rfl rfl)
theorem dX9_run_54 : decode cX9_run 54 = .ok (.aload_n 0, 1) := dk_42 (dk_at dksX9_run_2 6 rfl rfl)
theorem dX9_run_55 : decode cX9_run 55 = .ok (.getfield 265, 3) := dk_180 1 9 (dk_at dksX9_run_2 7 rfl rfl)
theorem dX9_run_58 : decode cX9_run 58 = .ok (.bipush 40, 2) := dk_16 40 (dk_at dksX9_run_2 10 rfl rfl)
theorem dX9_run_60 : decode cX9_run 60 = .ok (.if_icmp .ne 6, 3) := dk_160 0 6 (dk_at dksX9_run_2 12 rfl rfl)
theorem dX9_run_63 : decode cX9_run 63 = .ok (.bipush (-4), 2) := dk_16 252 (dk_at dksX9_run_2 15 rfl rfl)
theorem dX9_run_65 : decode cX9_run 65 = .ok (.ireturn, 1) := dk_172 (dk_at dksX9_run_2 17 rfl rfl)
theorem dX9_run_66 : decode cX9_run 66 = .ok (.iconst 0, 1) := dk_3 (dk_at dksX9_run_2 18 rfl rfl)
theorem dX9_run_67 : decode cX9_run 67 = .ok (.istore 5, 2) := dk_54 5 (dk_at dksX9_run_2 19 rfl rfl)
theorem dX9_run_69 : decode cX9_run 69 = .ok (.iload 5, 2) := dk_21 5 (dk_at dksX9_run_2 21 rfl rfl)
theorem dX9_run_71 : decode cX9_run 71 = .ok (.aload_n 0, 1) := dk_42 (dk_at dksX9_run_2 23 rfl rfl)
theorem dX9_run_72 : decode cX9_run 72 = .ok (.getfield 117, 3) := dk_180 0 117 (dk_at dksX9_run_3 0 rfl rfl)
theorem dX9_run_75 : decode cX9_run 75 = .ok (.if_icmp .ge 31, 3) := dk_162 0 31 (dk_at dksX9_run_3 3 rfl rfl)
theorem dX9_run_78 : decode cX9_run 78 = .ok (.aload_n 0, 1) := dk_42 (dk_at dksX9_run_3 6 rfl rfl)
theorem dX9_run_79 : decode cX9_run 79 = .ok (.getfield 87, 3) := dk_180 0 87 (dk_at dksX9_run_3 7 rfl rfl)
theorem dX9_run_82 : decode cX9_run 82 = .ok (.bipush 6, 2) := dk_16 6 (dk_at dksX9_run_3 10 rfl rfl)
theorem dX9_run_84 : decode cX9_run 84 = .ok (.aload_n 0, 1) := dk_42 (dk_at dksX9_run_3 12 rfl rfl)
theorem dX9_run_85 : decode cX9_run 85 = .ok (.getfield 265, 3) := dk_180 1 9 (dk_at dksX9_run_3 13 rfl rfl)
theorem dX9_run_88 : decode cX9_run 88 = .ok (.imul, 1) := dk_104 (dk_at dksX9_run_3 16 rfl rfl)
theorem dX9_run_89 : decode cX9_run 89 = .ok (.iload 5, 2) := dk_21 5 (dk_at dksX9_run_3 17 rfl rfl)
theorem dX9_run_91 : decode cX9_run 91 = .ok (.iadd, 1) := dk_96 (dk_at dksX9_run_3 19 rfl rfl)
theorem dX9_run_92 : decode cX9_run 92 = .ok (.aload_n 0, 1) := dk_42 (dk_at dksX9_run_3 20 rfl rfl)
theorem dX9_run_93 : decode cX9_run 93 = .ok (.getfield 38, 3) := dk_180 0 38 (dk_at dksX9_run_3 21 rfl rfl)
theorem dX9_run_96 : decode cX9_run 96 = .ok (.iload 5, 2) := dk_21 5 (dk_at dksX9_run_4 0 rfl rfl)
theorem dX9_run_98 : decode cX9_run 98 = .ok (.iaload, 1) := dk_46 (dk_at dksX9_run_4 2 rfl rfl)
theorem dX9_run_99 : decode cX9_run 99 = .ok (.iastore, 1) := dk_79 (dk_at dksX9_run_4 3 rfl rfl)
theorem dX9_run_100 : decode cX9_run 100 = .ok (.iinc 5 1, 3) := dk_132 5 1 (dk_at dksX9_run_4 4 rfl rfl)
theorem dX9_run_103 : decode cX9_run 103 = .ok (.goto (-34), 3) := dk_167 255 222 (dk_at dksX9_run_4 7 rfl rfl)
theorem dX9_run_106 : decode cX9_run 106 = .ok (.iconst 0, 1) := dk_3 (dk_at dksX9_run_4 10 rfl rfl)
theorem dX9_run_107 : decode cX9_run 107 = .ok (.istore 5, 2) := dk_54 5 (dk_at dksX9_run_4 11 rfl rfl)
theorem dX9_run_109 : decode cX9_run 109 = .ok (.iload 5, 2) := dk_21 5 (dk_at dksX9_run_4 13 rfl rfl)
theorem dX9_run_111 : decode cX9_run 111 = .ok (.bipush 72, 2) := dk_16 72 (dk_at dksX9_run_4 15 rfl rfl)
theorem dX9_run_113 : decode cX9_run 113 = .ok (.if_icmp .ge 31, 3) := dk_162 0 31 (dk_at dksX9_run_4 17 rfl rfl)
theorem dX9_run_116 : decode cX9_run 116 = .ok (.aload_n 0, 1) := dk_42 (dk_at dksX9_run_4 20 rfl rfl)
theorem dX9_run_117 : decode cX9_run 117 = .ok (.getfield 93, 3) := dk_180 0 93 (dk_at dksX9_run_4 21 rfl rfl)
theorem dX9_run_120 : decode cX9_run 120 = .ok (.bipush 72, 2) := dk_16 72 (dk_at dksX9_run_5 0 rfl rfl)
theorem dX9_run_122 : decode cX9_run 122 = .ok (.aload_n 0, 1) := dk_42 (dk_at dksX9_run_5 2 rfl rfl)
theorem dX9_run_123 : decode cX9_run 123 = .ok (.getfield 265, 3) := dk_180 1 9 (dk_at dksX9_run_5 3 rfl rfl)
theorem dX9_run_126 : decode cX9_run 126 = .ok (.imul, 1) := dk_104 (dk_at dksX9_run_5 6 rfl rfl)
theorem dX9_run_127 : decode cX9_run 127 = .ok (.iload 5, 2) := dk_21 5 (dk_at dksX9_run_5 7 rfl rfl)
theorem dX9_run_129 : decode cX9_run 129 = .ok (.iadd, 1) := dk_96 (dk_at dksX9_run_5 9 rfl rfl)
theorem dX9_run_130 : decode cX9_run 130 = .ok (.aload_n 0, 1) := dk_42 (dk_at dksX9_run_5 10 rfl rfl)
theorem dX9_run_131 : decode cX9_run 131 = .ok (.getfield 16, 3) := dk_180 0 16 (dk_at dksX9_run_5 11 rfl rfl)
theorem dX9_run_134 : decode cX9_run 134 = .ok (.iload 5, 2) := dk_21 5 (dk_at dksX9_run_5 14 rfl rfl)
theorem dX9_run_136 : decode cX9_run 136 = .ok (.iaload, 1) := dk_46 (dk_at dksX9_run_5 16 rfl rfl)
theorem dX9_run_137 : decode cX9_run 137 = .ok (.iastore, 1) := dk_79 (dk_at dksX9_run_5 17 rfl rfl)
theorem dX9_run_138 : decode cX9_run 138 = .ok (.iinc 5 1, 3) := dk_132 5 1 (dk_at dksX9_run_5 18 rfl rfl)
theorem dX9_run_141 : decode cX9_run 141 = .ok (.goto (-32), 3) := dk_167 255 224 (dk_at dksX9_run_5 21 rfl rfl)
theorem dX9_run_144 : decode cX9_run 144 = .ok (.aload_n 0, 1) := dk_42 (dk_at dksX9_run_6 0 rfl rfl)
theorem dX9_run_145 : decode cX9_run 145 = .ok (.invokevirtual 156, 3) := dk_182 0 156 (dk_at dksX9_run_6 1 rfl rfl)
theorem dX9_run_148 : decode cX9_run 148 = .ok (.aload_n 0, 1) := dk_42 (dk_at dksX9_run_6 4 rfl rfl)
theorem dX9_run_149 : decode cX9_run 149 = .ok (.iconst 1, 1) := dk_4 (dk_at dksX9_run_6 5 rfl rfl)
theorem dX9_run_150 : decode cX9_run 150 = .ok (.invokevirtual 167, 3) := dk_182 0 167 (dk_at dksX9_run_6 6 rfl rfl)
theorem dX9_run_153 : decode cX9_run 153 = .ok (.iconst 0, 1) := dk_3 (dk_at dksX9_run_6 9 rfl rfl)
theorem dX9_run_154 : decode cX9_run 154 = .ok (.istore 5, 2) := dk_54 5 (dk_at dksX9_run_6 10 rfl rfl)
theorem dX9_run_156 : decode cX9_run 156 = .ok (.iload 5, 2) := dk_21 5 (dk_at dksX9_run_6 12 rfl rfl)
theorem dX9_run_158 : decode cX9_run 158 = .ok (.aload_n 0, 1) := dk_42 (dk_at dksX9_run_6 14 rfl rfl)
theorem dX9_run_159 : decode cX9_run 159 = .ok (.getfield 117, 3) := dk_180 0 117 (dk_at dksX9_run_6 15 rfl rfl)
theorem dX9_run_162 : decode cX9_run 162 = .ok (.if_icmp .ge 31, 3) := dk_162 0 31 (dk_at dksX9_run_6 18 rfl rfl)
theorem dX9_run_165 : decode cX9_run 165 = .ok (.aload_n 0, 1) := dk_42 (dk_at dksX9_run_6 21 rfl rfl)
theorem dX9_run_166 : decode cX9_run 166 = .ok (.getfield 90, 3) := dk_180 0 90 (dk_at dksX9_run_7 0 rfl rfl)
theorem dX9_run_169 : decode cX9_run 169 = .ok (.bipush 6, 2) := dk_16 6 (dk_at dksX9_run_7 3 rfl rfl)
theorem dX9_run_171 : decode cX9_run 171 = .ok (.aload_n 0, 1) := dk_42 (dk_at dksX9_run_7 5 rfl rfl)
theorem dX9_run_172 : decode cX9_run 172 = .ok (.getfield 265, 3) := dk_180 1 9 (dk_at dksX9_run_7 6 rfl rfl)
theorem dX9_run_175 : decode cX9_run 175 = .ok (.imul, 1) := dk_104 (dk_at dksX9_run_7 9 rfl rfl)
theorem dX9_run_176 : decode cX9_run 176 = .ok (.iload 5, 2) := dk_21 5 (dk_at dksX9_run_7 10 rfl rfl)
theorem dX9_run_178 : decode cX9_run 178 = .ok (.iadd, 1) := dk_96 (dk_at dksX9_run_7 12 rfl rfl)
theorem dX9_run_179 : decode cX9_run 179 = .ok (.aload_n 0, 1) := dk_42 (dk_at dksX9_run_7 13 rfl rfl)
theorem dX9_run_180 : decode cX9_run 180 = .ok (.getfield 38, 3) := dk_180 0 38 (dk_at dksX9_run_7 14 rfl rfl)
theorem dX9_run_183 : decode cX9_run 183 = .ok (.iload 5, 2) := dk_21 5 (dk_at dksX9_run_7 17 rfl rfl)
theorem dX9_run_185 : decode cX9_run 185 = .ok (.iaload, 1) := dk_46 (dk_at dksX9_run_7 19 rfl rfl)
theorem dX9_run_186 : decode cX9_run 186 = .ok (.iastore, 1) := dk_79 (dk_at dksX9_run_7 20 rfl rfl)
theorem dX9_run_187 : decode cX9_run 187 = .ok (.iinc 5 1, 3) := dk_132 5 1 (dk_at dksX9_run_7 21 rfl rfl)
theorem dX9_run_190 : decode cX9_run 190 = .ok (.goto (-34), 3) := dk_167 255 222 (dk_at dksX9_run_8 0 rfl rfl)
theorem dX9_run_193 : decode cX9_run 193 = .ok (.aload_n 0, 1) := dk_42 (dk_at dksX9_run_8 3 rfl rfl)
theorem dX9_run_194 : decode cX9_run 194 = .ok (.dup, 1) := dk_89 (dk_at dksX9_run_8 4 rfl rfl)
theorem dX9_run_195 : decode cX9_run 195 = .ok (.getfield 265, 3) := dk_180 1 9 (dk_at dksX9_run_8 5 rfl rfl)
theorem dX9_run_198 : decode cX9_run 198 = .ok (.iconst 1, 1) := dk_4 (dk_at dksX9_run_8 8 rfl rfl)
theorem dX9_run_199 : decode cX9_run 199 = .ok (.iadd, 1) := dk_96 (dk_at dksX9_run_8 9 rfl rfl)
theorem dX9_run_200 : decode cX9_run 200 = .ok (.putfield 265, 3) := dk_181 1 9 (dk_at dksX9_run_8 10 rfl rfl)
theorem dX9_run_203 : decode cX9_run 203 = .ok (.aload_n 0, 1) := dk_42 (dk_at dksX9_run_8 13 rfl rfl)
theorem dX9_run_204 : decode cX9_run 204 = .ok (.getfield 265, 3) := dk_180 1 9 (dk_at dksX9_run_8 14 rfl rfl)
theorem dX9_run_207 : decode cX9_run 207 = .ok (.iconst 1, 1) := dk_4 (dk_at dksX9_run_8 17 rfl rfl)
theorem dX9_run_208 : decode cX9_run 208 = .ok (.isub, 1) := dk_100 (dk_at dksX9_run_8 18 rfl rfl)
theorem dX9_run_209 : decode cX9_run 209 = .ok (.ireturn, 1) := dk_172 (dk_at dksX9_run_8 19 rfl rfl)
abbrev cX9_out : ByteArray := prog_19_method_49_code
def yX9_out : MethodName := ⟨RX9, "out", "(II)I"⟩
def dkwX9_out_1 : List UInt8 := [28, 96, 46, 167, 0, 4, 2, 172]
abbrev dktX9_out_1 : List UInt8 := dkwX9_out_1 ++ []
def dkwX9_out_0 : List UInt8 := [42, 27, 182, 1, 12, 153, 0, 25, 42, 28, 182, 0, 159, 153, 0, 17, 42, 180, 0, 90, 16, 6, 27, 104]
abbrev dktX9_out_0 : List UInt8 := dkwX9_out_0 ++ dktX9_out_1
theorem dksX9_out_0 : cX9_out.data.toList.drop 0 = dktX9_out_0 := by decide +kernel
theorem dksX9_out_1 : cX9_out.data.toList.drop 24 = dktX9_out_1 := dk_seg dksX9_out_0 24 rfl rfl
theorem dX9_out_0 : decode cX9_out 0 = .ok (.aload_n 0, 1) := dk_42 (dk_at dksX9_out_0 0 rfl rfl)
theorem dX9_out_1 : decode cX9_out 1 = .ok (.iload_n 1, 1) := dk_27 (dk_at dksX9_out_0 1 rfl rfl)
theorem dX9_out_2 : decode cX9_out 2 = .ok (.invokevirtual 268, 3) := dk_182 1 12 (dk_at dksX9_out_0 2 rfl rfl)
theorem dX9_out_5 : decode cX9_out 5 = .ok (.ifCond .eq 25, 3) := dk_153 0 25 (dk_at dksX9_out_0 5 rfl rfl)
theorem dX9_out_8 : decode cX9_out 8 = .ok (.aload_n 0, 1) := dk_42 (dk_at dksX9_out_0 8 rfl rfl)
theorem dX9_out_9 : decode cX9_out 9 = .ok (.iload_n 2, 1) := dk_28 (dk_at dksX9_out_0 9 rfl rfl)
theorem dX9_out_10 : decode cX9_out 10 = .ok (.invokevirtual 159, 3) := dk_182 0 159 (dk_at dksX9_out_0 10 rfl rfl)
theorem dX9_out_13 : decode cX9_out 13 = .ok (.ifCond .eq 17, 3) := dk_153 0 17 (dk_at dksX9_out_0 13 rfl rfl)
theorem dX9_out_16 : decode cX9_out 16 = .ok (.aload_n 0, 1) := dk_42 (dk_at dksX9_out_0 16 rfl rfl)
theorem dX9_out_17 : decode cX9_out 17 = .ok (.getfield 90, 3) := dk_180 0 90 (dk_at dksX9_out_0 17 rfl rfl)
theorem dX9_out_20 : decode cX9_out 20 = .ok (.bipush 6, 2) := dk_16 6 (dk_at dksX9_out_0 20 rfl rfl)
theorem dX9_out_22 : decode cX9_out 22 = .ok (.iload_n 1, 1) := dk_27 (dk_at dksX9_out_0 22 rfl rfl)
theorem dX9_out_23 : decode cX9_out 23 = .ok (.imul, 1) := dk_104 (dk_at dksX9_out_0 23 rfl rfl)
theorem dX9_out_24 : decode cX9_out 24 = .ok (.iload_n 2, 1) := dk_28 (dk_at dksX9_out_1 0 rfl rfl)
theorem dX9_out_25 : decode cX9_out 25 = .ok (.iadd, 1) := dk_96 (dk_at dksX9_out_1 1 rfl rfl)
theorem dX9_out_26 : decode cX9_out 26 = .ok (.iaload, 1) := dk_46 (dk_at dksX9_out_1 2 rfl rfl)
theorem dX9_out_27 : decode cX9_out 27 = .ok (.goto 4, 3) := dk_167 0 4 (dk_at dksX9_out_1 3 rfl rfl)
theorem dX9_out_30 : decode cX9_out 30 = .ok (.iconst (-1), 1) := dk_2 (dk_at dksX9_out_1 6 rfl rfl)
theorem dX9_out_31 : decode cX9_out 31 = .ok (.ireturn, 1) := dk_172 (dk_at dksX9_out_1 7 rfl rfl)
abbrev cX9_isRun : ByteArray := prog_19_method_48_code
def yX9_isRun : MethodName := ⟨RX9, "isRun", "(I)Z"⟩
def dkwX9_isRun_0 : List UInt8 := [27, 155, 0, 15, 27, 42, 180, 1, 9, 162, 0, 7, 4, 167, 0, 4, 3, 172]
abbrev dktX9_isRun_0 : List UInt8 := dkwX9_isRun_0 ++ []
theorem dksX9_isRun_0 : cX9_isRun.data.toList.drop 0 = dktX9_isRun_0 := by decide +kernel
theorem dX9_isRun_0 : decode cX9_isRun 0 = .ok (.iload_n 1, 1) := dk_27 (dk_at dksX9_isRun_0 0 rfl rfl)
theorem dX9_isRun_1 : decode cX9_isRun 1 = .ok (.ifCond .lt 15, 3) := dk_155 0 15 (dk_at dksX9_isRun_0 1 rfl rfl)
theorem dX9_isRun_4 : decode cX9_isRun 4 = .ok (.iload_n 1, 1) := dk_27 (dk_at dksX9_isRun_0 4 rfl rfl)
theorem dX9_isRun_5 : decode cX9_isRun 5 = .ok (.aload_n 0, 1) := dk_42 (dk_at dksX9_isRun_0 5 rfl rfl)
theorem dX9_isRun_6 : decode cX9_isRun 6 = .ok (.getfield 265, 3) := dk_180 1 9 (dk_at dksX9_isRun_0 6 rfl rfl)
theorem dX9_isRun_9 : decode cX9_isRun 9 = .ok (.if_icmp .ge 7, 3) := dk_162 0 7 (dk_at dksX9_isRun_0 9 rfl rfl)
theorem dX9_isRun_12 : decode cX9_isRun 12 = .ok (.iconst 1, 1) := dk_4 (dk_at dksX9_isRun_0 12 rfl rfl)
theorem dX9_isRun_13 : decode cX9_isRun 13 = .ok (.goto 4, 3) := dk_167 0 4 (dk_at dksX9_isRun_0 13 rfl rfl)
theorem dX9_isRun_16 : decode cX9_isRun 16 = .ok (.iconst 0, 1) := dk_3 (dk_at dksX9_isRun_0 16 rfl rfl)
theorem dX9_isRun_17 : decode cX9_isRun 17 = .ok (.ireturn, 1) := dk_172 (dk_at dksX9_isRun_0 17 rfl rfl)
abbrev cX9_reworked : ByteArray := prog_19_method_52_code
def yX9_reworked : MethodName := ⟨RX9, "reworked", "(II)I"⟩
def dkwX9_reworked_1 : List UInt8 := [180, 0, 38, 28, 46, 172]
abbrev dktX9_reworked_1 : List UInt8 := dkwX9_reworked_1 ++ []
def dkwX9_reworked_0 : List UInt8 := [42, 27, 182, 1, 12, 153, 0, 11, 42, 28, 182, 0, 159, 154, 0, 5, 2, 172, 42, 27, 182, 1, 21, 42]
abbrev dktX9_reworked_0 : List UInt8 := dkwX9_reworked_0 ++ dktX9_reworked_1
theorem dksX9_reworked_0 : cX9_reworked.data.toList.drop 0 = dktX9_reworked_0 := by decide +kernel
theorem dksX9_reworked_1 : cX9_reworked.data.toList.drop 24 = dktX9_reworked_1 := dk_seg dksX9_reworked_0 24 rfl rfl
theorem dX9_reworked_0 : decode cX9_reworked 0 = .ok (.aload_n 0, 1) := dk_42 (dk_at dksX9_reworked_0 0 rfl rfl)
theorem dX9_reworked_1 : decode cX9_reworked 1 = .ok (.iload_n 1, 1) := dk_27 (dk_at dksX9_reworked_0 1 rfl rfl)
theorem dX9_reworked_2 : decode cX9_reworked 2 = .ok (.invokevirtual 268, 3) := dk_182 1 12 (dk_at dksX9_reworked_0 2 rfl rfl)
theorem dX9_reworked_5 : decode cX9_reworked 5 = .ok (.ifCond .eq 11, 3) := dk_153 0 11 (dk_at dksX9_reworked_0 5 rfl rfl)
theorem dX9_reworked_8 : decode cX9_reworked 8 = .ok (.aload_n 0, 1) := dk_42 (dk_at dksX9_reworked_0 8 rfl rfl)
theorem dX9_reworked_9 : decode cX9_reworked 9 = .ok (.iload_n 2, 1) := dk_28 (dk_at dksX9_reworked_0 9 rfl rfl)
theorem dX9_reworked_10 : decode cX9_reworked 10 = .ok (.invokevirtual 159, 3) := dk_182 0 159 (dk_at dksX9_reworked_0 10 rfl rfl)
theorem dX9_reworked_13 : decode cX9_reworked 13 = .ok (.ifCond .ne 5, 3) := dk_154 0 5 (dk_at dksX9_reworked_0 13 rfl rfl)
theorem dX9_reworked_16 : decode cX9_reworked 16 = .ok (.iconst (-1), 1) := dk_2 (dk_at dksX9_reworked_0 16 rfl rfl)
theorem dX9_reworked_17 : decode cX9_reworked 17 = .ok (.ireturn, 1) := dk_172 (dk_at dksX9_reworked_0 17 rfl rfl)
theorem dX9_reworked_18 : decode cX9_reworked 18 = .ok (.aload_n 0, 1) := dk_42 (dk_at dksX9_reworked_0 18 rfl rfl)
theorem dX9_reworked_19 : decode cX9_reworked 19 = .ok (.iload_n 1, 1) := dk_27 (dk_at dksX9_reworked_0 19 rfl rfl)
theorem dX9_reworked_20 : decode cX9_reworked 20 = .ok (.invokevirtual 277, 3) := dk_182 1 21 (dk_at dksX9_reworked_0 20 rfl rfl)
theorem dX9_reworked_23 : decode cX9_reworked 23 = .ok (.aload_n 0, 1) := dk_42 (dk_at dksX9_reworked_0 23 rfl rfl)
theorem dX9_reworked_24 : decode cX9_reworked 24 = .ok (.getfield 38, 3) := dk_180 0 38 (dk_at dksX9_reworked_1 0 rfl rfl)
theorem dX9_reworked_27 : decode cX9_reworked 27 = .ok (.iload_n 2, 1) := dk_28 (dk_at dksX9_reworked_1 3 rfl rfl)
theorem dX9_reworked_28 : decode cX9_reworked 28 = .ok (.iaload, 1) := dk_46 (dk_at dksX9_reworked_1 4 rfl rfl)
theorem dX9_reworked_29 : decode cX9_reworked 29 = .ok (.ireturn, 1) := dk_172 (dk_at dksX9_reworked_1 5 rfl rfl)
abbrev cX9_reworks : ByteArray := prog_19_method_51_code
def yX9_reworks : MethodName := ⟨RX9, "reworks", "(I)V"⟩
def dkwX9_reworks_3 : List UInt8 := [132, 2, 1, 167, 255, 228, 42, 4, 182, 0, 167, 177]
abbrev dktX9_reworks_3 : List UInt8 := dkwX9_reworks_3 ++ []
def dkwX9_reworks_2 : List UInt8 := [180, 0, 117, 162, 0, 26, 42, 180, 0, 38, 28, 42, 180, 0, 87, 16, 6, 27, 104, 28, 96, 46, 79]
abbrev dktX9_reworks_2 : List UInt8 := dkwX9_reworks_2 ++ dktX9_reworks_3
def dkwX9_reworks_1 : List UInt8 := [79, 42, 180, 0, 35, 28, 42, 28, 27, 182, 1, 18, 79, 132, 2, 1, 167, 255, 218, 3, 61, 28, 42]
abbrev dktX9_reworks_1 : List UInt8 := dkwX9_reworks_1 ++ dktX9_reworks_2
def dkwX9_reworks_0 : List UInt8 := [3, 61, 28, 16, 72, 162, 0, 38, 42, 180, 0, 32, 28, 42, 180, 0, 93, 16, 72, 27, 104, 28, 96, 46]
abbrev dktX9_reworks_0 : List UInt8 := dkwX9_reworks_0 ++ dktX9_reworks_1
theorem dksX9_reworks_0 : cX9_reworks.data.toList.drop 0 = dktX9_reworks_0 := by decide +kernel
theorem dksX9_reworks_1 : cX9_reworks.data.toList.drop 24 = dktX9_reworks_1 := dk_seg dksX9_reworks_0 24 rfl rfl
theorem dksX9_reworks_2 : cX9_reworks.data.toList.drop 47 = dktX9_reworks_2 := dk_seg dksX9_reworks_1 23 rfl rfl
theorem dksX9_reworks_3 : cX9_reworks.data.toList.drop 70 = dktX9_reworks_3 := dk_seg dksX9_reworks_2 23 rfl rfl
theorem dX9_reworks_0 : decode cX9_reworks 0 = .ok (.iconst 0, 1) := dk_3 (dk_at dksX9_reworks_0 0 rfl rfl)
theorem dX9_reworks_1 : decode cX9_reworks 1 = .ok (.istore_n 2, 1) := dk_61 (dk_at dksX9_reworks_0 1 rfl rfl)
theorem dX9_reworks_2 : decode cX9_reworks 2 = .ok (.iload_n 2, 1) := dk_28 (dk_at dksX9_reworks_0 2 rfl rfl)
theorem dX9_reworks_3 : decode cX9_reworks 3 = .ok (.bipush 72, 2) := dk_16 72 (dk_at dksX9_reworks_0 3 rfl rfl)
theorem dX9_reworks_5 : decode cX9_reworks 5 = .ok (.if_icmp .ge 38, 3) := dk_162 0 38 (dk_at dksX9_reworks_0 5 rfl rfl)
theorem dX9_reworks_8 : decode cX9_reworks 8 = .ok (.aload_n 0, 1) := dk_42 (dk_at dksX9_reworks_0 8 rfl rfl)
theorem dX9_reworks_9 : decode cX9_reworks 9 = .ok (.getfield 32, 3) := dk_180 0 32 (dk_at dksX9_reworks_0 9 rfl rfl)
theorem dX9_reworks_12 : decode cX9_reworks 12 = .ok (.iload_n 2, 1) := dk_28 (dk_at dksX9_reworks_0 12 rfl rfl)
theorem dX9_reworks_13 : decode cX9_reworks 13 = .ok (.aload_n 0, 1) := dk_42 (dk_at dksX9_reworks_0 13 rfl rfl)
theorem dX9_reworks_14 : decode cX9_reworks 14 = .ok (.getfield 93, 3) := dk_180 0 93 (dk_at dksX9_reworks_0 14 rfl rfl)
theorem dX9_reworks_17 : decode cX9_reworks 17 = .ok (.bipush 72, 2) := dk_16 72 (dk_at dksX9_reworks_0 17 rfl rfl)
theorem dX9_reworks_19 : decode cX9_reworks 19 = .ok (.iload_n 1, 1) := dk_27 (dk_at dksX9_reworks_0 19 rfl rfl)
theorem dX9_reworks_20 : decode cX9_reworks 20 = .ok (.imul, 1) := dk_104 (dk_at dksX9_reworks_0 20 rfl rfl)
theorem dX9_reworks_21 : decode cX9_reworks 21 = .ok (.iload_n 2, 1) := dk_28 (dk_at dksX9_reworks_0 21 rfl rfl)
theorem dX9_reworks_22 : decode cX9_reworks 22 = .ok (.iadd, 1) := dk_96 (dk_at dksX9_reworks_0 22 rfl rfl)
theorem dX9_reworks_23 : decode cX9_reworks 23 = .ok (.iaload, 1) := dk_46 (dk_at dksX9_reworks_0 23 rfl rfl)
theorem dX9_reworks_24 : decode cX9_reworks 24 = .ok (.iastore, 1) := dk_79 (dk_at dksX9_reworks_1 0 rfl rfl)
theorem dX9_reworks_25 : decode cX9_reworks 25 = .ok (.aload_n 0, 1) := dk_42 (dk_at dksX9_reworks_1 1 rfl rfl)
theorem dX9_reworks_26 : decode cX9_reworks 26 = .ok (.getfield 35, 3) := dk_180 0 35 (dk_at dksX9_reworks_1 2 rfl rfl)
theorem dX9_reworks_29 : decode cX9_reworks 29 = .ok (.iload_n 2, 1) := dk_28 (dk_at dksX9_reworks_1 5 rfl rfl)
theorem dX9_reworks_30 : decode cX9_reworks 30 = .ok (.aload_n 0, 1) := dk_42 (dk_at dksX9_reworks_1 6 rfl rfl)
theorem dX9_reworks_31 : decode cX9_reworks 31 = .ok (.iload_n 2, 1) := dk_28 (dk_at dksX9_reworks_1 7 rfl rfl)
theorem dX9_reworks_32 : decode cX9_reworks 32 = .ok (.iload_n 1, 1) := dk_27 (dk_at dksX9_reworks_1 8 rfl rfl)
theorem dX9_reworks_33 : decode cX9_reworks 33 = .ok (.invokevirtual 274, 3) := dk_182 1 18 (dk_at dksX9_reworks_1 9 rfl rfl)
theorem dX9_reworks_36 : decode cX9_reworks 36 = .ok (.iastore, 1) := dk_79 (dk_at dksX9_reworks_1 12 rfl rfl)
theorem dX9_reworks_37 : decode cX9_reworks 37 = .ok (.iinc 2 1, 3) := dk_132 2 1 (dk_at dksX9_reworks_1 13 rfl rfl)
theorem dX9_reworks_40 : decode cX9_reworks 40 = .ok (.goto (-38), 3) := dk_167 255 218 (dk_at dksX9_reworks_1 16 rfl rfl)
theorem dX9_reworks_43 : decode cX9_reworks 43 = .ok (.iconst 0, 1) := dk_3 (dk_at dksX9_reworks_1 19 rfl rfl)
theorem dX9_reworks_44 : decode cX9_reworks 44 = .ok (.istore_n 2, 1) := dk_61 (dk_at dksX9_reworks_1 20 rfl rfl)
theorem dX9_reworks_45 : decode cX9_reworks 45 = .ok (.iload_n 2, 1) := dk_28 (dk_at dksX9_reworks_1 21 rfl rfl)
theorem dX9_reworks_46 : decode cX9_reworks 46 = .ok (.aload_n 0, 1) := dk_42 (dk_at dksX9_reworks_1 22 rfl rfl)
theorem dX9_reworks_47 : decode cX9_reworks 47 = .ok (.getfield 117, 3) := dk_180 0 117 (dk_at dksX9_reworks_2 0 rfl rfl)
theorem dX9_reworks_50 : decode cX9_reworks 50 = .ok (.if_icmp .ge 26, 3) := dk_162 0 26 (dk_at dksX9_reworks_2 3 rfl rfl)
theorem dX9_reworks_53 : decode cX9_reworks 53 = .ok (.aload_n 0, 1) := dk_42 (dk_at dksX9_reworks_2 6 rfl rfl)
theorem dX9_reworks_54 : decode cX9_reworks 54 = .ok (.getfield 38, 3) := dk_180 0 38 (dk_at dksX9_reworks_2 7 rfl rfl)
theorem dX9_reworks_57 : decode cX9_reworks 57 = .ok (.iload_n 2, 1) := dk_28 (dk_at dksX9_reworks_2 10 rfl rfl)
theorem dX9_reworks_58 : decode cX9_reworks 58 = .ok (.aload_n 0, 1) := dk_42 (dk_at dksX9_reworks_2 11 rfl rfl)
theorem dX9_reworks_59 : decode cX9_reworks 59 = .ok (.getfield 87, 3) := dk_180 0 87 (dk_at dksX9_reworks_2 12 rfl rfl)
theorem dX9_reworks_62 : decode cX9_reworks 62 = .ok (.bipush 6, 2) := dk_16 6 (dk_at dksX9_reworks_2 15 rfl rfl)
theorem dX9_reworks_64 : decode cX9_reworks 64 = .ok (.iload_n 1, 1) := dk_27 (dk_at dksX9_reworks_2 17 rfl rfl)
theorem dX9_reworks_65 : decode cX9_reworks 65 = .ok (.imul, 1) := dk_104 (dk_at dksX9_reworks_2 18 rfl rfl)
theorem dX9_reworks_66 : decode cX9_reworks 66 = .ok (.iload_n 2, 1) := dk_28 (dk_at dksX9_reworks_2 19 rfl rfl)
theorem dX9_reworks_67 : decode cX9_reworks 67 = .ok (.iadd, 1) := dk_96 (dk_at dksX9_reworks_2 20 rfl rfl)
theorem dX9_reworks_68 : decode cX9_reworks 68 = .ok (.iaload, 1) := dk_46 (dk_at dksX9_reworks_2 21 rfl rfl)
theorem dX9_reworks_69 : decode cX9_reworks 69 = .ok (.iastore, 1) := dk_79 (dk_at dksX9_reworks_2 22 rfl rfl)
theorem dX9_reworks_70 : decode cX9_reworks 70 = .ok (.iinc 2 1, 3) := dk_132 2 1 (dk_at dksX9_reworks_3 0 rfl rfl)
theorem dX9_reworks_73 : decode cX9_reworks 73 = .ok (.goto (-28), 3) := dk_167 255 228 (dk_at dksX9_reworks_3 3 rfl rfl)
theorem dX9_reworks_76 : decode cX9_reworks 76 = .ok (.aload_n 0, 1) := dk_42 (dk_at dksX9_reworks_3 6 rfl rfl)
theorem dX9_reworks_77 : decode cX9_reworks 77 = .ok (.iconst 1, 1) := dk_4 (dk_at dksX9_reworks_3 7 rfl rfl)
theorem dX9_reworks_78 : decode cX9_reworks 78 = .ok (.invokevirtual 167, 3) := dk_182 0 167 (dk_at dksX9_reworks_3 8 rfl rfl)
theorem dX9_reworks_81 : decode cX9_reworks 81 = .ok (.return_, 1) := dk_177 (dk_at dksX9_reworks_3 11 rfl rfl)
abbrev cX9_known : ByteArray := prog_19_method_50_code
def yX9_known : MethodName := ⟨RX9, "known", "(II)I"⟩
def dkwX9_known_3 : List UInt8 := [167, 0, 9, 42, 180, 0, 99, 29, 46, 172]
abbrev dktX9_known_3 : List UInt8 := dkwX9_known_3 ++ []
def dkwX9_known_2 : List UInt8 := [46, 42, 180, 0, 102, 29, 46, 161, 0, 6, 21, 4, 62, 132, 4, 1, 167, 255, 199, 29, 156, 0, 7, 3]
abbrev dktX9_known_2 : List UInt8 := dkwX9_known_2 ++ dktX9_known_3
def dkwX9_known_1 : List UInt8 := [160, 0, 37, 42, 180, 0, 102, 21, 4, 46, 28, 163, 0, 26, 29, 155, 0, 19, 42, 180, 0, 102, 21, 4]
abbrev dktX9_known_1 : List UInt8 := dkwX9_known_1 ++ dktX9_known_2
def dkwX9_known_0 : List UInt8 := [2, 62, 3, 54, 4, 21, 4, 42, 180, 1, 15, 162, 0, 54, 42, 180, 0, 96, 21, 4, 46, 27]
abbrev dktX9_known_0 : List UInt8 := dkwX9_known_0 ++ dktX9_known_1
theorem dksX9_known_0 : cX9_known.data.toList.drop 0 = dktX9_known_0 := by decide +kernel
theorem dksX9_known_1 : cX9_known.data.toList.drop 22 = dktX9_known_1 := dk_seg dksX9_known_0 22 rfl rfl
theorem dksX9_known_2 : cX9_known.data.toList.drop 46 = dktX9_known_2 := dk_seg dksX9_known_1 24 rfl rfl
theorem dksX9_known_3 : cX9_known.data.toList.drop 70 = dktX9_known_3 := dk_seg dksX9_known_2 24 rfl rfl
theorem dX9_known_0 : decode cX9_known 0 = .ok (.iconst (-1), 1) := dk_2 (dk_at dksX9_known_0 0 rfl rfl)
theorem dX9_known_1 : decode cX9_known 1 = .ok (.istore_n 3, 1) := dk_62 (dk_at dksX9_known_0 1 rfl rfl)
theorem dX9_known_2 : decode cX9_known 2 = .ok (.iconst 0, 1) := dk_3 (dk_at dksX9_known_0 2 rfl rfl)
theorem dX9_known_3 : decode cX9_known 3 = .ok (.istore 4, 2) := dk_54 4 (dk_at dksX9_known_0 3 rfl rfl)
theorem dX9_known_5 : decode cX9_known 5 = .ok (.iload 4, 2) := dk_21 4 (dk_at dksX9_known_0 5 rfl rfl)
theorem dX9_known_7 : decode cX9_known 7 = .ok (.aload_n 0, 1) := dk_42 (dk_at dksX9_known_0 7 rfl rfl)
theorem dX9_known_8 : decode cX9_known 8 = .ok (.getfield 271, 3) := dk_180 1 15 (dk_at dksX9_known_0 8 rfl rfl)
theorem dX9_known_11 : decode cX9_known 11 = .ok (.if_icmp .ge 54, 3) := dk_162 0 54 (dk_at dksX9_known_0 11 rfl rfl)
theorem dX9_known_14 : decode cX9_known 14 = .ok (.aload_n 0, 1) := dk_42 (dk_at dksX9_known_0 14 rfl rfl)
theorem dX9_known_15 : decode cX9_known 15 = .ok (.getfield 96, 3) := dk_180 0 96 (dk_at dksX9_known_0 15 rfl rfl)
theorem dX9_known_18 : decode cX9_known 18 = .ok (.iload 4, 2) := dk_21 4 (dk_at dksX9_known_0 18 rfl rfl)
theorem dX9_known_20 : decode cX9_known 20 = .ok (.iaload, 1) := dk_46 (dk_at dksX9_known_0 20 rfl rfl)
theorem dX9_known_21 : decode cX9_known 21 = .ok (.iload_n 1, 1) := dk_27 (dk_at dksX9_known_0 21 rfl rfl)
theorem dX9_known_22 : decode cX9_known 22 = .ok (.if_icmp .ne 37, 3) := dk_160 0 37 (dk_at dksX9_known_1 0 rfl rfl)
theorem dX9_known_25 : decode cX9_known 25 = .ok (.aload_n 0, 1) := dk_42 (dk_at dksX9_known_1 3 rfl rfl)
theorem dX9_known_26 : decode cX9_known 26 = .ok (.getfield 102, 3) := dk_180 0 102 (dk_at dksX9_known_1 4 rfl rfl)
theorem dX9_known_29 : decode cX9_known 29 = .ok (.iload 4, 2) := dk_21 4 (dk_at dksX9_known_1 7 rfl rfl)
theorem dX9_known_31 : decode cX9_known 31 = .ok (.iaload, 1) := dk_46 (dk_at dksX9_known_1 9 rfl rfl)
theorem dX9_known_32 : decode cX9_known 32 = .ok (.iload_n 2, 1) := dk_28 (dk_at dksX9_known_1 10 rfl rfl)
theorem dX9_known_33 : decode cX9_known 33 = .ok (.if_icmp .gt 26, 3) := dk_163 0 26 (dk_at dksX9_known_1 11 rfl rfl)
theorem dX9_known_36 : decode cX9_known 36 = .ok (.iload_n 3, 1) := dk_29 (dk_at dksX9_known_1 14 rfl rfl)
theorem dX9_known_37 : decode cX9_known 37 = .ok (.ifCond .lt 19, 3) := dk_155 0 19 (dk_at dksX9_known_1 15 rfl rfl)
theorem dX9_known_40 : decode cX9_known 40 = .ok (.aload_n 0, 1) := dk_42 (dk_at dksX9_known_1 18 rfl rfl)
theorem dX9_known_41 : decode cX9_known 41 = .ok (.getfield 102, 3) := dk_180 0 102 (dk_at dksX9_known_1 19 rfl rfl)
theorem dX9_known_44 : decode cX9_known 44 = .ok (.iload 4, 2) := dk_21 4 (dk_at dksX9_known_1 22 rfl rfl)
theorem dX9_known_46 : decode cX9_known 46 = .ok (.iaload, 1) := dk_46 (dk_at dksX9_known_2 0 rfl rfl)
theorem dX9_known_47 : decode cX9_known 47 = .ok (.aload_n 0, 1) := dk_42 (dk_at dksX9_known_2 1 rfl rfl)
theorem dX9_known_48 : decode cX9_known 48 = .ok (.getfield 102, 3) := dk_180 0 102 (dk_at dksX9_known_2 2 rfl rfl)
theorem dX9_known_51 : decode cX9_known 51 = .ok (.iload_n 3, 1) := dk_29 (dk_at dksX9_known_2 5 rfl rfl)
theorem dX9_known_52 : decode cX9_known 52 = .ok (.iaload, 1) := dk_46 (dk_at dksX9_known_2 6 rfl rfl)
theorem dX9_known_53 : decode cX9_known 53 = .ok (.if_icmp .lt 6, 3) := dk_161 0 6 (dk_at dksX9_known_2 7 rfl rfl)
theorem dX9_known_56 : decode cX9_known 56 = .ok (.iload 4, 2) := dk_21 4 (dk_at dksX9_known_2 10 rfl rfl)
theorem dX9_known_58 : decode cX9_known 58 = .ok (.istore_n 3, 1) := dk_62 (dk_at dksX9_known_2 12 rfl rfl)
theorem dX9_known_59 : decode cX9_known 59 = .ok (.iinc 4 1, 3) := dk_132 4 1 (dk_at dksX9_known_2 13 rfl rfl)
theorem dX9_known_62 : decode cX9_known 62 = .ok (.goto (-57), 3) := dk_167 255 199 (dk_at dksX9_known_2 16 rfl rfl)
theorem dX9_known_65 : decode cX9_known 65 = .ok (.iload_n 3, 1) := dk_29 (dk_at dksX9_known_2 19 rfl rfl)
theorem dX9_known_66 : decode cX9_known 66 = .ok (.ifCond .ge 7, 3) := dk_156 0 7 (dk_at dksX9_known_2 20 rfl rfl)
theorem dX9_known_69 : decode cX9_known 69 = .ok (.iconst 0, 1) := dk_3 (dk_at dksX9_known_2 23 rfl rfl)
theorem dX9_known_70 : decode cX9_known 70 = .ok (.goto 9, 3) := dk_167 0 9 (dk_at dksX9_known_3 0 rfl rfl)
theorem dX9_known_73 : decode cX9_known 73 = .ok (.aload_n 0, 1) := dk_42 (dk_at dksX9_known_3 3 rfl rfl)
theorem dX9_known_74 : decode cX9_known 74 = .ok (.getfield 99, 3) := dk_180 0 99 (dk_at dksX9_known_3 4 rfl rfl)
theorem dX9_known_77 : decode cX9_known 77 = .ok (.iload_n 3, 1) := dk_29 (dk_at dksX9_known_3 7 rfl rfl)
theorem dX9_known_78 : decode cX9_known 78 = .ok (.iaload, 1) := dk_46 (dk_at dksX9_known_3 8 rfl rfl)
theorem dX9_known_79 : decode cX9_known 79 = .ok (.ireturn, 1) := dk_172 (dk_at dksX9_known_3 9 rfl rfl)
abbrev cX9_since : ByteArray := prog_19_method_53_code
def yX9_since : MethodName := ⟨RX9, "since", "()I"⟩
def dkwX9_since_2 : List UInt8 := [172, 132, 2, 1, 167, 255, 223, 132, 1, 1, 167, 255, 202, 16, 251, 172]
abbrev dktX9_since_2 : List UInt8 := dkwX9_since_2 ++ []
def dkwX9_since_1 : List UInt8 := [162, 0, 31, 42, 180, 0, 38, 28, 46, 42, 180, 0, 90, 16, 6, 27, 104, 28, 96, 46, 159, 0, 5, 27]
abbrev dktX9_since_1 : List UInt8 := dkwX9_since_1 ++ dktX9_since_2
def dkwX9_since_0 : List UInt8 := [3, 60, 27, 42, 180, 1, 9, 162, 0, 52, 42, 27, 182, 1, 21, 3, 61, 28, 42, 180, 0, 117]
abbrev dktX9_since_0 : List UInt8 := dkwX9_since_0 ++ dktX9_since_1
theorem dksX9_since_0 : cX9_since.data.toList.drop 0 = dktX9_since_0 := by decide +kernel
theorem dksX9_since_1 : cX9_since.data.toList.drop 22 = dktX9_since_1 := dk_seg dksX9_since_0 22 rfl rfl
theorem dksX9_since_2 : cX9_since.data.toList.drop 46 = dktX9_since_2 := dk_seg dksX9_since_1 24 rfl rfl
theorem dX9_since_0 : decode cX9_since 0 = .ok (.iconst 0, 1) := dk_3 (dk_at dksX9_since_0 0 rfl rfl)
theorem dX9_since_1 : decode cX9_since 1 = .ok (.istore_n 1, 1) := dk_60 (dk_at dksX9_since_0 1 rfl rfl)
theorem dX9_since_2 : decode cX9_since 2 = .ok (.iload_n 1, 1) := dk_27 (dk_at dksX9_since_0 2 rfl rfl)
theorem dX9_since_3 : decode cX9_since 3 = .ok (.aload_n 0, 1) := dk_42 (dk_at dksX9_since_0 3 rfl rfl)
theorem dX9_since_4 : decode cX9_since 4 = .ok (.getfield 265, 3) := dk_180 1 9 (dk_at dksX9_since_0 4 rfl rfl)
theorem dX9_since_7 : decode cX9_since 7 = .ok (.if_icmp .ge 52, 3) := dk_162 0 52 (dk_at dksX9_since_0 7 rfl rfl)
theorem dX9_since_10 : decode cX9_since 10 = .ok (.aload_n 0, 1) := dk_42 (dk_at dksX9_since_0 10 rfl rfl)
theorem dX9_since_11 : decode cX9_since 11 = .ok (.iload_n 1, 1) := dk_27 (dk_at dksX9_since_0 11 rfl rfl)
theorem dX9_since_12 : decode cX9_since 12 = .ok (.invokevirtual 277, 3) := dk_182 1 21 (dk_at dksX9_since_0 12 rfl rfl)
theorem dX9_since_15 : decode cX9_since 15 = .ok (.iconst 0, 1) := dk_3 (dk_at dksX9_since_0 15 rfl rfl)
theorem dX9_since_16 : decode cX9_since 16 = .ok (.istore_n 2, 1) := dk_61 (dk_at dksX9_since_0 16 rfl rfl)
theorem dX9_since_17 : decode cX9_since 17 = .ok (.iload_n 2, 1) := dk_28 (dk_at dksX9_since_0 17 rfl rfl)
theorem dX9_since_18 : decode cX9_since 18 = .ok (.aload_n 0, 1) := dk_42 (dk_at dksX9_since_0 18 rfl rfl)
theorem dX9_since_19 : decode cX9_since 19 = .ok (.getfield 117, 3) := dk_180 0 117 (dk_at dksX9_since_0 19 rfl rfl)
theorem dX9_since_22 : decode cX9_since 22 = .ok (.if_icmp .ge 31, 3) := dk_162 0 31 (dk_at dksX9_since_1 0 rfl rfl)
theorem dX9_since_25 : decode cX9_since 25 = .ok (.aload_n 0, 1) := dk_42 (dk_at dksX9_since_1 3 rfl rfl)
theorem dX9_since_26 : decode cX9_since 26 = .ok (.getfield 38, 3) := dk_180 0 38 (dk_at dksX9_since_1 4 rfl rfl)
theorem dX9_since_29 : decode cX9_since 29 = .ok (.iload_n 2, 1) := dk_28 (dk_at dksX9_since_1 7 rfl rfl)
theorem dX9_since_30 : decode cX9_since 30 = .ok (.iaload, 1) := dk_46 (dk_at dksX9_since_1 8 rfl rfl)
theorem dX9_since_31 : decode cX9_since 31 = .ok (.aload_n 0, 1) := dk_42 (dk_at dksX9_since_1 9 rfl rfl)
theorem dX9_since_32 : decode cX9_since 32 = .ok (.getfield 90, 3) := dk_180 0 90 (dk_at dksX9_since_1 10 rfl rfl)
theorem dX9_since_35 : decode cX9_since 35 = .ok (.bipush 6, 2) := dk_16 6 (dk_at dksX9_since_1 13 rfl rfl)
theorem dX9_since_37 : decode cX9_since 37 = .ok (.iload_n 1, 1) := dk_27 (dk_at dksX9_since_1 15 rfl rfl)
theorem dX9_since_38 : decode cX9_since 38 = .ok (.imul, 1) := dk_104 (dk_at dksX9_since_1 16 rfl rfl)
theorem dX9_since_39 : decode cX9_since 39 = .ok (.iload_n 2, 1) := dk_28 (dk_at dksX9_since_1 17 rfl rfl)
theorem dX9_since_40 : decode cX9_since 40 = .ok (.iadd, 1) := dk_96 (dk_at dksX9_since_1 18 rfl rfl)
theorem dX9_since_41 : decode cX9_since 41 = .ok (.iaload, 1) := dk_46 (dk_at dksX9_since_1 19 rfl rfl)
theorem dX9_since_42 : decode cX9_since 42 = .ok (.if_icmp .eq 5, 3) := dk_159 0 5 (dk_at dksX9_since_1 20 rfl rfl)
theorem dX9_since_45 : decode cX9_since 45 = .ok (.iload_n 1, 1) := dk_27 (dk_at dksX9_since_1 23 rfl rfl)
theorem dX9_since_46 : decode cX9_since 46 = .ok (.ireturn, 1) := dk_172 (dk_at dksX9_since_2 0 rfl rfl)
theorem dX9_since_47 : decode cX9_since 47 = .ok (.iinc 2 1, 3) := dk_132 2 1 (dk_at dksX9_since_2 1 rfl rfl)
theorem dX9_since_50 : decode cX9_since 50 = .ok (.goto (-33), 3) := dk_167 255 223 (dk_at dksX9_since_2 4 rfl rfl)
theorem dX9_since_53 : decode cX9_since 53 = .ok (.iinc 1 1, 3) := dk_132 1 1 (dk_at dksX9_since_2 7 rfl rfl)
theorem dX9_since_56 : decode cX9_since 56 = .ok (.goto (-54), 3) := dk_167 255 202 (dk_at dksX9_since_2 10 rfl rfl)
theorem dX9_since_59 : decode cX9_since 59 = .ok (.bipush (-5), 2) := dk_16 251 (dk_at dksX9_since_2 13 rfl rfl)
theorem dX9_since_61 : decode cX9_since 61 = .ok (.ireturn, 1) := dk_172 (dk_at dksX9_since_2 15 rfl rfl)
abbrev cX9_found : ByteArray := prog_19_method_54_code
def yX9_found : MethodName := ⟨RX9, "found", "(IIII)I"⟩
def dkwX9_found_4 : List UInt8 := [89, 180, 1, 15, 4, 96, 181, 1, 15, 42, 89, 180, 0, 139, 4, 96, 181, 0, 139, 42, 180, 0, 139, 172]
abbrev dktX9_found_4 : List UInt8 := dkwX9_found_4 ++ []
def dkwX9_found_3 : List UInt8 := [96, 79, 42, 180, 0, 99, 42, 180, 1, 15, 29, 79, 42, 180, 0, 102, 42, 180, 1, 15, 21, 4, 79, 42]
abbrev dktX9_found_3 : List UInt8 := dkwX9_found_3 ++ dktX9_found_4
def dkwX9_found_2 : List UInt8 := [180, 0, 139, 16, 60, 160, 0, 6, 16, 252, 172, 42, 180, 0, 96, 42, 180, 1, 15, 16, 6, 27, 104, 28]
abbrev dktX9_found_2 : List UInt8 := dkwX9_found_2 ++ dktX9_found_3
def dkwX9_found_1 : List UInt8 := [153, 0, 18, 21, 4, 133, 9, 42, 180, 1, 9, 133, 184, 0, 126, 154, 0, 6, 16, 254, 172, 42]
abbrev dktX9_found_1 : List UInt8 := dkwX9_found_1 ++ dktX9_found_2
def dkwX9_found_0 : List UInt8 := [42, 27, 28, 182, 0, 133, 154, 0, 5, 2, 172, 29, 133, 20, 1, 5, 20, 0, 209, 184, 0, 126]
abbrev dktX9_found_0 : List UInt8 := dkwX9_found_0 ++ dktX9_found_1
theorem dksX9_found_0 : cX9_found.data.toList.drop 0 = dktX9_found_0 := by decide +kernel
theorem dksX9_found_1 : cX9_found.data.toList.drop 22 = dktX9_found_1 := dk_seg dksX9_found_0 22 rfl rfl
theorem dksX9_found_2 : cX9_found.data.toList.drop 44 = dktX9_found_2 := dk_seg dksX9_found_1 22 rfl rfl
theorem dksX9_found_3 : cX9_found.data.toList.drop 68 = dktX9_found_3 := dk_seg dksX9_found_2 24 rfl rfl
theorem dksX9_found_4 : cX9_found.data.toList.drop 92 = dktX9_found_4 := dk_seg dksX9_found_3 24 rfl rfl
theorem dX9_found_0 : decode cX9_found 0 = .ok (.aload_n 0, 1) := dk_42 (dk_at dksX9_found_0 0 rfl rfl)
theorem dX9_found_1 : decode cX9_found 1 = .ok (.iload_n 1, 1) := dk_27 (dk_at dksX9_found_0 1 rfl rfl)
theorem dX9_found_2 : decode cX9_found 2 = .ok (.iload_n 2, 1) := dk_28 (dk_at dksX9_found_0 2 rfl rfl)
theorem dX9_found_3 : decode cX9_found 3 = .ok (.invokevirtual 133, 3) := dk_182 0 133 (dk_at dksX9_found_0 3 rfl rfl)
theorem dX9_found_6 : decode cX9_found 6 = .ok (.ifCond .ne 5, 3) := dk_154 0 5 (dk_at dksX9_found_0 6 rfl rfl)
theorem dX9_found_9 : decode cX9_found 9 = .ok (.iconst (-1), 1) := dk_2 (dk_at dksX9_found_0 9 rfl rfl)
theorem dX9_found_10 : decode cX9_found 10 = .ok (.ireturn, 1) := dk_172 (dk_at dksX9_found_0 10 rfl rfl)
theorem dX9_found_11 : decode cX9_found 11 = .ok (.iload_n 3, 1) := dk_29 (dk_at dksX9_found_0 11 rfl rfl)
theorem dX9_found_12 : decode cX9_found 12 = .ok (.i2l, 1) := dk_133 (dk_at dksX9_found_0 12 rfl rfl)
theorem dX9_found_13 : decode cX9_found 13 = .ok (.ldc2_w 261, 3) := dk_20 1 5 (dk_at dksX9_found_0 13 rfl rfl)
theorem dX9_found_16 : decode cX9_found 16 = .ok (.ldc2_w 209, 3) := dk_20 0 209 (dk_at dksX9_found_0 16 rfl rfl)
theorem dX9_found_19 : decode cX9_found 19 = .ok (.invokestatic 126, 3) := dk_184 0 126 (dk_at dksX9_found_0 19 rfl rfl)
theorem dX9_found_22 : decode cX9_found 22 = .ok (.ifCond .eq 18, 3) := dk_153 0 18 (dk_at dksX9_found_1 0 rfl rfl)
theorem dX9_found_25 : decode cX9_found 25 = .ok (.iload 4, 2) := dk_21 4 (dk_at dksX9_found_1 3 rfl rfl)
theorem dX9_found_27 : decode cX9_found 27 = .ok (.i2l, 1) := dk_133 (dk_at dksX9_found_1 5 rfl rfl)
theorem dX9_found_28 : decode cX9_found 28 = .ok (.lconst 0, 1) := dk_9 (dk_at dksX9_found_1 6 rfl rfl)
theorem dX9_found_29 : decode cX9_found 29 = .ok (.aload_n 0, 1) := dk_42 (dk_at dksX9_found_1 7 rfl rfl)
theorem dX9_found_30 : decode cX9_found 30 = .ok (.getfield 265, 3) := dk_180 1 9 (dk_at dksX9_found_1 8 rfl rfl)
theorem dX9_found_33 : decode cX9_found 33 = .ok (.i2l, 1) := dk_133 (dk_at dksX9_found_1 11 rfl rfl)
theorem dX9_found_34 : decode cX9_found 34 = .ok (.invokestatic 126, 3) := dk_184 0 126 (dk_at dksX9_found_1 12 rfl rfl)
theorem dX9_found_37 : decode cX9_found 37 = .ok (.ifCond .ne 6, 3) := dk_154 0 6 (dk_at dksX9_found_1 15 rfl rfl)
theorem dX9_found_40 : decode cX9_found 40 = .ok (.bipush (-2), 2) := dk_16 254 (dk_at dksX9_found_1 18 rfl rfl)
theorem dX9_found_42 : decode cX9_found 42 = .ok (.ireturn, 1) := dk_172 (dk_at dksX9_found_1 20 rfl rfl)
theorem dX9_found_43 : decode cX9_found 43 = .ok (.aload_n 0, 1) := dk_42 (dk_at dksX9_found_1 21 rfl rfl)
theorem dX9_found_44 : decode cX9_found 44 = .ok (.getfield 139, 3) := dk_180 0 139 (dk_at dksX9_found_2 0 rfl rfl)
theorem dX9_found_47 : decode cX9_found 47 = .ok (.bipush 60, 2) := dk_16 60 (dk_at dksX9_found_2 3 rfl rfl)
theorem dX9_found_49 : decode cX9_found 49 = .ok (.if_icmp .ne 6, 3) := dk_160 0 6 (dk_at dksX9_found_2 5 rfl rfl)
theorem dX9_found_52 : decode cX9_found 52 = .ok (.bipush (-4), 2) := dk_16 252 (dk_at dksX9_found_2 8 rfl rfl)
theorem dX9_found_54 : decode cX9_found 54 = .ok (.ireturn, 1) := dk_172 (dk_at dksX9_found_2 10 rfl rfl)
theorem dX9_found_55 : decode cX9_found 55 = .ok (.aload_n 0, 1) := dk_42 (dk_at dksX9_found_2 11 rfl rfl)
theorem dX9_found_56 : decode cX9_found 56 = .ok (.getfield 96, 3) := dk_180 0 96 (dk_at dksX9_found_2 12 rfl rfl)
theorem dX9_found_59 : decode cX9_found 59 = .ok (.aload_n 0, 1) := dk_42 (dk_at dksX9_found_2 15 rfl rfl)
theorem dX9_found_60 : decode cX9_found 60 = .ok (.getfield 271, 3) := dk_180 1 15 (dk_at dksX9_found_2 16 rfl rfl)
theorem dX9_found_63 : decode cX9_found 63 = .ok (.bipush 6, 2) := dk_16 6 (dk_at dksX9_found_2 19 rfl rfl)
theorem dX9_found_65 : decode cX9_found 65 = .ok (.iload_n 1, 1) := dk_27 (dk_at dksX9_found_2 21 rfl rfl)
theorem dX9_found_66 : decode cX9_found 66 = .ok (.imul, 1) := dk_104 (dk_at dksX9_found_2 22 rfl rfl)
theorem dX9_found_67 : decode cX9_found 67 = .ok (.iload_n 2, 1) := dk_28 (dk_at dksX9_found_2 23 rfl rfl)
theorem dX9_found_68 : decode cX9_found 68 = .ok (.iadd, 1) := dk_96 (dk_at dksX9_found_3 0 rfl rfl)
theorem dX9_found_69 : decode cX9_found 69 = .ok (.iastore, 1) := dk_79 (dk_at dksX9_found_3 1 rfl rfl)
theorem dX9_found_70 : decode cX9_found 70 = .ok (.aload_n 0, 1) := dk_42 (dk_at dksX9_found_3 2 rfl rfl)
theorem dX9_found_71 : decode cX9_found 71 = .ok (.getfield 99, 3) := dk_180 0 99 (dk_at dksX9_found_3 3 rfl rfl)
theorem dX9_found_74 : decode cX9_found 74 = .ok (.aload_n 0, 1) := dk_42 (dk_at dksX9_found_3 6 rfl rfl)
theorem dX9_found_75 : decode cX9_found 75 = .ok (.getfield 271, 3) := dk_180 1 15 (dk_at dksX9_found_3 7 rfl rfl)
theorem dX9_found_78 : decode cX9_found 78 = .ok (.iload_n 3, 1) := dk_29 (dk_at dksX9_found_3 10 rfl rfl)
theorem dX9_found_79 : decode cX9_found 79 = .ok (.iastore, 1) := dk_79 (dk_at dksX9_found_3 11 rfl rfl)
theorem dX9_found_80 : decode cX9_found 80 = .ok (.aload_n 0, 1) := dk_42 (dk_at dksX9_found_3 12 rfl rfl)
theorem dX9_found_81 : decode cX9_found 81 = .ok (.getfield 102, 3) := dk_180 0 102 (dk_at dksX9_found_3 13 rfl rfl)
theorem dX9_found_84 : decode cX9_found 84 = .ok (.aload_n 0, 1) := dk_42 (dk_at dksX9_found_3 16 rfl rfl)
theorem dX9_found_85 : decode cX9_found 85 = .ok (.getfield 271, 3) := dk_180 1 15 (dk_at dksX9_found_3 17 rfl rfl)
theorem dX9_found_88 : decode cX9_found 88 = .ok (.iload 4, 2) := dk_21 4 (dk_at dksX9_found_3 20 rfl rfl)
theorem dX9_found_90 : decode cX9_found 90 = .ok (.iastore, 1) := dk_79 (dk_at dksX9_found_3 22 rfl rfl)
theorem dX9_found_91 : decode cX9_found 91 = .ok (.aload_n 0, 1) := dk_42 (dk_at dksX9_found_3 23 rfl rfl)
theorem dX9_found_92 : decode cX9_found 92 = .ok (.dup, 1) := dk_89 (dk_at dksX9_found_4 0 rfl rfl)
theorem dX9_found_93 : decode cX9_found 93 = .ok (.getfield 271, 3) := dk_180 1 15 (dk_at dksX9_found_4 1 rfl rfl)
theorem dX9_found_96 : decode cX9_found 96 = .ok (.iconst 1, 1) := dk_4 (dk_at dksX9_found_4 4 rfl rfl)
theorem dX9_found_97 : decode cX9_found 97 = .ok (.iadd, 1) := dk_96 (dk_at dksX9_found_4 5 rfl rfl)
theorem dX9_found_98 : decode cX9_found 98 = .ok (.putfield 271, 3) := dk_181 1 15 (dk_at dksX9_found_4 6 rfl rfl)
theorem dX9_found_101 : decode cX9_found 101 = .ok (.aload_n 0, 1) := dk_42 (dk_at dksX9_found_4 9 rfl rfl)
theorem dX9_found_102 : decode cX9_found 102 = .ok (.dup, 1) := dk_89 (dk_at dksX9_found_4 10 rfl rfl)
theorem dX9_found_103 : decode cX9_found 103 = .ok (.getfield 139, 3) := dk_180 0 139 (dk_at dksX9_found_4 11 rfl rfl)
theorem dX9_found_106 : decode cX9_found 106 = .ok (.iconst 1, 1) := dk_4 (dk_at dksX9_found_4 14 rfl rfl)
theorem dX9_found_107 : decode cX9_found 107 = .ok (.iadd, 1) := dk_96 (dk_at dksX9_found_4 15 rfl rfl)
theorem dX9_found_108 : decode cX9_found 108 = .ok (.putfield 139, 3) := dk_181 0 139 (dk_at dksX9_found_4 16 rfl rfl)
theorem dX9_found_111 : decode cX9_found 111 = .ok (.aload_n 0, 1) := dk_42 (dk_at dksX9_found_4 19 rfl rfl)
theorem dX9_found_112 : decode cX9_found 112 = .ok (.getfield 139, 3) := dk_180 0 139 (dk_at dksX9_found_4 20 rfl rfl)
theorem dX9_found_115 : decode cX9_found 115 = .ok (.ireturn, 1) := dk_172 (dk_at dksX9_found_4 23 rfl rfl)
abbrev cX9_probing : ByteArray := prog_19_method_55_code
def yX9_probing : MethodName := ⟨RX9, "probing", "()I"⟩
def dkwX9_probing_4 : List UInt8 := [4, 84, 132, 1, 1, 167, 255, 238, 42, 4, 181, 1, 30, 42, 3, 181, 1, 33, 42, 180, 1, 27, 172]
abbrev dktX9_probing_4 : List UInt8 := dkwX9_probing_4 ++ []
def dkwX9_probing_3 : List UInt8 := [42, 180, 1, 24, 104, 96, 181, 1, 27, 3, 60, 27, 42, 180, 1, 27, 162, 0, 16, 42, 180, 0, 111, 27]
abbrev dktX9_probing_3 : List UInt8 := dkwX9_probing_3 ++ dktX9_probing_4
def dkwX9_probing_2 : List UInt8 := [180, 1, 24, 27, 79, 42, 89, 180, 1, 24, 4, 96, 181, 1, 24, 132, 1, 1, 167, 255, 200, 42, 4, 7]
abbrev dktX9_probing_2 : List UInt8 := dkwX9_probing_2 ++ dktX9_probing_3
def dkwX9_probing_1 : List UInt8 := [182, 0, 133, 153, 0, 35, 42, 180, 0, 19, 27, 46, 155, 0, 6, 167, 0, 23, 42, 180, 0, 105, 42]
abbrev dktX9_probing_1 : List UInt8 := dkwX9_probing_1 ++ dktX9_probing_2
def dkwX9_probing_0 : List UInt8 := [42, 3, 181, 1, 24, 3, 60, 27, 16, 72, 162, 0, 56, 42, 27, 16, 6, 108, 27, 16, 6, 112]
abbrev dktX9_probing_0 : List UInt8 := dkwX9_probing_0 ++ dktX9_probing_1
theorem dksX9_probing_0 : cX9_probing.data.toList.drop 0 = dktX9_probing_0 := by decide +kernel
theorem dksX9_probing_1 : cX9_probing.data.toList.drop 22 = dktX9_probing_1 := dk_seg dksX9_probing_0 22 rfl rfl
theorem dksX9_probing_2 : cX9_probing.data.toList.drop 45 = dktX9_probing_2 := dk_seg dksX9_probing_1 23 rfl rfl
theorem dksX9_probing_3 : cX9_probing.data.toList.drop 69 = dktX9_probing_3 := dk_seg dksX9_probing_2 24 rfl rfl
theorem dksX9_probing_4 : cX9_probing.data.toList.drop 93 = dktX9_probing_4 := dk_seg dksX9_probing_3 24 rfl rfl
theorem dX9_probing_0 : decode cX9_probing 0 = .ok (.aload_n 0, 1) := dk_42 (dk_at dksX9_probing_0 0 rfl rfl)
theorem dX9_probing_1 : decode cX9_probing 1 = .ok (.iconst 0, 1) := dk_3 (dk_at dksX9_probing_0 1 rfl rfl)
theorem dX9_probing_2 : decode cX9_probing 2 = .ok (.putfield 280, 3) := dk_181 1 24 (dk_at dksX9_probing_0 2 rfl rfl)
theorem dX9_probing_5 : decode cX9_probing 5 = .ok (.iconst 0, 1) := dk_3 (dk_at dksX9_probing_0 5 rfl rfl)
theorem dX9_probing_6 : decode cX9_probing 6 = .ok (.istore_n 1, 1) := dk_60 (dk_at dksX9_probing_0 6 rfl rfl)
theorem dX9_probing_7 : decode cX9_probing 7 = .ok (.iload_n 1, 1) := dk_27 (dk_at dksX9_probing_0 7 rfl rfl)
theorem dX9_probing_8 : decode cX9_probing 8 = .ok (.bipush 72, 2) := dk_16 72 (dk_at dksX9_probing_0 8 rfl rfl)
theorem dX9_probing_10 : decode cX9_probing 10 = .ok (.if_icmp .ge 56, 3) := dk_162 0 56 (dk_at dksX9_probing_0 10 rfl rfl)
theorem dX9_probing_13 : decode cX9_probing 13 = .ok (.aload_n 0, 1) := dk_42 (dk_at dksX9_probing_0 13 rfl rfl)
theorem dX9_probing_14 : decode cX9_probing 14 = .ok (.iload_n 1, 1) := dk_27 (dk_at dksX9_probing_0 14 rfl rfl)
theorem dX9_probing_15 : decode cX9_probing 15 = .ok (.bipush 6, 2) := dk_16 6 (dk_at dksX9_probing_0 15 rfl rfl)
theorem dX9_probing_17 : decode cX9_probing 17 = .ok (.idiv, 1) := dk_108 (dk_at dksX9_probing_0 17 rfl rfl)
theorem dX9_probing_18 : decode cX9_probing 18 = .ok (.iload_n 1, 1) := dk_27 (dk_at dksX9_probing_0 18 rfl rfl)
theorem dX9_probing_19 : decode cX9_probing 19 = .ok (.bipush 6, 2) := dk_16 6 (dk_at dksX9_probing_0 19 rfl rfl)
theorem dX9_probing_21 : decode cX9_probing 21 = .ok (.irem, 1) := dk_112 (dk_at dksX9_probing_0 21 rfl rfl)
theorem dX9_probing_22 : decode cX9_probing 22 = .ok (.invokevirtual 133, 3) := dk_182 0 133 (dk_at dksX9_probing_1 0 rfl rfl)
theorem dX9_probing_25 : decode cX9_probing 25 = .ok (.ifCond .eq 35, 3) := dk_153 0 35 (dk_at dksX9_probing_1 3 rfl rfl)
theorem dX9_probing_28 : decode cX9_probing 28 = .ok (.aload_n 0, 1) := dk_42 (dk_at dksX9_probing_1 6 rfl rfl)
theorem dX9_probing_29 : decode cX9_probing 29 = .ok (.getfield 19, 3) := dk_180 0 19 (dk_at dksX9_probing_1 7 rfl rfl)
theorem dX9_probing_32 : decode cX9_probing 32 = .ok (.iload_n 1, 1) := dk_27 (dk_at dksX9_probing_1 10 rfl rfl)
theorem dX9_probing_33 : decode cX9_probing 33 = .ok (.iaload, 1) := dk_46 (dk_at dksX9_probing_1 11 rfl rfl)
theorem dX9_probing_34 : decode cX9_probing 34 = .ok (.ifCond .lt 6, 3) := dk_155 0 6 (dk_at dksX9_probing_1 12 rfl rfl)
theorem dX9_probing_37 : decode cX9_probing 37 = .ok (.goto 23, 3) := dk_167 0 23 (dk_at dksX9_probing_1 15 rfl rfl)
theorem dX9_probing_40 : decode cX9_probing 40 = .ok (.aload_n 0, 1) := dk_42 (dk_at dksX9_probing_1 18 rfl rfl)
theorem dX9_probing_41 : decode cX9_probing 41 = .ok (.getfield 105, 3) := dk_180 0 105 (dk_at dksX9_probing_1 19 rfl rfl)
theorem dX9_probing_44 : decode cX9_probing 44 = .ok (.aload_n 0, 1) := dk_42 (dk_at dksX9_probing_1 22 rfl rfl)
theorem dX9_probing_45 : decode cX9_probing 45 = .ok (.getfield 280, 3) := dk_180 1 24 (dk_at dksX9_probing_2 0 rfl rfl)
theorem dX9_probing_48 : decode cX9_probing 48 = .ok (.iload_n 1, 1) := dk_27 (dk_at dksX9_probing_2 3 rfl rfl)
theorem dX9_probing_49 : decode cX9_probing 49 = .ok (.iastore, 1) := dk_79 (dk_at dksX9_probing_2 4 rfl rfl)
theorem dX9_probing_50 : decode cX9_probing 50 = .ok (.aload_n 0, 1) := dk_42 (dk_at dksX9_probing_2 5 rfl rfl)
theorem dX9_probing_51 : decode cX9_probing 51 = .ok (.dup, 1) := dk_89 (dk_at dksX9_probing_2 6 rfl rfl)
theorem dX9_probing_52 : decode cX9_probing 52 = .ok (.getfield 280, 3) := dk_180 1 24 (dk_at dksX9_probing_2 7 rfl rfl)
theorem dX9_probing_55 : decode cX9_probing 55 = .ok (.iconst 1, 1) := dk_4 (dk_at dksX9_probing_2 10 rfl rfl)
theorem dX9_probing_56 : decode cX9_probing 56 = .ok (.iadd, 1) := dk_96 (dk_at dksX9_probing_2 11 rfl rfl)
theorem dX9_probing_57 : decode cX9_probing 57 = .ok (.putfield 280, 3) := dk_181 1 24 (dk_at dksX9_probing_2 12 rfl rfl)
theorem dX9_probing_60 : decode cX9_probing 60 = .ok (.iinc 1 1, 3) := dk_132 1 1 (dk_at dksX9_probing_2 15 rfl rfl)
theorem dX9_probing_63 : decode cX9_probing 63 = .ok (.goto (-56), 3) := dk_167 255 200 (dk_at dksX9_probing_2 18 rfl rfl)
theorem dX9_probing_66 : decode cX9_probing 66 = .ok (.aload_n 0, 1) := dk_42 (dk_at dksX9_probing_2 21 rfl rfl)
theorem dX9_probing_67 : decode cX9_probing 67 = .ok (.iconst 1, 1) := dk_4 (dk_at dksX9_probing_2 22 rfl rfl)
theorem dX9_probing_68 : decode cX9_probing 68 = .ok (.iconst 4, 1) := dk_7 (dk_at dksX9_probing_2 23 rfl rfl)
theorem dX9_probing_69 : decode cX9_probing 69 = .ok (.aload_n 0, 1) := dk_42 (dk_at dksX9_probing_3 0 rfl rfl)
theorem dX9_probing_70 : decode cX9_probing 70 = .ok (.getfield 280, 3) := dk_180 1 24 (dk_at dksX9_probing_3 1 rfl rfl)
theorem dX9_probing_73 : decode cX9_probing 73 = .ok (.imul, 1) := dk_104 (dk_at dksX9_probing_3 4 rfl rfl)
theorem dX9_probing_74 : decode cX9_probing 74 = .ok (.iadd, 1) := dk_96 (dk_at dksX9_probing_3 5 rfl rfl)
theorem dX9_probing_75 : decode cX9_probing 75 = .ok (.putfield 283, 3) := dk_181 1 27 (dk_at dksX9_probing_3 6 rfl rfl)
theorem dX9_probing_78 : decode cX9_probing 78 = .ok (.iconst 0, 1) := dk_3 (dk_at dksX9_probing_3 9 rfl rfl)
theorem dX9_probing_79 : decode cX9_probing 79 = .ok (.istore_n 1, 1) := dk_60 (dk_at dksX9_probing_3 10 rfl rfl)
theorem dX9_probing_80 : decode cX9_probing 80 = .ok (.iload_n 1, 1) := dk_27 (dk_at dksX9_probing_3 11 rfl rfl)
theorem dX9_probing_81 : decode cX9_probing 81 = .ok (.aload_n 0, 1) := dk_42 (dk_at dksX9_probing_3 12 rfl rfl)
theorem dX9_probing_82 : decode cX9_probing 82 = .ok (.getfield 283, 3) := dk_180 1 27 (dk_at dksX9_probing_3 13 rfl rfl)
theorem dX9_probing_85 : decode cX9_probing 85 = .ok (.if_icmp .ge 16, 3) := dk_162 0 16 (dk_at dksX9_probing_3 16 rfl rfl)
theorem dX9_probing_88 : decode cX9_probing 88 = .ok (.aload_n 0, 1) := dk_42 (dk_at dksX9_probing_3 19 rfl rfl)
theorem dX9_probing_89 : decode cX9_probing 89 = .ok (.getfield 111, 3) := dk_180 0 111 (dk_at dksX9_probing_3 20 rfl rfl)
theorem dX9_probing_92 : decode cX9_probing 92 = .ok (.iload_n 1, 1) := dk_27 (dk_at dksX9_probing_3 23 rfl rfl)
theorem dX9_probing_93 : decode cX9_probing 93 = .ok (.iconst 1, 1) := dk_4 (dk_at dksX9_probing_4 0 rfl rfl)
theorem dX9_probing_94 : decode cX9_probing 94 = .ok (.bastore, 1) := dk_84 (dk_at dksX9_probing_4 1 rfl rfl)
theorem dX9_probing_95 : decode cX9_probing 95 = .ok (.iinc 1 1, 3) := dk_132 1 1 (dk_at dksX9_probing_4 2 rfl rfl)
theorem dX9_probing_98 : decode cX9_probing 98 = .ok (.goto (-18), 3) := dk_167 255 238 (dk_at dksX9_probing_4 5 rfl rfl)
theorem dX9_probing_101 : decode cX9_probing 101 = .ok (.aload_n 0, 1) := dk_42 (dk_at dksX9_probing_4 8 rfl rfl)
theorem dX9_probing_102 : decode cX9_probing 102 = .ok (.iconst 1, 1) := dk_4 (dk_at dksX9_probing_4 9 rfl rfl)
theorem dX9_probing_103 : decode cX9_probing 103 = .ok (.putfield 286, 3) := dk_181 1 30 (dk_at dksX9_probing_4 10 rfl rfl)
theorem dX9_probing_106 : decode cX9_probing 106 = .ok (.aload_n 0, 1) := dk_42 (dk_at dksX9_probing_4 13 rfl rfl)
theorem dX9_probing_107 : decode cX9_probing 107 = .ok (.iconst 0, 1) := dk_3 (dk_at dksX9_probing_4 14 rfl rfl)
theorem dX9_probing_108 : decode cX9_probing 108 = .ok (.putfield 289, 3) := dk_181 1 33 (dk_at dksX9_probing_4 15 rfl rfl)
theorem dX9_probing_111 : decode cX9_probing 111 = .ok (.aload_n 0, 1) := dk_42 (dk_at dksX9_probing_4 18 rfl rfl)
theorem dX9_probing_112 : decode cX9_probing 112 = .ok (.getfield 283, 3) := dk_180 1 27 (dk_at dksX9_probing_4 19 rfl rfl)
theorem dX9_probing_115 : decode cX9_probing 115 = .ok (.ireturn, 1) := dk_172 (dk_at dksX9_probing_4 22 rfl rfl)
abbrev cX9_probe : ByteArray := prog_19_method_58_code
def yX9_probe : MethodName := ⟨RX9, "probe", "(II)I"⟩
def dkwX9_probe_5 : List UInt8 := [4, 96, 181, 1, 33, 29, 172]
abbrev dktX9_probe_5 : List UInt8 := dkwX9_probe_5 ++ []
def dkwX9_probe_4 : List UInt8 := [182, 1, 39, 29, 160, 0, 7, 4, 167, 0, 4, 3, 84, 132, 4, 1, 167, 255, 210, 42, 89, 180, 1, 33]
abbrev dktX9_probe_4 : List UInt8 := dkwX9_probe_4 ++ dktX9_probe_5
def dkwX9_probe_3 : List UInt8 := [162, 0, 43, 42, 180, 0, 111, 21, 4, 51, 153, 0, 27, 42, 180, 0, 111, 21, 4, 42, 21, 4, 27, 28]
abbrev dktX9_probe_3 : List UInt8 := dkwX9_probe_3 ++ dktX9_probe_4
def dkwX9_probe_2 : List UInt8 := [182, 0, 163, 42, 4, 182, 0, 167, 42, 180, 0, 38, 28, 46, 62, 3, 54, 4, 21, 4, 42, 180, 1, 27]
abbrev dktX9_probe_2 : List UInt8 := dkwX9_probe_2 ++ dktX9_probe_3
def dkwX9_probe_1 : List UInt8 := [154, 0, 6, 16, 253, 172, 42, 180, 1, 33, 16, 20, 160, 0, 6, 16, 252, 172, 42, 182, 0, 156, 42, 27]
abbrev dktX9_probe_1 : List UInt8 := dkwX9_probe_1 ++ dktX9_probe_2
def dkwX9_probe_0 : List UInt8 := [42, 27, 182, 0, 159, 153, 0, 11, 42, 28, 182, 0, 159, 154, 0, 5, 2, 172, 42, 180, 1, 30]
abbrev dktX9_probe_0 : List UInt8 := dkwX9_probe_0 ++ dktX9_probe_1
theorem dksX9_probe_0 : cX9_probe.data.toList.drop 0 = dktX9_probe_0 := by decide +kernel
theorem dksX9_probe_1 : cX9_probe.data.toList.drop 22 = dktX9_probe_1 := dk_seg dksX9_probe_0 22 rfl rfl
theorem dksX9_probe_2 : cX9_probe.data.toList.drop 46 = dktX9_probe_2 := dk_seg dksX9_probe_1 24 rfl rfl
theorem dksX9_probe_3 : cX9_probe.data.toList.drop 70 = dktX9_probe_3 := dk_seg dksX9_probe_2 24 rfl rfl
theorem dksX9_probe_4 : cX9_probe.data.toList.drop 94 = dktX9_probe_4 := dk_seg dksX9_probe_3 24 rfl rfl
theorem dksX9_probe_5 : cX9_probe.data.toList.drop 118 = dktX9_probe_5 := dk_seg dksX9_probe_4 24 rfl rfl
theorem dX9_probe_0 : decode cX9_probe 0 = .ok (.aload_n 0, 1) := dk_42 (dk_at dksX9_probe_0 0 rfl rfl)
theorem dX9_probe_1 : decode cX9_probe 1 = .ok (.iload_n 1, 1) := dk_27 (dk_at dksX9_probe_0 1 rfl rfl)
theorem dX9_probe_2 : decode cX9_probe 2 = .ok (.invokevirtual 159, 3) := dk_182 0 159 (dk_at dksX9_probe_0 2 rfl rfl)
theorem dX9_probe_5 : decode cX9_probe 5 = .ok (.ifCond .eq 11, 3) := dk_153 0 11 (dk_at dksX9_probe_0 5 rfl rfl)
theorem dX9_probe_8 : decode cX9_probe 8 = .ok (.aload_n 0, 1) := dk_42 (dk_at dksX9_probe_0 8 rfl rfl)
theorem dX9_probe_9 : decode cX9_probe 9 = .ok (.iload_n 2, 1) := dk_28 (dk_at dksX9_probe_0 9 rfl rfl)
theorem dX9_probe_10 : decode cX9_probe 10 = .ok (.invokevirtual 159, 3) := dk_182 0 159 (dk_at dksX9_probe_0 10 rfl rfl)
theorem dX9_probe_13 : decode cX9_probe 13 = .ok (.ifCond .ne 5, 3) := dk_154 0 5 (dk_at dksX9_probe_0 13 rfl rfl)
theorem dX9_probe_16 : decode cX9_probe 16 = .ok (.iconst (-1), 1) := dk_2 (dk_at dksX9_probe_0 16 rfl rfl)
theorem dX9_probe_17 : decode cX9_probe 17 = .ok (.ireturn, 1) := dk_172 (dk_at dksX9_probe_0 17 rfl rfl)
theorem dX9_probe_18 : decode cX9_probe 18 = .ok (.aload_n 0, 1) := dk_42 (dk_at dksX9_probe_0 18 rfl rfl)
theorem dX9_probe_19 : decode cX9_probe 19 = .ok (.getfield 286, 3) := dk_180 1 30 (dk_at dksX9_probe_0 19 rfl rfl)
theorem dX9_probe_22 : decode cX9_probe 22 = .ok (.ifCond .ne 6, 3) := dk_154 0 6 (dk_at dksX9_probe_1 0 rfl rfl)
theorem dX9_probe_25 : decode cX9_probe 25 = .ok (.bipush (-3), 2) := dk_16 253 (dk_at dksX9_probe_1 3 rfl rfl)
theorem dX9_probe_27 : decode cX9_probe 27 = .ok (.ireturn, 1) := dk_172 (dk_at dksX9_probe_1 5 rfl rfl)
theorem dX9_probe_28 : decode cX9_probe 28 = .ok (.aload_n 0, 1) := dk_42 (dk_at dksX9_probe_1 6 rfl rfl)
theorem dX9_probe_29 : decode cX9_probe 29 = .ok (.getfield 289, 3) := dk_180 1 33 (dk_at dksX9_probe_1 7 rfl rfl)
theorem dX9_probe_32 : decode cX9_probe 32 = .ok (.bipush 20, 2) := dk_16 20 (dk_at dksX9_probe_1 10 rfl rfl)
theorem dX9_probe_34 : decode cX9_probe 34 = .ok (.if_icmp .ne 6, 3) := dk_160 0 6 (dk_at dksX9_probe_1 12 rfl rfl)
theorem dX9_probe_37 : decode cX9_probe 37 = .ok (.bipush (-4), 2) := dk_16 252 (dk_at dksX9_probe_1 15 rfl rfl)
theorem dX9_probe_39 : decode cX9_probe 39 = .ok (.ireturn, 1) := dk_172 (dk_at dksX9_probe_1 17 rfl rfl)
theorem dX9_probe_40 : decode cX9_probe 40 = .ok (.aload_n 0, 1) := dk_42 (dk_at dksX9_probe_1 18 rfl rfl)
theorem dX9_probe_41 : decode cX9_probe 41 = .ok (.invokevirtual 156, 3) := dk_182 0 156 (dk_at dksX9_probe_1 19 rfl rfl)
theorem dX9_probe_44 : decode cX9_probe 44 = .ok (.aload_n 0, 1) := dk_42 (dk_at dksX9_probe_1 22 rfl rfl)
theorem dX9_probe_45 : decode cX9_probe 45 = .ok (.iload_n 1, 1) := dk_27 (dk_at dksX9_probe_1 23 rfl rfl)
theorem dX9_probe_46 : decode cX9_probe 46 = .ok (.invokevirtual 163, 3) := dk_182 0 163 (dk_at dksX9_probe_2 0 rfl rfl)
theorem dX9_probe_49 : decode cX9_probe 49 = .ok (.aload_n 0, 1) := dk_42 (dk_at dksX9_probe_2 3 rfl rfl)
theorem dX9_probe_50 : decode cX9_probe 50 = .ok (.iconst 1, 1) := dk_4 (dk_at dksX9_probe_2 4 rfl rfl)
theorem dX9_probe_51 : decode cX9_probe 51 = .ok (.invokevirtual 167, 3) := dk_182 0 167 (dk_at dksX9_probe_2 5 rfl rfl)
theorem dX9_probe_54 : decode cX9_probe 54 = .ok (.aload_n 0, 1) := dk_42 (dk_at dksX9_probe_2 8 rfl rfl)
theorem dX9_probe_55 : decode cX9_probe 55 = .ok (.getfield 38, 3) := dk_180 0 38 (dk_at dksX9_probe_2 9 rfl rfl)
theorem dX9_probe_58 : decode cX9_probe 58 = .ok (.iload_n 2, 1) := dk_28 (dk_at dksX9_probe_2 12 rfl rfl)
theorem dX9_probe_59 : decode cX9_probe 59 = .ok (.iaload, 1) := dk_46 (dk_at dksX9_probe_2 13 rfl rfl)
theorem dX9_probe_60 : decode cX9_probe 60 = .ok (.istore_n 3, 1) := dk_62 (dk_at dksX9_probe_2 14 rfl rfl)
theorem dX9_probe_61 : decode cX9_probe 61 = .ok (.iconst 0, 1) := dk_3 (dk_at dksX9_probe_2 15 rfl rfl)
theorem dX9_probe_62 : decode cX9_probe 62 = .ok (.istore 4, 2) := dk_54 4 (dk_at dksX9_probe_2 16 rfl rfl)
theorem dX9_probe_64 : decode cX9_probe 64 = .ok (.iload 4, 2) := dk_21 4 (dk_at dksX9_probe_2 18 rfl rfl)
theorem dX9_probe_66 : decode cX9_probe 66 = .ok (.aload_n 0, 1) := dk_42 (dk_at dksX9_probe_2 20 rfl rfl)
theorem dX9_probe_67 : decode cX9_probe 67 = .ok (.getfield 283, 3) := dk_180 1 27 (dk_at dksX9_probe_2 21 rfl rfl)
theorem dX9_probe_70 : decode cX9_probe 70 = .ok (.if_icmp .ge 43, 3) := dk_162 0 43 (dk_at dksX9_probe_3 0 rfl rfl)
theorem dX9_probe_73 : decode cX9_probe 73 = .ok (.aload_n 0, 1) := dk_42 (dk_at dksX9_probe_3 3 rfl rfl)
theorem dX9_probe_74 : decode cX9_probe 74 = .ok (.getfield 111, 3) := dk_180 0 111 (dk_at dksX9_probe_3 4 rfl rfl)
theorem dX9_probe_77 : decode cX9_probe 77 = .ok (.iload 4, 2) := dk_21 4 (dk_at dksX9_probe_3 7 rfl rfl)
theorem dX9_probe_79 : decode cX9_probe 79 = .ok (.baload, 1) := dk_51 (dk_at dksX9_probe_3 9 rfl rfl)
theorem dX9_probe_80 : decode cX9_probe 80 = .ok (.ifCond .eq 27, 3) := dk_153 0 27 (dk_at dksX9_probe_3 10 rfl rfl)
theorem dX9_probe_83 : decode cX9_probe 83 = .ok (.aload_n 0, 1) := dk_42 (dk_at dksX9_probe_3 13 rfl rfl)
theorem dX9_probe_84 : decode cX9_probe 84 = .ok (.getfield 111, 3) := dk_180 0 111 (dk_at dksX9_probe_3 14 rfl rfl)
theorem dX9_probe_87 : decode cX9_probe 87 = .ok (.iload 4, 2) := dk_21 4 (dk_at dksX9_probe_3 17 rfl rfl)
theorem dX9_probe_89 : decode cX9_probe 89 = .ok (.aload_n 0, 1) := dk_42 (dk_at dksX9_probe_3 19 rfl rfl)
theorem dX9_probe_90 : decode cX9_probe 90 = .ok (.iload 4, 2) := dk_21 4 (dk_at dksX9_probe_3 20 rfl rfl)
theorem dX9_probe_92 : decode cX9_probe 92 = .ok (.iload_n 1, 1) := dk_27 (dk_at dksX9_probe_3 22 rfl rfl)
theorem dX9_probe_93 : decode cX9_probe 93 = .ok (.iload_n 2, 1) := dk_28 (dk_at dksX9_probe_3 23 rfl rfl)
theorem dX9_probe_94 : decode cX9_probe 94 = .ok (.invokevirtual 295, 3) := dk_182 1 39 (dk_at dksX9_probe_4 0 rfl rfl)
theorem dX9_probe_97 : decode cX9_probe 97 = .ok (.iload_n 3, 1) := dk_29 (dk_at dksX9_probe_4 3 rfl rfl)
theorem dX9_probe_98 : decode cX9_probe 98 = .ok (.if_icmp .ne 7, 3) := dk_160 0 7 (dk_at dksX9_probe_4 4 rfl rfl)
theorem dX9_probe_101 : decode cX9_probe 101 = .ok (.iconst 1, 1) := dk_4 (dk_at dksX9_probe_4 7 rfl rfl)
theorem dX9_probe_102 : decode cX9_probe 102 = .ok (.goto 4, 3) := dk_167 0 4 (dk_at dksX9_probe_4 8 rfl rfl)
theorem dX9_probe_105 : decode cX9_probe 105 = .ok (.iconst 0, 1) := dk_3 (dk_at dksX9_probe_4 11 rfl rfl)
theorem dX9_probe_106 : decode cX9_probe 106 = .ok (.bastore, 1) := dk_84 (dk_at dksX9_probe_4 12 rfl rfl)
theorem dX9_probe_107 : decode cX9_probe 107 = .ok (.iinc 4 1, 3) := dk_132 4 1 (dk_at dksX9_probe_4 13 rfl rfl)
theorem dX9_probe_110 : decode cX9_probe 110 = .ok (.goto (-46), 3) := dk_167 255 210 (dk_at dksX9_probe_4 16 rfl rfl)
theorem dX9_probe_113 : decode cX9_probe 113 = .ok (.aload_n 0, 1) := dk_42 (dk_at dksX9_probe_4 19 rfl rfl)
theorem dX9_probe_114 : decode cX9_probe 114 = .ok (.dup, 1) := dk_89 (dk_at dksX9_probe_4 20 rfl rfl)
theorem dX9_probe_115 : decode cX9_probe 115 = .ok (.getfield 289, 3) := dk_180 1 33 (dk_at dksX9_probe_4 21 rfl rfl)
theorem dX9_probe_118 : decode cX9_probe 118 = .ok (.iconst 1, 1) := dk_4 (dk_at dksX9_probe_5 0 rfl rfl)
theorem dX9_probe_119 : decode cX9_probe 119 = .ok (.iadd, 1) := dk_96 (dk_at dksX9_probe_5 1 rfl rfl)
theorem dX9_probe_120 : decode cX9_probe 120 = .ok (.putfield 289, 3) := dk_181 1 33 (dk_at dksX9_probe_5 2 rfl rfl)
theorem dX9_probe_123 : decode cX9_probe 123 = .ok (.iload_n 3, 1) := dk_29 (dk_at dksX9_probe_5 5 rfl rfl)
theorem dX9_probe_124 : decode cX9_probe 124 = .ok (.ireturn, 1) := dk_172 (dk_at dksX9_probe_5 6 rfl rfl)
abbrev cX9_comesTo : ByteArray := prog_19_method_57_code
def yX9_comesTo : MethodName := ⟨RX9, "comesTo", "(III)I"⟩
def dkwX9_comesTo_3 : List UInt8 := [184, 1, 36, 96, 79, 42, 28, 182, 0, 163, 42, 4, 182, 0, 167, 42, 180, 0, 38, 29, 46, 172]
abbrev dktX9_comesTo_3 : List UInt8 := dkwX9_comesTo_3 ++ []
def dkwX9_comesTo_2 : List UInt8 := [158, 0, 29, 42, 180, 0, 35, 42, 180, 0, 105, 27, 4, 100, 7, 108, 46, 92, 46, 27, 4, 100, 7, 112]
abbrev dktX9_comesTo_2 : List UInt8 := dkwX9_comesTo_2 ++ dktX9_comesTo_3
def dkwX9_comesTo_1 : List UInt8 := [42, 180, 0, 35, 21, 4, 42, 21, 4, 42, 180, 1, 9, 182, 1, 18, 79, 132, 4, 1, 167, 255, 215, 27]
abbrev dktX9_comesTo_1 : List UInt8 := dkwX9_comesTo_1 ++ dktX9_comesTo_2
def dkwX9_comesTo_0 : List UInt8 := [3, 54, 4, 21, 4, 16, 72, 162, 0, 40, 42, 180, 0, 32, 21, 4, 42, 180, 0, 16, 21, 4, 46, 79]
abbrev dktX9_comesTo_0 : List UInt8 := dkwX9_comesTo_0 ++ dktX9_comesTo_1
theorem dksX9_comesTo_0 : cX9_comesTo.data.toList.drop 0 = dktX9_comesTo_0 := by decide +kernel
theorem dksX9_comesTo_1 : cX9_comesTo.data.toList.drop 24 = dktX9_comesTo_1 := dk_seg dksX9_comesTo_0 24 rfl rfl
theorem dksX9_comesTo_2 : cX9_comesTo.data.toList.drop 48 = dktX9_comesTo_2 := dk_seg dksX9_comesTo_1 24 rfl rfl
theorem dksX9_comesTo_3 : cX9_comesTo.data.toList.drop 72 = dktX9_comesTo_3 := dk_seg dksX9_comesTo_2 24 rfl rfl
theorem dX9_comesTo_0 : decode cX9_comesTo 0 = .ok (.iconst 0, 1) := dk_3 (dk_at dksX9_comesTo_0 0 rfl rfl)
theorem dX9_comesTo_1 : decode cX9_comesTo 1 = .ok (.istore 4, 2) := dk_54 4 (dk_at dksX9_comesTo_0 1 rfl rfl)
theorem dX9_comesTo_3 : decode cX9_comesTo 3 = .ok (.iload 4, 2) := dk_21 4 (dk_at dksX9_comesTo_0 3 rfl rfl)
theorem dX9_comesTo_5 : decode cX9_comesTo 5 = .ok (.bipush 72, 2) := dk_16 72 (dk_at dksX9_comesTo_0 5 rfl rfl)
theorem dX9_comesTo_7 : decode cX9_comesTo 7 = .ok (.if_icmp .ge 40, 3) := dk_162 0 40 (dk_at dksX9_comesTo_0 7 rfl rfl)
theorem dX9_comesTo_10 : decode cX9_comesTo 10 = .ok (.aload_n 0, 1) := dk_42 (dk_at dksX9_comesTo_0 10 rfl rfl)
theorem dX9_comesTo_11 : decode cX9_comesTo 11 = .ok (.getfield 32, 3) := dk_180 0 32 (dk_at dksX9_comesTo_0 11 rfl rfl)
theorem dX9_comesTo_14 : decode cX9_comesTo 14 = .ok (.iload 4, 2) := dk_21 4 (dk_at dksX9_comesTo_0 14 rfl rfl)
theorem dX9_comesTo_16 : decode cX9_comesTo 16 = .ok (.aload_n 0, 1) := dk_42 (dk_at dksX9_comesTo_0 16 rfl rfl)
theorem dX9_comesTo_17 : decode cX9_comesTo 17 = .ok (.getfield 16, 3) := dk_180 0 16 (dk_at dksX9_comesTo_0 17 rfl rfl)
theorem dX9_comesTo_20 : decode cX9_comesTo 20 = .ok (.iload 4, 2) := dk_21 4 (dk_at dksX9_comesTo_0 20 rfl rfl)
theorem dX9_comesTo_22 : decode cX9_comesTo 22 = .ok (.iaload, 1) := dk_46 (dk_at dksX9_comesTo_0 22 rfl rfl)
theorem dX9_comesTo_23 : decode cX9_comesTo 23 = .ok (.iastore, 1) := dk_79 (dk_at dksX9_comesTo_0 23 rfl rfl)
theorem dX9_comesTo_24 : decode cX9_comesTo 24 = .ok (.aload_n 0, 1) := dk_42 (dk_at dksX9_comesTo_1 0 rfl rfl)
theorem dX9_comesTo_25 : decode cX9_comesTo 25 = .ok (.getfield 35, 3) := dk_180 0 35 (dk_at dksX9_comesTo_1 1 rfl rfl)
theorem dX9_comesTo_28 : decode cX9_comesTo 28 = .ok (.iload 4, 2) := dk_21 4 (dk_at dksX9_comesTo_1 4 rfl rfl)
theorem dX9_comesTo_30 : decode cX9_comesTo 30 = .ok (.aload_n 0, 1) := dk_42 (dk_at dksX9_comesTo_1 6 rfl rfl)
theorem dX9_comesTo_31 : decode cX9_comesTo 31 = .ok (.iload 4, 2) := dk_21 4 (dk_at dksX9_comesTo_1 7 rfl rfl)
theorem dX9_comesTo_33 : decode cX9_comesTo 33 = .ok (.aload_n 0, 1) := dk_42 (dk_at dksX9_comesTo_1 9 rfl rfl)
theorem dX9_comesTo_34 : decode cX9_comesTo 34 = .ok (.getfield 265, 3) := dk_180 1 9 (dk_at dksX9_comesTo_1 10 rfl rfl)
theorem dX9_comesTo_37 : decode cX9_comesTo 37 = .ok (.invokevirtual 274, 3) := dk_182 1 18 (dk_at dksX9_comesTo_1 13 rfl rfl)
theorem dX9_comesTo_40 : decode cX9_comesTo 40 = .ok (.iastore, 1) := dk_79 (dk_at dksX9_comesTo_1 16 rfl rfl)
theorem dX9_comesTo_41 : decode cX9_comesTo 41 = .ok (.iinc 4 1, 3) := dk_132 4 1 (dk_at dksX9_comesTo_1 17 rfl rfl)
theorem dX9_comesTo_44 : decode cX9_comesTo 44 = .ok (.goto (-41), 3) := dk_167 255 215 (dk_at dksX9_comesTo_1 20 rfl rfl)
theorem dX9_comesTo_47 : decode cX9_comesTo 47 = .ok (.iload_n 1, 1) := dk_27 (dk_at dksX9_comesTo_1 23 rfl rfl)
theorem dX9_comesTo_48 : decode cX9_comesTo 48 = .ok (.ifCond .le 29, 3) := dk_158 0 29 (dk_at dksX9_comesTo_2 0 rfl rfl)
theorem dX9_comesTo_51 : decode cX9_comesTo 51 = .ok (.aload_n 0, 1) := dk_42 (dk_at dksX9_comesTo_2 3 rfl rfl)
theorem dX9_comesTo_52 : decode cX9_comesTo 52 = .ok (.getfield 35, 3) := dk_180 0 35 (dk_at dksX9_comesTo_2 4 rfl rfl)
theorem dX9_comesTo_55 : decode cX9_comesTo 55 = .ok (.aload_n 0, 1) := dk_42 (dk_at dksX9_comesTo_2 7 rfl rfl)
theorem dX9_comesTo_56 : decode cX9_comesTo 56 = .ok (.getfield 105, 3) := dk_180 0 105 (dk_at dksX9_comesTo_2 8 rfl rfl)
theorem dX9_comesTo_59 : decode cX9_comesTo 59 = .ok (.iload_n 1, 1) := dk_27 (dk_at dksX9_comesTo_2 11 rfl rfl)
theorem dX9_comesTo_60 : decode cX9_comesTo 60 = .ok (.iconst 1, 1) := dk_4 (dk_at dksX9_comesTo_2 12 rfl rfl)
theorem dX9_comesTo_61 : decode cX9_comesTo 61 = .ok (.isub, 1) := dk_100 (dk_at dksX9_comesTo_2 13 rfl rfl)
theorem dX9_comesTo_62 : decode cX9_comesTo 62 = .ok (.iconst 4, 1) := dk_7 (dk_at dksX9_comesTo_2 14 rfl rfl)
theorem dX9_comesTo_63 : decode cX9_comesTo 63 = .ok (.idiv, 1) := dk_108 (dk_at dksX9_comesTo_2 15 rfl rfl)
theorem dX9_comesTo_64 : decode cX9_comesTo 64 = .ok (.iaload, 1) := dk_46 (dk_at dksX9_comesTo_2 16 rfl rfl)
theorem dX9_comesTo_65 : decode cX9_comesTo 65 = .ok (.dup2, 1) := dk_92 (dk_at dksX9_comesTo_2 17 rfl rfl)
theorem dX9_comesTo_66 : decode cX9_comesTo 66 = .ok (.iaload, 1) := dk_46 (dk_at dksX9_comesTo_2 18 rfl rfl)
theorem dX9_comesTo_67 : decode cX9_comesTo 67 = .ok (.iload_n 1, 1) := dk_27 (dk_at dksX9_comesTo_2 19 rfl rfl)
theorem dX9_comesTo_68 : decode cX9_comesTo 68 = .ok (.iconst 1, 1) := dk_4 (dk_at dksX9_comesTo_2 20 rfl rfl)
theorem dX9_comesTo_69 : decode cX9_comesTo 69 = .ok (.isub, 1) := dk_100 (dk_at dksX9_comesTo_2 21 rfl rfl)
theorem dX9_comesTo_70 : decode cX9_comesTo 70 = .ok (.iconst 4, 1) := dk_7 (dk_at dksX9_comesTo_2 22 rfl rfl)
theorem dX9_comesTo_71 : decode cX9_comesTo 71 = .ok (.irem, 1) := dk_112 (dk_at dksX9_comesTo_2 23 rfl rfl)
theorem dX9_comesTo_72 : decode cX9_comesTo 72 = .ok (.invokestatic 292, 3) := dk_184 1 36 (dk_at dksX9_comesTo_3 0 rfl rfl)
theorem dX9_comesTo_75 : decode cX9_comesTo 75 = .ok (.iadd, 1) := dk_96 (dk_at dksX9_comesTo_3 3 rfl rfl)
theorem dX9_comesTo_76 : decode cX9_comesTo 76 = .ok (.iastore, 1) := dk_79 (dk_at dksX9_comesTo_3 4 rfl rfl)
theorem dX9_comesTo_77 : decode cX9_comesTo 77 = .ok (.aload_n 0, 1) := dk_42 (dk_at dksX9_comesTo_3 5 rfl rfl)
theorem dX9_comesTo_78 : decode cX9_comesTo 78 = .ok (.iload_n 2, 1) := dk_28 (dk_at dksX9_comesTo_3 6 rfl rfl)
theorem dX9_comesTo_79 : decode cX9_comesTo 79 = .ok (.invokevirtual 163, 3) := dk_182 0 163 (dk_at dksX9_comesTo_3 7 rfl rfl)
theorem dX9_comesTo_82 : decode cX9_comesTo 82 = .ok (.aload_n 0, 1) := dk_42 (dk_at dksX9_comesTo_3 10 rfl rfl)
theorem dX9_comesTo_83 : decode cX9_comesTo 83 = .ok (.iconst 1, 1) := dk_4 (dk_at dksX9_comesTo_3 11 rfl rfl)
theorem dX9_comesTo_84 : decode cX9_comesTo 84 = .ok (.invokevirtual 167, 3) := dk_182 0 167 (dk_at dksX9_comesTo_3 12 rfl rfl)
theorem dX9_comesTo_87 : decode cX9_comesTo 87 = .ok (.aload_n 0, 1) := dk_42 (dk_at dksX9_comesTo_3 15 rfl rfl)
theorem dX9_comesTo_88 : decode cX9_comesTo 88 = .ok (.getfield 38, 3) := dk_180 0 38 (dk_at dksX9_comesTo_3 16 rfl rfl)
theorem dX9_comesTo_91 : decode cX9_comesTo 91 = .ok (.iload_n 3, 1) := dk_29 (dk_at dksX9_comesTo_3 19 rfl rfl)
theorem dX9_comesTo_92 : decode cX9_comesTo 92 = .ok (.iaload, 1) := dk_46 (dk_at dksX9_comesTo_3 20 rfl rfl)
theorem dX9_comesTo_93 : decode cX9_comesTo 93 = .ok (.ireturn, 1) := dk_172 (dk_at dksX9_comesTo_3 21 rfl rfl)
abbrev cX9_more : ByteArray := prog_19_method_56_code
def yX9_more : MethodName := ⟨RX9, "more", "(I)I"⟩
def dkwX9_more_0 : List UInt8 := [26, 5, 162, 0, 9, 26, 5, 100, 167, 0, 6, 26, 4, 100, 172]
abbrev dktX9_more_0 : List UInt8 := dkwX9_more_0 ++ []
theorem dksX9_more_0 : cX9_more.data.toList.drop 0 = dktX9_more_0 := by decide +kernel
theorem dX9_more_0 : decode cX9_more 0 = .ok (.iload_n 0, 1) := dk_26 (dk_at dksX9_more_0 0 rfl rfl)
theorem dX9_more_1 : decode cX9_more 1 = .ok (.iconst 2, 1) := dk_5 (dk_at dksX9_more_0 1 rfl rfl)
theorem dX9_more_2 : decode cX9_more 2 = .ok (.if_icmp .ge 9, 3) := dk_162 0 9 (dk_at dksX9_more_0 2 rfl rfl)
theorem dX9_more_5 : decode cX9_more 5 = .ok (.iload_n 0, 1) := dk_26 (dk_at dksX9_more_0 5 rfl rfl)
theorem dX9_more_6 : decode cX9_more 6 = .ok (.iconst 2, 1) := dk_5 (dk_at dksX9_more_0 6 rfl rfl)
theorem dX9_more_7 : decode cX9_more 7 = .ok (.isub, 1) := dk_100 (dk_at dksX9_more_0 7 rfl rfl)
theorem dX9_more_8 : decode cX9_more 8 = .ok (.goto 6, 3) := dk_167 0 6 (dk_at dksX9_more_0 8 rfl rfl)
theorem dX9_more_11 : decode cX9_more 11 = .ok (.iload_n 0, 1) := dk_26 (dk_at dksX9_more_0 11 rfl rfl)
theorem dX9_more_12 : decode cX9_more 12 = .ok (.iconst 1, 1) := dk_4 (dk_at dksX9_more_0 12 rfl rfl)
theorem dX9_more_13 : decode cX9_more 13 = .ok (.isub, 1) := dk_100 (dk_at dksX9_more_0 13 rfl rfl)
theorem dX9_more_14 : decode cX9_more 14 = .ok (.ireturn, 1) := dk_172 (dk_at dksX9_more_0 14 rfl rfl)
abbrev cX9_held : ByteArray := prog_19_method_59_code
def yX9_held : MethodName := ⟨RX9, "held", "(I)I"⟩
def dkwX9_held_2 : List UInt8 := [167, 255, 223, 27, 2, 160, 0, 7, 28, 167, 0, 4, 2, 172]
abbrev dktX9_held_2 : List UInt8 := dkwX9_held_2 ++ []
def dkwX9_held_1 : List UInt8 := [180, 0, 111, 29, 51, 154, 0, 6, 167, 0, 13, 28, 27, 160, 0, 5, 29, 172, 132, 2, 1, 132, 3, 1]
abbrev dktX9_held_1 : List UInt8 := dkwX9_held_1 ++ dktX9_held_2
def dkwX9_held_0 : List UInt8 := [42, 180, 1, 30, 154, 0, 6, 16, 253, 172, 3, 61, 3, 62, 29, 42, 180, 1, 27, 162, 0, 31, 42]
abbrev dktX9_held_0 : List UInt8 := dkwX9_held_0 ++ dktX9_held_1
theorem dksX9_held_0 : cX9_held.data.toList.drop 0 = dktX9_held_0 := by decide +kernel
theorem dksX9_held_1 : cX9_held.data.toList.drop 23 = dktX9_held_1 := dk_seg dksX9_held_0 23 rfl rfl
theorem dksX9_held_2 : cX9_held.data.toList.drop 47 = dktX9_held_2 := dk_seg dksX9_held_1 24 rfl rfl
theorem dX9_held_0 : decode cX9_held 0 = .ok (.aload_n 0, 1) := dk_42 (dk_at dksX9_held_0 0 rfl rfl)
theorem dX9_held_1 : decode cX9_held 1 = .ok (.getfield 286, 3) := dk_180 1 30 (dk_at dksX9_held_0 1 rfl rfl)
theorem dX9_held_4 : decode cX9_held 4 = .ok (.ifCond .ne 6, 3) := dk_154 0 6 (dk_at dksX9_held_0 4 rfl rfl)
theorem dX9_held_7 : decode cX9_held 7 = .ok (.bipush (-3), 2) := dk_16 253 (dk_at dksX9_held_0 7 rfl rfl)
theorem dX9_held_9 : decode cX9_held 9 = .ok (.ireturn, 1) := dk_172 (dk_at dksX9_held_0 9 rfl rfl)
theorem dX9_held_10 : decode cX9_held 10 = .ok (.iconst 0, 1) := dk_3 (dk_at dksX9_held_0 10 rfl rfl)
theorem dX9_held_11 : decode cX9_held 11 = .ok (.istore_n 2, 1) := dk_61 (dk_at dksX9_held_0 11 rfl rfl)
theorem dX9_held_12 : decode cX9_held 12 = .ok (.iconst 0, 1) := dk_3 (dk_at dksX9_held_0 12 rfl rfl)
theorem dX9_held_13 : decode cX9_held 13 = .ok (.istore_n 3, 1) := dk_62 (dk_at dksX9_held_0 13 rfl rfl)
theorem dX9_held_14 : decode cX9_held 14 = .ok (.iload_n 3, 1) := dk_29 (dk_at dksX9_held_0 14 rfl rfl)
theorem dX9_held_15 : decode cX9_held 15 = .ok (.aload_n 0, 1) := dk_42 (dk_at dksX9_held_0 15 rfl rfl)
theorem dX9_held_16 : decode cX9_held 16 = .ok (.getfield 283, 3) := dk_180 1 27 (dk_at dksX9_held_0 16 rfl rfl)
theorem dX9_held_19 : decode cX9_held 19 = .ok (.if_icmp .ge 31, 3) := dk_162 0 31 (dk_at dksX9_held_0 19 rfl rfl)
theorem dX9_held_22 : decode cX9_held 22 = .ok (.aload_n 0, 1) := dk_42 (dk_at dksX9_held_0 22 rfl rfl)
theorem dX9_held_23 : decode cX9_held 23 = .ok (.getfield 111, 3) := dk_180 0 111 (dk_at dksX9_held_1 0 rfl rfl)
theorem dX9_held_26 : decode cX9_held 26 = .ok (.iload_n 3, 1) := dk_29 (dk_at dksX9_held_1 3 rfl rfl)
theorem dX9_held_27 : decode cX9_held 27 = .ok (.baload, 1) := dk_51 (dk_at dksX9_held_1 4 rfl rfl)
theorem dX9_held_28 : decode cX9_held 28 = .ok (.ifCond .ne 6, 3) := dk_154 0 6 (dk_at dksX9_held_1 5 rfl rfl)
theorem dX9_held_31 : decode cX9_held 31 = .ok (.goto 13, 3) := dk_167 0 13 (dk_at dksX9_held_1 8 rfl rfl)
theorem dX9_held_34 : decode cX9_held 34 = .ok (.iload_n 2, 1) := dk_28 (dk_at dksX9_held_1 11 rfl rfl)
theorem dX9_held_35 : decode cX9_held 35 = .ok (.iload_n 1, 1) := dk_27 (dk_at dksX9_held_1 12 rfl rfl)
theorem dX9_held_36 : decode cX9_held 36 = .ok (.if_icmp .ne 5, 3) := dk_160 0 5 (dk_at dksX9_held_1 13 rfl rfl)
theorem dX9_held_39 : decode cX9_held 39 = .ok (.iload_n 3, 1) := dk_29 (dk_at dksX9_held_1 16 rfl rfl)
theorem dX9_held_40 : decode cX9_held 40 = .ok (.ireturn, 1) := dk_172 (dk_at dksX9_held_1 17 rfl rfl)
theorem dX9_held_41 : decode cX9_held 41 = .ok (.iinc 2 1, 3) := dk_132 2 1 (dk_at dksX9_held_1 18 rfl rfl)
theorem dX9_held_44 : decode cX9_held 44 = .ok (.iinc 3 1, 3) := dk_132 3 1 (dk_at dksX9_held_1 21 rfl rfl)
theorem dX9_held_47 : decode cX9_held 47 = .ok (.goto (-33), 3) := dk_167 255 223 (dk_at dksX9_held_2 0 rfl rfl)
theorem dX9_held_50 : decode cX9_held 50 = .ok (.iload_n 1, 1) := dk_27 (dk_at dksX9_held_2 3 rfl rfl)
theorem dX9_held_51 : decode cX9_held 51 = .ok (.iconst (-1), 1) := dk_2 (dk_at dksX9_held_2 4 rfl rfl)
theorem dX9_held_52 : decode cX9_held 52 = .ok (.if_icmp .ne 7, 3) := dk_160 0 7 (dk_at dksX9_held_2 5 rfl rfl)
theorem dX9_held_55 : decode cX9_held 55 = .ok (.iload_n 2, 1) := dk_28 (dk_at dksX9_held_2 8 rfl rfl)
theorem dX9_held_56 : decode cX9_held 56 = .ok (.goto 4, 3) := dk_167 0 4 (dk_at dksX9_held_2 9 rfl rfl)
theorem dX9_held_59 : decode cX9_held 59 = .ok (.iconst (-1), 1) := dk_2 (dk_at dksX9_held_2 12 rfl rfl)
theorem dX9_held_60 : decode cX9_held 60 = .ok (.ireturn, 1) := dk_172 (dk_at dksX9_held_2 13 rfl rfl)
abbrev cX9_next : ByteArray := prog_19_method_60_code
def yX9_next : MethodName := ⟨RX9, "next", "()I"⟩
def dkwX9_next_7 : List UInt8 := [96, 60, 132, 4, 1, 167, 255, 123, 132, 3, 1, 167, 255, 106, 27, 172]
abbrev dktX9_next_7 : List UInt8 := dkwX9_next_7 ++ []
def dkwX9_next_6 : List UInt8 := [132, 6, 1, 167, 255, 188, 21, 5, 28, 161, 0, 6, 167, 0, 14, 21, 5, 61, 16, 10, 29, 104, 21, 4]
abbrev dktX9_next_6 : List UInt8 := dkwX9_next_6 ++ dktX9_next_7
def dkwX9_next_5 : List UInt8 := [79, 42, 180, 0, 114, 21, 7, 46, 21, 5, 164, 0, 12, 42, 180, 0, 114, 21, 7, 46, 54, 5]
abbrev dktX9_next_5 : List UInt8 := dkwX9_next_5 ++ dktX9_next_6
def dkwX9_next_4 : List UInt8 := [167, 0, 46, 42, 21, 6, 29, 21, 4, 182, 1, 39, 54, 7, 42, 180, 0, 114, 21, 7, 92, 46, 4, 96]
abbrev dktX9_next_4 : List UInt8 := dkwX9_next_4 ++ dktX9_next_5
def dkwX9_next_3 : List UInt8 := [54, 5, 3, 54, 6, 21, 6, 42, 180, 1, 27, 162, 0, 65, 42, 180, 0, 111, 21, 6, 51, 154, 0, 6]
abbrev dktX9_next_3 : List UInt8 := dkwX9_next_3 ++ dktX9_next_4
def dkwX9_next_2 : List UInt8 := [54, 5, 21, 5, 16, 97, 162, 0, 17, 42, 180, 0, 114, 21, 5, 3, 79, 132, 5, 1, 167, 255, 238, 3]
abbrev dktX9_next_2 : List UInt8 := dkwX9_next_2 ++ dktX9_next_3
def dkwX9_next_1 : List UInt8 := [3, 62, 29, 42, 180, 0, 117, 162, 0, 148, 3, 54, 4, 21, 4, 42, 180, 0, 117, 162, 0, 130, 3]
abbrev dktX9_next_1 : List UInt8 := dkwX9_next_1 ++ dktX9_next_2
def dkwX9_next_0 : List UInt8 := [42, 180, 1, 30, 153, 0, 11, 42, 2, 182, 1, 43, 154, 0, 6, 16, 253, 172, 2, 60, 17, 3, 232, 61]
abbrev dktX9_next_0 : List UInt8 := dkwX9_next_0 ++ dktX9_next_1
theorem dksX9_next_0 : cX9_next.data.toList.drop 0 = dktX9_next_0 := by decide +kernel
theorem dksX9_next_1 : cX9_next.data.toList.drop 24 = dktX9_next_1 := dk_seg dksX9_next_0 24 rfl rfl
theorem dksX9_next_2 : cX9_next.data.toList.drop 47 = dktX9_next_2 := dk_seg dksX9_next_1 23 rfl rfl
theorem dksX9_next_3 : cX9_next.data.toList.drop 71 = dktX9_next_3 := dk_seg dksX9_next_2 24 rfl rfl
theorem dksX9_next_4 : cX9_next.data.toList.drop 95 = dktX9_next_4 := dk_seg dksX9_next_3 24 rfl rfl
theorem dksX9_next_5 : cX9_next.data.toList.drop 119 = dktX9_next_5 := dk_seg dksX9_next_4 24 rfl rfl
theorem dksX9_next_6 : cX9_next.data.toList.drop 141 = dktX9_next_6 := dk_seg dksX9_next_5 22 rfl rfl
theorem dksX9_next_7 : cX9_next.data.toList.drop 165 = dktX9_next_7 := dk_seg dksX9_next_6 24 rfl rfl
theorem dX9_next_0 : decode cX9_next 0 = .ok (.aload_n 0, 1) := dk_42 (dk_at dksX9_next_0 0 rfl rfl)
theorem dX9_next_1 : decode cX9_next 1 = .ok (.getfield 286, 3) := dk_180 1 30 (dk_at dksX9_next_0 1 rfl rfl)
theorem dX9_next_4 : decode cX9_next 4 = .ok (.ifCond .eq 11, 3) := dk_153 0 11 (dk_at dksX9_next_0 4 rfl rfl)
theorem dX9_next_7 : decode cX9_next 7 = .ok (.aload_n 0, 1) := dk_42 (dk_at dksX9_next_0 7 rfl rfl)
theorem dX9_next_8 : decode cX9_next 8 = .ok (.iconst (-1), 1) := dk_2 (dk_at dksX9_next_0 8 rfl rfl)
theorem dX9_next_9 : decode cX9_next 9 = .ok (.invokevirtual 299, 3) := dk_182 1 43 (dk_at dksX9_next_0 9 rfl rfl)
theorem dX9_next_12 : decode cX9_next 12 = .ok (.ifCond .ne 6, 3) := dk_154 0 6 (dk_at dksX9_next_0 12 rfl rfl)
theorem dX9_next_15 : decode cX9_next 15 = .ok (.bipush (-3), 2) := dk_16 253 (dk_at dksX9_next_0 15 rfl rfl)
theorem dX9_next_17 : decode cX9_next 17 = .ok (.ireturn, 1) := dk_172 (dk_at dksX9_next_0 17 rfl rfl)
theorem dX9_next_18 : decode cX9_next 18 = .ok (.iconst (-1), 1) := dk_2 (dk_at dksX9_next_0 18 rfl rfl)
theorem dX9_next_19 : decode cX9_next 19 = .ok (.istore_n 1, 1) := dk_60 (dk_at dksX9_next_0 19 rfl rfl)
theorem dX9_next_20 : decode cX9_next 20 = .ok (.sipush 1000, 3) := dk_17 3 232 (dk_at dksX9_next_0 20 rfl rfl)
theorem dX9_next_23 : decode cX9_next 23 = .ok (.istore_n 2, 1) := dk_61 (dk_at dksX9_next_0 23 rfl rfl)
theorem dX9_next_24 : decode cX9_next 24 = .ok (.iconst 0, 1) := dk_3 (dk_at dksX9_next_1 0 rfl rfl)
theorem dX9_next_25 : decode cX9_next 25 = .ok (.istore_n 3, 1) := dk_62 (dk_at dksX9_next_1 1 rfl rfl)
theorem dX9_next_26 : decode cX9_next 26 = .ok (.iload_n 3, 1) := dk_29 (dk_at dksX9_next_1 2 rfl rfl)
theorem dX9_next_27 : decode cX9_next 27 = .ok (.aload_n 0, 1) := dk_42 (dk_at dksX9_next_1 3 rfl rfl)
theorem dX9_next_28 : decode cX9_next 28 = .ok (.getfield 117, 3) := dk_180 0 117 (dk_at dksX9_next_1 4 rfl rfl)
theorem dX9_next_31 : decode cX9_next 31 = .ok (.if_icmp .ge 148, 3) := dk_162 0 148 (dk_at dksX9_next_1 7 rfl rfl)
theorem dX9_next_34 : decode cX9_next 34 = .ok (.iconst 0, 1) := dk_3 (dk_at dksX9_next_1 10 rfl rfl)
theorem dX9_next_35 : decode cX9_next 35 = .ok (.istore 4, 2) := dk_54 4 (dk_at dksX9_next_1 11 rfl rfl)
theorem dX9_next_37 : decode cX9_next 37 = .ok (.iload 4, 2) := dk_21 4 (dk_at dksX9_next_1 13 rfl rfl)
theorem dX9_next_39 : decode cX9_next 39 = .ok (.aload_n 0, 1) := dk_42 (dk_at dksX9_next_1 15 rfl rfl)
theorem dX9_next_40 : decode cX9_next 40 = .ok (.getfield 117, 3) := dk_180 0 117 (dk_at dksX9_next_1 16 rfl rfl)
theorem dX9_next_43 : decode cX9_next 43 = .ok (.if_icmp .ge 130, 3) := dk_162 0 130 (dk_at dksX9_next_1 19 rfl rfl)
theorem dX9_next_46 : decode cX9_next 46 = .ok (.iconst 0, 1) := dk_3 (dk_at dksX9_next_1 22 rfl rfl)
theorem dX9_next_47 : decode cX9_next 47 = .ok (.istore 5, 2) := dk_54 5 (dk_at dksX9_next_2 0 rfl rfl)
theorem dX9_next_49 : decode cX9_next 49 = .ok (.iload 5, 2) := dk_21 5 (dk_at dksX9_next_2 2 rfl rfl)
theorem dX9_next_51 : decode cX9_next 51 = .ok (.bipush 97, 2) := dk_16 97 (dk_at dksX9_next_2 4 rfl rfl)
theorem dX9_next_53 : decode cX9_next 53 = .ok (.if_icmp .ge 17, 3) := dk_162 0 17 (dk_at dksX9_next_2 6 rfl rfl)
theorem dX9_next_56 : decode cX9_next 56 = .ok (.aload_n 0, 1) := dk_42 (dk_at dksX9_next_2 9 rfl rfl)
theorem dX9_next_57 : decode cX9_next 57 = .ok (.getfield 114, 3) := dk_180 0 114 (dk_at dksX9_next_2 10 rfl rfl)
theorem dX9_next_60 : decode cX9_next 60 = .ok (.iload 5, 2) := dk_21 5 (dk_at dksX9_next_2 13 rfl rfl)
theorem dX9_next_62 : decode cX9_next 62 = .ok (.iconst 0, 1) := dk_3 (dk_at dksX9_next_2 15 rfl rfl)
theorem dX9_next_63 : decode cX9_next 63 = .ok (.iastore, 1) := dk_79 (dk_at dksX9_next_2 16 rfl rfl)
theorem dX9_next_64 : decode cX9_next 64 = .ok (.iinc 5 1, 3) := dk_132 5 1 (dk_at dksX9_next_2 17 rfl rfl)
theorem dX9_next_67 : decode cX9_next 67 = .ok (.goto (-18), 3) := dk_167 255 238 (dk_at dksX9_next_2 20 rfl rfl)
theorem dX9_next_70 : decode cX9_next 70 = .ok (.iconst 0, 1) := dk_3 (dk_at dksX9_next_2 23 rfl rfl)
theorem dX9_next_71 : decode cX9_next 71 = .ok (.istore 5, 2) := dk_54 5 (dk_at dksX9_next_3 0 rfl rfl)
theorem dX9_next_73 : decode cX9_next 73 = .ok (.iconst 0, 1) := dk_3 (dk_at dksX9_next_3 2 rfl rfl)
theorem dX9_next_74 : decode cX9_next 74 = .ok (.istore 6, 2) := dk_54 6 (dk_at dksX9_next_3 3 rfl rfl)
theorem dX9_next_76 : decode cX9_next 76 = .ok (.iload 6, 2) := dk_21 6 (dk_at dksX9_next_3 5 rfl rfl)
theorem dX9_next_78 : decode cX9_next 78 = .ok (.aload_n 0, 1) := dk_42 (dk_at dksX9_next_3 7 rfl rfl)
theorem dX9_next_79 : decode cX9_next 79 = .ok (.getfield 283, 3) := dk_180 1 27 (dk_at dksX9_next_3 8 rfl rfl)
theorem dX9_next_82 : decode cX9_next 82 = .ok (.if_icmp .ge 65, 3) := dk_162 0 65 (dk_at dksX9_next_3 11 rfl rfl)
theorem dX9_next_85 : decode cX9_next 85 = .ok (.aload_n 0, 1) := dk_42 (dk_at dksX9_next_3 14 rfl rfl)
theorem dX9_next_86 : decode cX9_next 86 = .ok (.getfield 111, 3) := dk_180 0 111 (dk_at dksX9_next_3 15 rfl rfl)
theorem dX9_next_89 : decode cX9_next 89 = .ok (.iload 6, 2) := dk_21 6 (dk_at dksX9_next_3 18 rfl rfl)
theorem dX9_next_91 : decode cX9_next 91 = .ok (.baload, 1) := dk_51 (dk_at dksX9_next_3 20 rfl rfl)
theorem dX9_next_92 : decode cX9_next 92 = .ok (.ifCond .ne 6, 3) := dk_154 0 6 (dk_at dksX9_next_3 21 rfl rfl)
theorem dX9_next_95 : decode cX9_next 95 = .ok (.goto 46, 3) := dk_167 0 46 (dk_at dksX9_next_4 0 rfl rfl)
theorem dX9_next_98 : decode cX9_next 98 = .ok (.aload_n 0, 1) := dk_42 (dk_at dksX9_next_4 3 rfl rfl)
theorem dX9_next_99 : decode cX9_next 99 = .ok (.iload 6, 2) := dk_21 6 (dk_at dksX9_next_4 4 rfl rfl)
theorem dX9_next_101 : decode cX9_next 101 = .ok (.iload_n 3, 1) := dk_29 (dk_at dksX9_next_4 6 rfl rfl)
theorem dX9_next_102 : decode cX9_next 102 = .ok (.iload 4, 2) := dk_21 4 (dk_at dksX9_next_4 7 rfl rfl)
theorem dX9_next_104 : decode cX9_next 104 = .ok (.invokevirtual 295, 3) := dk_182 1 39 (dk_at dksX9_next_4 9 rfl rfl)
theorem dX9_next_107 : decode cX9_next 107 = .ok (.istore 7, 2) := dk_54 7 (dk_at dksX9_next_4 12 rfl rfl)
theorem dX9_next_109 : decode cX9_next 109 = .ok (.aload_n 0, 1) := dk_42 (dk_at dksX9_next_4 14 rfl rfl)
theorem dX9_next_110 : decode cX9_next 110 = .ok (.getfield 114, 3) := dk_180 0 114 (dk_at dksX9_next_4 15 rfl rfl)
theorem dX9_next_113 : decode cX9_next 113 = .ok (.iload 7, 2) := dk_21 7 (dk_at dksX9_next_4 18 rfl rfl)
theorem dX9_next_115 : decode cX9_next 115 = .ok (.dup2, 1) := dk_92 (dk_at dksX9_next_4 20 rfl rfl)
theorem dX9_next_116 : decode cX9_next 116 = .ok (.iaload, 1) := dk_46 (dk_at dksX9_next_4 21 rfl rfl)
theorem dX9_next_117 : decode cX9_next 117 = .ok (.iconst 1, 1) := dk_4 (dk_at dksX9_next_4 22 rfl rfl)
theorem dX9_next_118 : decode cX9_next 118 = .ok (.iadd, 1) := dk_96 (dk_at dksX9_next_4 23 rfl rfl)
theorem dX9_next_119 : decode cX9_next 119 = .ok (.iastore, 1) := dk_79 (dk_at dksX9_next_5 0 rfl rfl)
theorem dX9_next_120 : decode cX9_next 120 = .ok (.aload_n 0, 1) := dk_42 (dk_at dksX9_next_5 1 rfl rfl)
theorem dX9_next_121 : decode cX9_next 121 = .ok (.getfield 114, 3) := dk_180 0 114 (dk_at dksX9_next_5 2 rfl rfl)
theorem dX9_next_124 : decode cX9_next 124 = .ok (.iload 7, 2) := dk_21 7 (dk_at dksX9_next_5 5 rfl rfl)
theorem dX9_next_126 : decode cX9_next 126 = .ok (.iaload, 1) := dk_46 (dk_at dksX9_next_5 7 rfl rfl)
theorem dX9_next_127 : decode cX9_next 127 = .ok (.iload 5, 2) := dk_21 5 (dk_at dksX9_next_5 8 rfl rfl)
theorem dX9_next_129 : decode cX9_next 129 = .ok (.if_icmp .le 12, 3) := dk_164 0 12 (dk_at dksX9_next_5 10 rfl rfl)
theorem dX9_next_132 : decode cX9_next 132 = .ok (.aload_n 0, 1) := dk_42 (dk_at dksX9_next_5 13 rfl rfl)
theorem dX9_next_133 : decode cX9_next 133 = .ok (.getfield 114, 3) := dk_180 0 114 (dk_at dksX9_next_5 14 rfl rfl)
theorem dX9_next_136 : decode cX9_next 136 = .ok (.iload 7, 2) := dk_21 7 (dk_at dksX9_next_5 17 rfl rfl)
theorem dX9_next_138 : decode cX9_next 138 = .ok (.iaload, 1) := dk_46 (dk_at dksX9_next_5 19 rfl rfl)
theorem dX9_next_139 : decode cX9_next 139 = .ok (.istore 5, 2) := dk_54 5 (dk_at dksX9_next_5 20 rfl rfl)
theorem dX9_next_141 : decode cX9_next 141 = .ok (.iinc 6 1, 3) := dk_132 6 1 (dk_at dksX9_next_6 0 rfl rfl)
theorem dX9_next_144 : decode cX9_next 144 = .ok (.goto (-68), 3) := dk_167 255 188 (dk_at dksX9_next_6 3 rfl rfl)
theorem dX9_next_147 : decode cX9_next 147 = .ok (.iload 5, 2) := dk_21 5 (dk_at dksX9_next_6 6 rfl rfl)
theorem dX9_next_149 : decode cX9_next 149 = .ok (.iload_n 2, 1) := dk_28 (dk_at dksX9_next_6 8 rfl rfl)
theorem dX9_next_150 : decode cX9_next 150 = .ok (.if_icmp .lt 6, 3) := dk_161 0 6 (dk_at dksX9_next_6 9 rfl rfl)
theorem dX9_next_153 : decode cX9_next 153 = .ok (.goto 14, 3) := dk_167 0 14 (dk_at dksX9_next_6 12 rfl rfl)
theorem dX9_next_156 : decode cX9_next 156 = .ok (.iload 5, 2) := dk_21 5 (dk_at dksX9_next_6 15 rfl rfl)
theorem dX9_next_158 : decode cX9_next 158 = .ok (.istore_n 2, 1) := dk_61 (dk_at dksX9_next_6 17 rfl rfl)
theorem dX9_next_159 : decode cX9_next 159 = .ok (.bipush 10, 2) := dk_16 10 (dk_at dksX9_next_6 18 rfl rfl)
theorem dX9_next_161 : decode cX9_next 161 = .ok (.iload_n 3, 1) := dk_29 (dk_at dksX9_next_6 20 rfl rfl)
theorem dX9_next_162 : decode cX9_next 162 = .ok (.imul, 1) := dk_104 (dk_at dksX9_next_6 21 rfl rfl)
theorem dX9_next_163 : decode cX9_next 163 = .ok (.iload 4, 2) := dk_21 4 (dk_at dksX9_next_6 22 rfl rfl)
theorem dX9_next_165 : decode cX9_next 165 = .ok (.iadd, 1) := dk_96 (dk_at dksX9_next_7 0 rfl rfl)
theorem dX9_next_166 : decode cX9_next 166 = .ok (.istore_n 1, 1) := dk_60 (dk_at dksX9_next_7 1 rfl rfl)
theorem dX9_next_167 : decode cX9_next 167 = .ok (.iinc 4 1, 3) := dk_132 4 1 (dk_at dksX9_next_7 2 rfl rfl)
theorem dX9_next_170 : decode cX9_next 170 = .ok (.goto (-133), 3) := dk_167 255 123 (dk_at dksX9_next_7 5 rfl rfl)
theorem dX9_next_173 : decode cX9_next 173 = .ok (.iinc 3 1, 3) := dk_132 3 1 (dk_at dksX9_next_7 8 rfl rfl)
theorem dX9_next_176 : decode cX9_next 176 = .ok (.goto (-150), 3) := dk_167 255 106 (dk_at dksX9_next_7 11 rfl rfl)
theorem dX9_next_179 : decode cX9_next 179 = .ok (.iload_n 1, 1) := dk_27 (dk_at dksX9_next_7 14 rfl rfl)
theorem dX9_next_180 : decode cX9_next 180 = .ok (.ireturn, 1) := dk_172 (dk_at dksX9_next_7 15 rfl rfl)
abbrev cX9_claim : ByteArray := prog_19_method_61_code
def yX9_claim : MethodName := ⟨RX9, "claim", "(III)I"⟩
def dkwX9_claim_2 : List UInt8 := [160, 0, 6, 16, 253, 172, 42, 180, 0, 22, 16, 6, 28, 104, 29, 96, 27, 79, 21, 4, 172]
abbrev dktX9_claim_2 : List UInt8 := dkwX9_claim_2 ++ []
def dkwX9_claim_1 : List UInt8 := [42, 180, 0, 22, 16, 6, 28, 104, 29, 96, 46, 54, 4, 27, 155, 0, 14, 21, 4, 4, 27, 100]
abbrev dktX9_claim_1 : List UInt8 := dkwX9_claim_1 ++ dktX9_claim_2
def dkwX9_claim_0 : List UInt8 := [42, 28, 29, 182, 0, 133, 153, 0, 15, 27, 133, 20, 0, 194, 10, 184, 0, 126, 154, 0, 6, 16, 251, 172]
abbrev dktX9_claim_0 : List UInt8 := dkwX9_claim_0 ++ dktX9_claim_1
theorem dksX9_claim_0 : cX9_claim.data.toList.drop 0 = dktX9_claim_0 := by decide +kernel
theorem dksX9_claim_1 : cX9_claim.data.toList.drop 24 = dktX9_claim_1 := dk_seg dksX9_claim_0 24 rfl rfl
theorem dksX9_claim_2 : cX9_claim.data.toList.drop 46 = dktX9_claim_2 := dk_seg dksX9_claim_1 22 rfl rfl
theorem dX9_claim_0 : decode cX9_claim 0 = .ok (.aload_n 0, 1) := dk_42 (dk_at dksX9_claim_0 0 rfl rfl)
theorem dX9_claim_1 : decode cX9_claim 1 = .ok (.iload_n 2, 1) := dk_28 (dk_at dksX9_claim_0 1 rfl rfl)
theorem dX9_claim_2 : decode cX9_claim 2 = .ok (.iload_n 3, 1) := dk_29 (dk_at dksX9_claim_0 2 rfl rfl)
theorem dX9_claim_3 : decode cX9_claim 3 = .ok (.invokevirtual 133, 3) := dk_182 0 133 (dk_at dksX9_claim_0 3 rfl rfl)
theorem dX9_claim_6 : decode cX9_claim 6 = .ok (.ifCond .eq 15, 3) := dk_153 0 15 (dk_at dksX9_claim_0 6 rfl rfl)
theorem dX9_claim_9 : decode cX9_claim 9 = .ok (.iload_n 1, 1) := dk_27 (dk_at dksX9_claim_0 9 rfl rfl)
theorem dX9_claim_10 : decode cX9_claim 10 = .ok (.i2l, 1) := dk_133 (dk_at dksX9_claim_0 10 rfl rfl)
theorem dX9_claim_11 : decode cX9_claim 11 = .ok (.ldc2_w 194, 3) := dk_20 0 194 (dk_at dksX9_claim_0 11 rfl rfl)
theorem dX9_claim_14 : decode cX9_claim 14 = .ok (.lconst 1, 1) := dk_10 (dk_at dksX9_claim_0 14 rfl rfl)
theorem dX9_claim_15 : decode cX9_claim 15 = .ok (.invokestatic 126, 3) := dk_184 0 126 (dk_at dksX9_claim_0 15 rfl rfl)
theorem dX9_claim_18 : decode cX9_claim 18 = .ok (.ifCond .ne 6, 3) := dk_154 0 6 (dk_at dksX9_claim_0 18 rfl rfl)
theorem dX9_claim_21 : decode cX9_claim 21 = .ok (.bipush (-5), 2) := dk_16 251 (dk_at dksX9_claim_0 21 rfl rfl)
theorem dX9_claim_23 : decode cX9_claim 23 = .ok (.ireturn, 1) := dk_172 (dk_at dksX9_claim_0 23 rfl rfl)
theorem dX9_claim_24 : decode cX9_claim 24 = .ok (.aload_n 0, 1) := dk_42 (dk_at dksX9_claim_1 0 rfl rfl)
theorem dX9_claim_25 : decode cX9_claim 25 = .ok (.getfield 22, 3) := dk_180 0 22 (dk_at dksX9_claim_1 1 rfl rfl)
theorem dX9_claim_28 : decode cX9_claim 28 = .ok (.bipush 6, 2) := dk_16 6 (dk_at dksX9_claim_1 4 rfl rfl)
theorem dX9_claim_30 : decode cX9_claim 30 = .ok (.iload_n 2, 1) := dk_28 (dk_at dksX9_claim_1 6 rfl rfl)
theorem dX9_claim_31 : decode cX9_claim 31 = .ok (.imul, 1) := dk_104 (dk_at dksX9_claim_1 7 rfl rfl)
theorem dX9_claim_32 : decode cX9_claim 32 = .ok (.iload_n 3, 1) := dk_29 (dk_at dksX9_claim_1 8 rfl rfl)
theorem dX9_claim_33 : decode cX9_claim 33 = .ok (.iadd, 1) := dk_96 (dk_at dksX9_claim_1 9 rfl rfl)
theorem dX9_claim_34 : decode cX9_claim 34 = .ok (.iaload, 1) := dk_46 (dk_at dksX9_claim_1 10 rfl rfl)
theorem dX9_claim_35 : decode cX9_claim 35 = .ok (.istore 4, 2) := dk_54 4 (dk_at dksX9_claim_1 11 rfl rfl)
theorem dX9_claim_37 : decode cX9_claim 37 = .ok (.iload_n 1, 1) := dk_27 (dk_at dksX9_claim_1 13 rfl rfl)
theorem dX9_claim_38 : decode cX9_claim 38 = .ok (.ifCond .lt 14, 3) := dk_155 0 14 (dk_at dksX9_claim_1 14 rfl rfl)
theorem dX9_claim_41 : decode cX9_claim 41 = .ok (.iload 4, 2) := dk_21 4 (dk_at dksX9_claim_1 17 rfl rfl)
theorem dX9_claim_43 : decode cX9_claim 43 = .ok (.iconst 1, 1) := dk_4 (dk_at dksX9_claim_1 19 rfl rfl)
theorem dX9_claim_44 : decode cX9_claim 44 = .ok (.iload_n 1, 1) := dk_27 (dk_at dksX9_claim_1 20 rfl rfl)
theorem dX9_claim_45 : decode cX9_claim 45 = .ok (.isub, 1) := dk_100 (dk_at dksX9_claim_1 21 rfl rfl)
theorem dX9_claim_46 : decode cX9_claim 46 = .ok (.if_icmp .ne 6, 3) := dk_160 0 6 (dk_at dksX9_claim_2 0 rfl rfl)
theorem dX9_claim_49 : decode cX9_claim 49 = .ok (.bipush (-3), 2) := dk_16 253 (dk_at dksX9_claim_2 3 rfl rfl)
theorem dX9_claim_51 : decode cX9_claim 51 = .ok (.ireturn, 1) := dk_172 (dk_at dksX9_claim_2 5 rfl rfl)
theorem dX9_claim_52 : decode cX9_claim 52 = .ok (.aload_n 0, 1) := dk_42 (dk_at dksX9_claim_2 6 rfl rfl)
theorem dX9_claim_53 : decode cX9_claim 53 = .ok (.getfield 22, 3) := dk_180 0 22 (dk_at dksX9_claim_2 7 rfl rfl)
theorem dX9_claim_56 : decode cX9_claim 56 = .ok (.bipush 6, 2) := dk_16 6 (dk_at dksX9_claim_2 10 rfl rfl)
theorem dX9_claim_58 : decode cX9_claim 58 = .ok (.iload_n 2, 1) := dk_28 (dk_at dksX9_claim_2 12 rfl rfl)
theorem dX9_claim_59 : decode cX9_claim 59 = .ok (.imul, 1) := dk_104 (dk_at dksX9_claim_2 13 rfl rfl)
theorem dX9_claim_60 : decode cX9_claim 60 = .ok (.iload_n 3, 1) := dk_29 (dk_at dksX9_claim_2 14 rfl rfl)
theorem dX9_claim_61 : decode cX9_claim 61 = .ok (.iadd, 1) := dk_96 (dk_at dksX9_claim_2 15 rfl rfl)
theorem dX9_claim_62 : decode cX9_claim 62 = .ok (.iload_n 1, 1) := dk_27 (dk_at dksX9_claim_2 16 rfl rfl)
theorem dX9_claim_63 : decode cX9_claim 63 = .ok (.iastore, 1) := dk_79 (dk_at dksX9_claim_2 17 rfl rfl)
theorem dX9_claim_64 : decode cX9_claim 64 = .ok (.iload 4, 2) := dk_21 4 (dk_at dksX9_claim_2 18 rfl rfl)
theorem dX9_claim_66 : decode cX9_claim 66 = .ok (.ireturn, 1) := dk_172 (dk_at dksX9_claim_2 20 rfl rfl)
abbrev cX9_meeting : ByteArray := prog_19_method_63_code
def yX9_meeting : MethodName := ⟨RX9, "meeting", "()I"⟩
def dkwX9_meeting_1 : List UInt8 := [167, 255, 234, 16, 251, 172]
abbrev dktX9_meeting_1 : List UInt8 := dkwX9_meeting_1 ++ []
def dkwX9_meeting_0 : List UInt8 := [3, 60, 27, 42, 180, 0, 117, 162, 0, 20, 42, 27, 182, 1, 46, 6, 160, 0, 5, 27, 172, 132, 1, 1]
abbrev dktX9_meeting_0 : List UInt8 := dkwX9_meeting_0 ++ dktX9_meeting_1
theorem dksX9_meeting_0 : cX9_meeting.data.toList.drop 0 = dktX9_meeting_0 := by decide +kernel
theorem dksX9_meeting_1 : cX9_meeting.data.toList.drop 24 = dktX9_meeting_1 := dk_seg dksX9_meeting_0 24 rfl rfl
theorem dX9_meeting_0 : decode cX9_meeting 0 = .ok (.iconst 0, 1) := dk_3 (dk_at dksX9_meeting_0 0 rfl rfl)
theorem dX9_meeting_1 : decode cX9_meeting 1 = .ok (.istore_n 1, 1) := dk_60 (dk_at dksX9_meeting_0 1 rfl rfl)
theorem dX9_meeting_2 : decode cX9_meeting 2 = .ok (.iload_n 1, 1) := dk_27 (dk_at dksX9_meeting_0 2 rfl rfl)
theorem dX9_meeting_3 : decode cX9_meeting 3 = .ok (.aload_n 0, 1) := dk_42 (dk_at dksX9_meeting_0 3 rfl rfl)
theorem dX9_meeting_4 : decode cX9_meeting 4 = .ok (.getfield 117, 3) := dk_180 0 117 (dk_at dksX9_meeting_0 4 rfl rfl)
theorem dX9_meeting_7 : decode cX9_meeting 7 = .ok (.if_icmp .ge 20, 3) := dk_162 0 20 (dk_at dksX9_meeting_0 7 rfl rfl)
theorem dX9_meeting_10 : decode cX9_meeting 10 = .ok (.aload_n 0, 1) := dk_42 (dk_at dksX9_meeting_0 10 rfl rfl)
theorem dX9_meeting_11 : decode cX9_meeting 11 = .ok (.iload_n 1, 1) := dk_27 (dk_at dksX9_meeting_0 11 rfl rfl)
theorem dX9_meeting_12 : decode cX9_meeting 12 = .ok (.invokevirtual 302, 3) := dk_182 1 46 (dk_at dksX9_meeting_0 12 rfl rfl)
theorem dX9_meeting_15 : decode cX9_meeting 15 = .ok (.iconst 3, 1) := dk_6 (dk_at dksX9_meeting_0 15 rfl rfl)
theorem dX9_meeting_16 : decode cX9_meeting 16 = .ok (.if_icmp .ne 5, 3) := dk_160 0 5 (dk_at dksX9_meeting_0 16 rfl rfl)
theorem dX9_meeting_19 : decode cX9_meeting 19 = .ok (.iload_n 1, 1) := dk_27 (dk_at dksX9_meeting_0 19 rfl rfl)
theorem dX9_meeting_20 : decode cX9_meeting 20 = .ok (.ireturn, 1) := dk_172 (dk_at dksX9_meeting_0 20 rfl rfl)
theorem dX9_meeting_21 : decode cX9_meeting 21 = .ok (.iinc 1 1, 3) := dk_132 1 1 (dk_at dksX9_meeting_0 21 rfl rfl)
theorem dX9_meeting_24 : decode cX9_meeting 24 = .ok (.goto (-22), 3) := dk_167 255 234 (dk_at dksX9_meeting_1 0 rfl rfl)
theorem dX9_meeting_27 : decode cX9_meeting 27 = .ok (.bipush (-5), 2) := dk_16 251 (dk_at dksX9_meeting_1 3 rfl rfl)
theorem dX9_meeting_29 : decode cX9_meeting 29 = .ok (.ireturn, 1) := dk_172 (dk_at dksX9_meeting_1 5 rfl rfl)
abbrev cX9_meets : ByteArray := prog_19_method_62_code
def yX9_meets : MethodName := ⟨RX9, "meets", "(I)I"⟩
def dkwX9_meets_4 : List UInt8 := [167, 255, 170, 29, 172]
abbrev dktX9_meets_4 : List UInt8 := dkwX9_meets_4 ++ []
def dkwX9_meets_3 : List UInt8 := [180, 0, 22, 16, 6, 21, 4, 104, 21, 5, 96, 46, 120, 128, 62, 132, 5, 2, 167, 255, 189, 132, 4, 1]
abbrev dktX9_meets_3 : List UInt8 := dkwX9_meets_3 ++ dktX9_meets_4
def dkwX9_meets_2 : List UInt8 := [21, 5, 120, 128, 61, 42, 180, 0, 22, 16, 6, 21, 4, 104, 21, 5, 96, 46, 155, 0, 21, 29, 4, 42]
abbrev dktX9_meets_2 : List UInt8 := dkwX9_meets_2 ++ dktX9_meets_3
def dkwX9_meets_1 : List UInt8 := [42, 180, 0, 117, 4, 100, 162, 0, 62, 28, 21, 5, 122, 6, 126, 154, 0, 6, 167, 0, 44, 28, 6]
abbrev dktX9_meets_1 : List UInt8 := dkwX9_meets_1 ++ dktX9_meets_2
def dkwX9_meets_0 : List UInt8 := [4, 27, 120, 61, 3, 62, 3, 54, 4, 21, 4, 16, 12, 162, 0, 85, 21, 4, 5, 112, 54, 5, 21, 5]
abbrev dktX9_meets_0 : List UInt8 := dkwX9_meets_0 ++ dktX9_meets_1
theorem dksX9_meets_0 : cX9_meets.data.toList.drop 0 = dktX9_meets_0 := by decide +kernel
theorem dksX9_meets_1 : cX9_meets.data.toList.drop 24 = dktX9_meets_1 := dk_seg dksX9_meets_0 24 rfl rfl
theorem dksX9_meets_2 : cX9_meets.data.toList.drop 47 = dktX9_meets_2 := dk_seg dksX9_meets_1 23 rfl rfl
theorem dksX9_meets_3 : cX9_meets.data.toList.drop 71 = dktX9_meets_3 := dk_seg dksX9_meets_2 24 rfl rfl
theorem dksX9_meets_4 : cX9_meets.data.toList.drop 95 = dktX9_meets_4 := dk_seg dksX9_meets_3 24 rfl rfl
theorem dX9_meets_0 : decode cX9_meets 0 = .ok (.iconst 1, 1) := dk_4 (dk_at dksX9_meets_0 0 rfl rfl)
theorem dX9_meets_1 : decode cX9_meets 1 = .ok (.iload_n 1, 1) := dk_27 (dk_at dksX9_meets_0 1 rfl rfl)
theorem dX9_meets_2 : decode cX9_meets 2 = .ok (.ishl, 1) := dk_120 (dk_at dksX9_meets_0 2 rfl rfl)
theorem dX9_meets_3 : decode cX9_meets 3 = .ok (.istore_n 2, 1) := dk_61 (dk_at dksX9_meets_0 3 rfl rfl)
theorem dX9_meets_4 : decode cX9_meets 4 = .ok (.iconst 0, 1) := dk_3 (dk_at dksX9_meets_0 4 rfl rfl)
theorem dX9_meets_5 : decode cX9_meets 5 = .ok (.istore_n 3, 1) := dk_62 (dk_at dksX9_meets_0 5 rfl rfl)
theorem dX9_meets_6 : decode cX9_meets 6 = .ok (.iconst 0, 1) := dk_3 (dk_at dksX9_meets_0 6 rfl rfl)
theorem dX9_meets_7 : decode cX9_meets 7 = .ok (.istore 4, 2) := dk_54 4 (dk_at dksX9_meets_0 7 rfl rfl)
theorem dX9_meets_9 : decode cX9_meets 9 = .ok (.iload 4, 2) := dk_21 4 (dk_at dksX9_meets_0 9 rfl rfl)
theorem dX9_meets_11 : decode cX9_meets 11 = .ok (.bipush 12, 2) := dk_16 12 (dk_at dksX9_meets_0 11 rfl rfl)
theorem dX9_meets_13 : decode cX9_meets 13 = .ok (.if_icmp .ge 85, 3) := dk_162 0 85 (dk_at dksX9_meets_0 13 rfl rfl)
theorem dX9_meets_16 : decode cX9_meets 16 = .ok (.iload 4, 2) := dk_21 4 (dk_at dksX9_meets_0 16 rfl rfl)
theorem dX9_meets_18 : decode cX9_meets 18 = .ok (.iconst 2, 1) := dk_5 (dk_at dksX9_meets_0 18 rfl rfl)
theorem dX9_meets_19 : decode cX9_meets 19 = .ok (.irem, 1) := dk_112 (dk_at dksX9_meets_0 19 rfl rfl)
theorem dX9_meets_20 : decode cX9_meets 20 = .ok (.istore 5, 2) := dk_54 5 (dk_at dksX9_meets_0 20 rfl rfl)
theorem dX9_meets_22 : decode cX9_meets 22 = .ok (.iload 5, 2) := dk_21 5 (dk_at dksX9_meets_0 22 rfl rfl)
theorem dX9_meets_24 : decode cX9_meets 24 = .ok (.aload_n 0, 1) := dk_42 (dk_at dksX9_meets_1 0 rfl rfl)
theorem dX9_meets_25 : decode cX9_meets 25 = .ok (.getfield 117, 3) := dk_180 0 117 (dk_at dksX9_meets_1 1 rfl rfl)
theorem dX9_meets_28 : decode cX9_meets 28 = .ok (.iconst 1, 1) := dk_4 (dk_at dksX9_meets_1 4 rfl rfl)
theorem dX9_meets_29 : decode cX9_meets 29 = .ok (.isub, 1) := dk_100 (dk_at dksX9_meets_1 5 rfl rfl)
theorem dX9_meets_30 : decode cX9_meets 30 = .ok (.if_icmp .ge 62, 3) := dk_162 0 62 (dk_at dksX9_meets_1 6 rfl rfl)
theorem dX9_meets_33 : decode cX9_meets 33 = .ok (.iload_n 2, 1) := dk_28 (dk_at dksX9_meets_1 9 rfl rfl)
theorem dX9_meets_34 : decode cX9_meets 34 = .ok (.iload 5, 2) := dk_21 5 (dk_at dksX9_meets_1 10 rfl rfl)
theorem dX9_meets_36 : decode cX9_meets 36 = .ok (.ishr, 1) := dk_122 (dk_at dksX9_meets_1 12 rfl rfl)
theorem dX9_meets_37 : decode cX9_meets 37 = .ok (.iconst 3, 1) := dk_6 (dk_at dksX9_meets_1 13 rfl rfl)
theorem dX9_meets_38 : decode cX9_meets 38 = .ok (.iand, 1) := dk_126 (dk_at dksX9_meets_1 14 rfl rfl)
theorem dX9_meets_39 : decode cX9_meets 39 = .ok (.ifCond .ne 6, 3) := dk_154 0 6 (dk_at dksX9_meets_1 15 rfl rfl)
theorem dX9_meets_42 : decode cX9_meets 42 = .ok (.goto 44, 3) := dk_167 0 44 (dk_at dksX9_meets_1 18 rfl rfl)
theorem dX9_meets_45 : decode cX9_meets 45 = .ok (.iload_n 2, 1) := dk_28 (dk_at dksX9_meets_1 21 rfl rfl)
theorem dX9_meets_46 : decode cX9_meets 46 = .ok (.iconst 3, 1) := dk_6 (dk_at dksX9_meets_1 22 rfl rfl)
theorem dX9_meets_47 : decode cX9_meets 47 = .ok (.iload 5, 2) := dk_21 5 (dk_at dksX9_meets_2 0 rfl rfl)
theorem dX9_meets_49 : decode cX9_meets 49 = .ok (.ishl, 1) := dk_120 (dk_at dksX9_meets_2 2 rfl rfl)
theorem dX9_meets_50 : decode cX9_meets 50 = .ok (.ior, 1) := dk_128 (dk_at dksX9_meets_2 3 rfl rfl)
theorem dX9_meets_51 : decode cX9_meets 51 = .ok (.istore_n 2, 1) := dk_61 (dk_at dksX9_meets_2 4 rfl rfl)
theorem dX9_meets_52 : decode cX9_meets 52 = .ok (.aload_n 0, 1) := dk_42 (dk_at dksX9_meets_2 5 rfl rfl)
theorem dX9_meets_53 : decode cX9_meets 53 = .ok (.getfield 22, 3) := dk_180 0 22 (dk_at dksX9_meets_2 6 rfl rfl)
theorem dX9_meets_56 : decode cX9_meets 56 = .ok (.bipush 6, 2) := dk_16 6 (dk_at dksX9_meets_2 9 rfl rfl)
theorem dX9_meets_58 : decode cX9_meets 58 = .ok (.iload 4, 2) := dk_21 4 (dk_at dksX9_meets_2 11 rfl rfl)
theorem dX9_meets_60 : decode cX9_meets 60 = .ok (.imul, 1) := dk_104 (dk_at dksX9_meets_2 13 rfl rfl)
theorem dX9_meets_61 : decode cX9_meets 61 = .ok (.iload 5, 2) := dk_21 5 (dk_at dksX9_meets_2 14 rfl rfl)
theorem dX9_meets_63 : decode cX9_meets 63 = .ok (.iadd, 1) := dk_96 (dk_at dksX9_meets_2 16 rfl rfl)
theorem dX9_meets_64 : decode cX9_meets 64 = .ok (.iaload, 1) := dk_46 (dk_at dksX9_meets_2 17 rfl rfl)
theorem dX9_meets_65 : decode cX9_meets 65 = .ok (.ifCond .lt 21, 3) := dk_155 0 21 (dk_at dksX9_meets_2 18 rfl rfl)
theorem dX9_meets_68 : decode cX9_meets 68 = .ok (.iload_n 3, 1) := dk_29 (dk_at dksX9_meets_2 21 rfl rfl)
theorem dX9_meets_69 : decode cX9_meets 69 = .ok (.iconst 1, 1) := dk_4 (dk_at dksX9_meets_2 22 rfl rfl)
theorem dX9_meets_70 : decode cX9_meets 70 = .ok (.aload_n 0, 1) := dk_42 (dk_at dksX9_meets_2 23 rfl rfl)
theorem dX9_meets_71 : decode cX9_meets 71 = .ok (.getfield 22, 3) := dk_180 0 22 (dk_at dksX9_meets_3 0 rfl rfl)
theorem dX9_meets_74 : decode cX9_meets 74 = .ok (.bipush 6, 2) := dk_16 6 (dk_at dksX9_meets_3 3 rfl rfl)
theorem dX9_meets_76 : decode cX9_meets 76 = .ok (.iload 4, 2) := dk_21 4 (dk_at dksX9_meets_3 5 rfl rfl)
theorem dX9_meets_78 : decode cX9_meets 78 = .ok (.imul, 1) := dk_104 (dk_at dksX9_meets_3 7 rfl rfl)
theorem dX9_meets_79 : decode cX9_meets 79 = .ok (.iload 5, 2) := dk_21 5 (dk_at dksX9_meets_3 8 rfl rfl)
theorem dX9_meets_81 : decode cX9_meets 81 = .ok (.iadd, 1) := dk_96 (dk_at dksX9_meets_3 10 rfl rfl)
theorem dX9_meets_82 : decode cX9_meets 82 = .ok (.iaload, 1) := dk_46 (dk_at dksX9_meets_3 11 rfl rfl)
theorem dX9_meets_83 : decode cX9_meets 83 = .ok (.ishl, 1) := dk_120 (dk_at dksX9_meets_3 12 rfl rfl)
theorem dX9_meets_84 : decode cX9_meets 84 = .ok (.ior, 1) := dk_128 (dk_at dksX9_meets_3 13 rfl rfl)
theorem dX9_meets_85 : decode cX9_meets 85 = .ok (.istore_n 3, 1) := dk_62 (dk_at dksX9_meets_3 14 rfl rfl)
theorem dX9_meets_86 : decode cX9_meets 86 = .ok (.iinc 5 2, 3) := dk_132 5 2 (dk_at dksX9_meets_3 15 rfl rfl)
theorem dX9_meets_89 : decode cX9_meets 89 = .ok (.goto (-67), 3) := dk_167 255 189 (dk_at dksX9_meets_3 18 rfl rfl)
theorem dX9_meets_92 : decode cX9_meets 92 = .ok (.iinc 4 1, 3) := dk_132 4 1 (dk_at dksX9_meets_3 21 rfl rfl)
theorem dX9_meets_95 : decode cX9_meets 95 = .ok (.goto (-86), 3) := dk_167 255 170 (dk_at dksX9_meets_4 0 rfl rfl)
theorem dX9_meets_98 : decode cX9_meets 98 = .ok (.iload_n 3, 1) := dk_29 (dk_at dksX9_meets_4 3 rfl rfl)
theorem dX9_meets_99 : decode cX9_meets 99 = .ok (.ireturn, 1) := dk_172 (dk_at dksX9_meets_4 4 rfl rfl)
abbrev cX9_count : ByteArray := prog_19_method_65_code
def yX9_count : MethodName := ⟨RX9, "count", "(I)I"⟩
def dkwX9_count_4 : List UInt8 := [42, 180, 0, 139, 172, 42, 180, 0, 211, 172, 42, 182, 1, 49, 172, 42, 180, 0, 28, 172, 2, 172]
abbrev dktX9_count_4 : List UInt8 := dkwX9_count_4 ++ []
def dkwX9_count_3 : List UInt8 := [167, 0, 4, 3, 96, 61, 132, 3, 1, 167, 255, 230, 28, 172, 42, 180, 0, 191, 172, 42, 180, 1, 9, 172]
abbrev dktX9_count_3 : List UInt8 := dkwX9_count_3 ++ dktX9_count_4
def dkwX9_count_2 : List UInt8 := [42, 180, 0, 117, 172, 3, 62, 29, 16, 72, 162, 0, 26, 28, 42, 180, 0, 19, 29, 46, 155, 0, 7, 4]
abbrev dktX9_count_2 : List UInt8 := dkwX9_count_2 ++ dktX9_count_3
def dkwX9_count_1 : List UInt8 := [170, 0, 0, 0, 113, 0, 0, 0, 0, 0, 0, 0, 7, 0, 0, 0, 45, 0, 0, 0, 50, 0, 0, 0, 83, 0, 0, 0, 88, 0, 0, 0, 93, 0, 0, 0, 98, 0, 0, 0, 103, 0, 0, 0, 108]
abbrev dktX9_count_1 : List UInt8 := dkwX9_count_1 ++ dktX9_count_2
def dkwX9_count_0 : List UInt8 := [3, 61, 27]
abbrev dktX9_count_0 : List UInt8 := dkwX9_count_0 ++ dktX9_count_1
theorem dksX9_count_0 : cX9_count.data.toList.drop 0 = dktX9_count_0 := by decide +kernel
theorem dksX9_count_1 : cX9_count.data.toList.drop 3 = dktX9_count_1 := dk_seg dksX9_count_0 3 rfl rfl
theorem dksX9_count_2 : cX9_count.data.toList.drop 48 = dktX9_count_2 := dk_seg dksX9_count_1 45 rfl rfl
theorem dksX9_count_3 : cX9_count.data.toList.drop 72 = dktX9_count_3 := dk_seg dksX9_count_2 24 rfl rfl
theorem dksX9_count_4 : cX9_count.data.toList.drop 96 = dktX9_count_4 := dk_seg dksX9_count_3 24 rfl rfl
theorem dX9_count_0 : decode cX9_count 0 = .ok (.iconst 0, 1) := dk_3 (dk_at dksX9_count_0 0 rfl rfl)
theorem dX9_count_1 : decode cX9_count 1 = .ok (.istore_n 2, 1) := dk_61 (dk_at dksX9_count_0 1 rfl rfl)
theorem dX9_count_2 : decode cX9_count 2 = .ok (.iload_n 1, 1) := dk_27 (dk_at dksX9_count_0 2 rfl rfl)
theorem dX9_count_3 : decode cX9_count 3 = .ok (.tableswitch 113 0 7 #[45, 50, 83, 88, 93, 98, 103, 108], 45) := by decide +kernel
theorem dX9_count_48 : decode cX9_count 48 = .ok (.aload_n 0, 1) := dk_42 (dk_at dksX9_count_2 0 rfl rfl)
theorem dX9_count_49 : decode cX9_count 49 = .ok (.getfield 117, 3) := dk_180 0 117 (dk_at dksX9_count_2 1 rfl rfl)
theorem dX9_count_52 : decode cX9_count 52 = .ok (.ireturn, 1) := dk_172 (dk_at dksX9_count_2 4 rfl rfl)
theorem dX9_count_53 : decode cX9_count 53 = .ok (.iconst 0, 1) := dk_3 (dk_at dksX9_count_2 5 rfl rfl)
theorem dX9_count_54 : decode cX9_count 54 = .ok (.istore_n 3, 1) := dk_62 (dk_at dksX9_count_2 6 rfl rfl)
theorem dX9_count_55 : decode cX9_count 55 = .ok (.iload_n 3, 1) := dk_29 (dk_at dksX9_count_2 7 rfl rfl)
theorem dX9_count_56 : decode cX9_count 56 = .ok (.bipush 72, 2) := dk_16 72 (dk_at dksX9_count_2 8 rfl rfl)
theorem dX9_count_58 : decode cX9_count 58 = .ok (.if_icmp .ge 26, 3) := dk_162 0 26 (dk_at dksX9_count_2 10 rfl rfl)
theorem dX9_count_61 : decode cX9_count 61 = .ok (.iload_n 2, 1) := dk_28 (dk_at dksX9_count_2 13 rfl rfl)
theorem dX9_count_62 : decode cX9_count 62 = .ok (.aload_n 0, 1) := dk_42 (dk_at dksX9_count_2 14 rfl rfl)
theorem dX9_count_63 : decode cX9_count 63 = .ok (.getfield 19, 3) := dk_180 0 19 (dk_at dksX9_count_2 15 rfl rfl)
theorem dX9_count_66 : decode cX9_count 66 = .ok (.iload_n 3, 1) := dk_29 (dk_at dksX9_count_2 18 rfl rfl)
theorem dX9_count_67 : decode cX9_count 67 = .ok (.iaload, 1) := dk_46 (dk_at dksX9_count_2 19 rfl rfl)
theorem dX9_count_68 : decode cX9_count 68 = .ok (.ifCond .lt 7, 3) := dk_155 0 7 (dk_at dksX9_count_2 20 rfl rfl)
theorem dX9_count_71 : decode cX9_count 71 = .ok (.iconst 1, 1) := dk_4 (dk_at dksX9_count_2 23 rfl rfl)
theorem dX9_count_72 : decode cX9_count 72 = .ok (.goto 4, 3) := dk_167 0 4 (dk_at dksX9_count_3 0 rfl rfl)
theorem dX9_count_75 : decode cX9_count 75 = .ok (.iconst 0, 1) := dk_3 (dk_at dksX9_count_3 3 rfl rfl)
theorem dX9_count_76 : decode cX9_count 76 = .ok (.iadd, 1) := dk_96 (dk_at dksX9_count_3 4 rfl rfl)
theorem dX9_count_77 : decode cX9_count 77 = .ok (.istore_n 2, 1) := dk_61 (dk_at dksX9_count_3 5 rfl rfl)
theorem dX9_count_78 : decode cX9_count 78 = .ok (.iinc 3 1, 3) := dk_132 3 1 (dk_at dksX9_count_3 6 rfl rfl)
theorem dX9_count_81 : decode cX9_count 81 = .ok (.goto (-26), 3) := dk_167 255 230 (dk_at dksX9_count_3 9 rfl rfl)
theorem dX9_count_84 : decode cX9_count 84 = .ok (.iload_n 2, 1) := dk_28 (dk_at dksX9_count_3 12 rfl rfl)
theorem dX9_count_85 : decode cX9_count 85 = .ok (.ireturn, 1) := dk_172 (dk_at dksX9_count_3 13 rfl rfl)
theorem dX9_count_86 : decode cX9_count 86 = .ok (.aload_n 0, 1) := dk_42 (dk_at dksX9_count_3 14 rfl rfl)
theorem dX9_count_87 : decode cX9_count 87 = .ok (.getfield 191, 3) := dk_180 0 191 (dk_at dksX9_count_3 15 rfl rfl)
theorem dX9_count_90 : decode cX9_count 90 = .ok (.ireturn, 1) := dk_172 (dk_at dksX9_count_3 18 rfl rfl)
theorem dX9_count_91 : decode cX9_count 91 = .ok (.aload_n 0, 1) := dk_42 (dk_at dksX9_count_3 19 rfl rfl)
theorem dX9_count_92 : decode cX9_count 92 = .ok (.getfield 265, 3) := dk_180 1 9 (dk_at dksX9_count_3 20 rfl rfl)
theorem dX9_count_95 : decode cX9_count 95 = .ok (.ireturn, 1) := dk_172 (dk_at dksX9_count_3 23 rfl rfl)
theorem dX9_count_96 : decode cX9_count 96 = .ok (.aload_n 0, 1) := dk_42 (dk_at dksX9_count_4 0 rfl rfl)
theorem dX9_count_97 : decode cX9_count 97 = .ok (.getfield 139, 3) := dk_180 0 139 (dk_at dksX9_count_4 1 rfl rfl)
theorem dX9_count_100 : decode cX9_count 100 = .ok (.ireturn, 1) := dk_172 (dk_at dksX9_count_4 4 rfl rfl)
theorem dX9_count_101 : decode cX9_count 101 = .ok (.aload_n 0, 1) := dk_42 (dk_at dksX9_count_4 5 rfl rfl)
theorem dX9_count_102 : decode cX9_count 102 = .ok (.getfield 211, 3) := dk_180 0 211 (dk_at dksX9_count_4 6 rfl rfl)
theorem dX9_count_105 : decode cX9_count 105 = .ok (.ireturn, 1) := dk_172 (dk_at dksX9_count_4 9 rfl rfl)
theorem dX9_count_106 : decode cX9_count 106 = .ok (.aload_n 0, 1) := dk_42 (dk_at dksX9_count_4 10 rfl rfl)
theorem dX9_count_107 : decode cX9_count 107 = .ok (.invokevirtual 305, 3) := dk_182 1 49 (dk_at dksX9_count_4 11 rfl rfl)
theorem dX9_count_110 : decode cX9_count 110 = .ok (.ireturn, 1) := dk_172 (dk_at dksX9_count_4 14 rfl rfl)
theorem dX9_count_111 : decode cX9_count 111 = .ok (.aload_n 0, 1) := dk_42 (dk_at dksX9_count_4 15 rfl rfl)
theorem dX9_count_112 : decode cX9_count 112 = .ok (.getfield 28, 3) := dk_180 0 28 (dk_at dksX9_count_4 16 rfl rfl)
theorem dX9_count_115 : decode cX9_count 115 = .ok (.ireturn, 1) := dk_172 (dk_at dksX9_count_4 19 rfl rfl)
theorem dX9_count_116 : decode cX9_count 116 = .ok (.iconst (-1), 1) := dk_2 (dk_at dksX9_count_4 20 rfl rfl)
theorem dX9_count_117 : decode cX9_count 117 = .ok (.ireturn, 1) := dk_172 (dk_at dksX9_count_4 21 rfl rfl)
abbrev cX9_layersUsed : ByteArray := prog_19_method_64_code
def yX9_layersUsed : MethodName := ⟨RX9, "layersUsed", "()I"⟩
def dkwX9_layersUsed_3 : List UInt8 := [167, 0, 4, 3, 96, 60, 132, 2, 1, 167, 255, 179, 27, 172]
abbrev dktX9_layersUsed_3 : List UInt8 := dkwX9_layersUsed_3 ++ []
def dkwX9_layersUsed_2 : List UInt8 := [21, 4, 46, 155, 0, 7, 4, 167, 0, 4, 3, 62, 132, 4, 1, 167, 255, 211, 27, 29, 153, 0, 7, 4]
abbrev dktX9_layersUsed_2 : List UInt8 := dkwX9_layersUsed_2 ++ dktX9_layersUsed_3
def dkwX9_layersUsed_1 : List UInt8 := [16, 6, 96, 162, 0, 39, 29, 154, 0, 23, 42, 180, 0, 16, 21, 4, 46, 157, 0, 13, 42, 180, 0, 19]
abbrev dktX9_layersUsed_1 : List UInt8 := dkwX9_layersUsed_1 ++ dktX9_layersUsed_2
def dkwX9_layersUsed_0 : List UInt8 := [3, 60, 3, 61, 28, 16, 12, 162, 0, 77, 3, 62, 16, 6, 28, 104, 54, 4, 21, 4, 16, 6, 28, 104]
abbrev dktX9_layersUsed_0 : List UInt8 := dkwX9_layersUsed_0 ++ dktX9_layersUsed_1
theorem dksX9_layersUsed_0 : cX9_layersUsed.data.toList.drop 0 = dktX9_layersUsed_0 := by decide +kernel
theorem dksX9_layersUsed_1 : cX9_layersUsed.data.toList.drop 24 = dktX9_layersUsed_1 := dk_seg dksX9_layersUsed_0 24 rfl rfl
theorem dksX9_layersUsed_2 : cX9_layersUsed.data.toList.drop 48 = dktX9_layersUsed_2 := dk_seg dksX9_layersUsed_1 24 rfl rfl
theorem dksX9_layersUsed_3 : cX9_layersUsed.data.toList.drop 72 = dktX9_layersUsed_3 := dk_seg dksX9_layersUsed_2 24 rfl rfl
theorem dX9_layersUsed_0 : decode cX9_layersUsed 0 = .ok (.iconst 0, 1) := dk_3 (dk_at dksX9_layersUsed_0 0 rfl rfl)
theorem dX9_layersUsed_1 : decode cX9_layersUsed 1 = .ok (.istore_n 1, 1) := dk_60 (dk_at dksX9_layersUsed_0 1 rfl rfl)
theorem dX9_layersUsed_2 : decode cX9_layersUsed 2 = .ok (.iconst 0, 1) := dk_3 (dk_at dksX9_layersUsed_0 2 rfl rfl)
theorem dX9_layersUsed_3 : decode cX9_layersUsed 3 = .ok (.istore_n 2, 1) := dk_61 (dk_at dksX9_layersUsed_0 3 rfl rfl)
theorem dX9_layersUsed_4 : decode cX9_layersUsed 4 = .ok (.iload_n 2, 1) := dk_28 (dk_at dksX9_layersUsed_0 4 rfl rfl)
theorem dX9_layersUsed_5 : decode cX9_layersUsed 5 = .ok (.bipush 12, 2) := dk_16 12 (dk_at dksX9_layersUsed_0 5 rfl rfl)
theorem dX9_layersUsed_7 : decode cX9_layersUsed 7 = .ok (.if_icmp .ge 77, 3) := dk_162 0 77 (dk_at dksX9_layersUsed_0 7 rfl rfl)
theorem dX9_layersUsed_10 : decode cX9_layersUsed 10 = .ok (.iconst 0, 1) := dk_3 (dk_at dksX9_layersUsed_0 10 rfl rfl)
theorem dX9_layersUsed_11 : decode cX9_layersUsed 11 = .ok (.istore_n 3, 1) := dk_62 (dk_at dksX9_layersUsed_0 11 rfl rfl)
theorem dX9_layersUsed_12 : decode cX9_layersUsed 12 = .ok (.bipush 6, 2) := dk_16 6 (dk_at dksX9_layersUsed_0 12 rfl rfl)
theorem dX9_layersUsed_14 : decode cX9_layersUsed 14 = .ok (.iload_n 2, 1) := dk_28 (dk_at dksX9_layersUsed_0 14 rfl rfl)
theorem dX9_layersUsed_15 : decode cX9_layersUsed 15 = .ok (.imul, 1) := dk_104 (dk_at dksX9_layersUsed_0 15 rfl rfl)
theorem dX9_layersUsed_16 : decode cX9_layersUsed 16 = .ok (.istore 4, 2) := dk_54 4 (dk_at dksX9_layersUsed_0 16 rfl rfl)
theorem dX9_layersUsed_18 : decode cX9_layersUsed 18 = .ok (.iload 4, 2) := dk_21 4 (dk_at dksX9_layersUsed_0 18 rfl rfl)
theorem dX9_layersUsed_20 : decode cX9_layersUsed 20 = .ok (.bipush 6, 2) := dk_16 6 (dk_at dksX9_layersUsed_0 20 rfl rfl)
theorem dX9_layersUsed_22 : decode cX9_layersUsed 22 = .ok (.iload_n 2, 1) := dk_28 (dk_at dksX9_layersUsed_0 22 rfl rfl)
theorem dX9_layersUsed_23 : decode cX9_layersUsed 23 = .ok (.imul, 1) := dk_104 (dk_at dksX9_layersUsed_0 23 rfl rfl)
theorem dX9_layersUsed_24 : decode cX9_layersUsed 24 = .ok (.bipush 6, 2) := dk_16 6 (dk_at dksX9_layersUsed_1 0 rfl rfl)
theorem dX9_layersUsed_26 : decode cX9_layersUsed 26 = .ok (.iadd, 1) := dk_96 (dk_at dksX9_layersUsed_1 2 rfl rfl)
theorem dX9_layersUsed_27 : decode cX9_layersUsed 27 = .ok (.if_icmp .ge 39, 3) := dk_162 0 39 (dk_at dksX9_layersUsed_1 3 rfl rfl)
theorem dX9_layersUsed_30 : decode cX9_layersUsed 30 = .ok (.iload_n 3, 1) := dk_29 (dk_at dksX9_layersUsed_1 6 rfl rfl)
theorem dX9_layersUsed_31 : decode cX9_layersUsed 31 = .ok (.ifCond .ne 23, 3) := dk_154 0 23 (dk_at dksX9_layersUsed_1 7 rfl rfl)
theorem dX9_layersUsed_34 : decode cX9_layersUsed 34 = .ok (.aload_n 0, 1) := dk_42 (dk_at dksX9_layersUsed_1 10 rfl rfl)
theorem dX9_layersUsed_35 : decode cX9_layersUsed 35 = .ok (.getfield 16, 3) := dk_180 0 16 (dk_at dksX9_layersUsed_1 11 rfl rfl)
theorem dX9_layersUsed_38 : decode cX9_layersUsed 38 = .ok (.iload 4, 2) := dk_21 4 (dk_at dksX9_layersUsed_1 14 rfl rfl)
theorem dX9_layersUsed_40 : decode cX9_layersUsed 40 = .ok (.iaload, 1) := dk_46 (dk_at dksX9_layersUsed_1 16 rfl rfl)
theorem dX9_layersUsed_41 : decode cX9_layersUsed 41 = .ok (.ifCond .gt 13, 3) := dk_157 0 13 (dk_at dksX9_layersUsed_1 17 rfl rfl)
theorem dX9_layersUsed_44 : decode cX9_layersUsed 44 = .ok (.aload_n 0, 1) := dk_42 (dk_at dksX9_layersUsed_1 20 rfl rfl)
theorem dX9_layersUsed_45 : decode cX9_layersUsed 45 = .ok (.getfield 19, 3) := dk_180 0 19 (dk_at dksX9_layersUsed_1 21 rfl rfl)
theorem dX9_layersUsed_48 : decode cX9_layersUsed 48 = .ok (.iload 4, 2) := dk_21 4 (dk_at dksX9_layersUsed_2 0 rfl rfl)
theorem dX9_layersUsed_50 : decode cX9_layersUsed 50 = .ok (.iaload, 1) := dk_46 (dk_at dksX9_layersUsed_2 2 rfl rfl)
theorem dX9_layersUsed_51 : decode cX9_layersUsed 51 = .ok (.ifCond .lt 7, 3) := dk_155 0 7 (dk_at dksX9_layersUsed_2 3 rfl rfl)
theorem dX9_layersUsed_54 : decode cX9_layersUsed 54 = .ok (.iconst 1, 1) := dk_4 (dk_at dksX9_layersUsed_2 6 rfl rfl)
theorem dX9_layersUsed_55 : decode cX9_layersUsed 55 = .ok (.goto 4, 3) := dk_167 0 4 (dk_at dksX9_layersUsed_2 7 rfl rfl)
theorem dX9_layersUsed_58 : decode cX9_layersUsed 58 = .ok (.iconst 0, 1) := dk_3 (dk_at dksX9_layersUsed_2 10 rfl rfl)
theorem dX9_layersUsed_59 : decode cX9_layersUsed 59 = .ok (.istore_n 3, 1) := dk_62 (dk_at dksX9_layersUsed_2 11 rfl rfl)
theorem dX9_layersUsed_60 : decode cX9_layersUsed 60 = .ok (.iinc 4 1, 3) := dk_132 4 1 (dk_at dksX9_layersUsed_2 12 rfl rfl)
theorem dX9_layersUsed_63 : decode cX9_layersUsed 63 = .ok (.goto (-45), 3) := dk_167 255 211 (dk_at dksX9_layersUsed_2 15 rfl rfl)
theorem dX9_layersUsed_66 : decode cX9_layersUsed 66 = .ok (.iload_n 1, 1) := dk_27 (dk_at dksX9_layersUsed_2 18 rfl rfl)
theorem dX9_layersUsed_67 : decode cX9_layersUsed 67 = .ok (.iload_n 3, 1) := dk_29 (dk_at dksX9_layersUsed_2 19 rfl rfl)
theorem dX9_layersUsed_68 : decode cX9_layersUsed 68 = .ok (.ifCond .eq 7, 3) := dk_153 0 7 (dk_at dksX9_layersUsed_2 20 rfl rfl)
theorem dX9_layersUsed_71 : decode cX9_layersUsed 71 = .ok (.iconst 1, 1) := dk_4 (dk_at dksX9_layersUsed_2 23 rfl rfl)
theorem dX9_layersUsed_72 : decode cX9_layersUsed 72 = .ok (.goto 4, 3) := dk_167 0 4 (dk_at dksX9_layersUsed_3 0 rfl rfl)
theorem dX9_layersUsed_75 : decode cX9_layersUsed 75 = .ok (.iconst 0, 1) := dk_3 (dk_at dksX9_layersUsed_3 3 rfl rfl)
theorem dX9_layersUsed_76 : decode cX9_layersUsed 76 = .ok (.iadd, 1) := dk_96 (dk_at dksX9_layersUsed_3 4 rfl rfl)
theorem dX9_layersUsed_77 : decode cX9_layersUsed 77 = .ok (.istore_n 1, 1) := dk_60 (dk_at dksX9_layersUsed_3 5 rfl rfl)
theorem dX9_layersUsed_78 : decode cX9_layersUsed 78 = .ok (.iinc 2 1, 3) := dk_132 2 1 (dk_at dksX9_layersUsed_3 6 rfl rfl)
theorem dX9_layersUsed_81 : decode cX9_layersUsed 81 = .ok (.goto (-77), 3) := dk_167 255 179 (dk_at dksX9_layersUsed_3 9 rfl rfl)
theorem dX9_layersUsed_84 : decode cX9_layersUsed 84 = .ok (.iload_n 1, 1) := dk_27 (dk_at dksX9_layersUsed_3 12 rfl rfl)
theorem dX9_layersUsed_85 : decode cX9_layersUsed 85 = .ok (.ireturn, 1) := dk_172 (dk_at dksX9_layersUsed_3 13 rfl rfl)
theorem q72 : (Jvm.Cond.initialized "LightPlateModel") ∈ lw_all := lw_g (lw_at lw_m1 13 rfl) rfl
theorem q831 : (Jvm.Cond.selects "LightPlateModel" ({ cls := "java/lang/Object", name := "getClass", desc := "()Ljava/lang/Class;" } : Jvm.MethodName) ({ cls := "java/lang/Object", name := "getClass", desc := "()Ljava/lang/Class;" } : Jvm.MethodName)) ∈ lw_all := lw_g (lw_at lw_m4 52 rfl) rfl
theorem q1047 : (Jvm.Cond.instantiable "LightPlateModel" (52 : Nat)) ∈ lw_all := lw_g (lw_at lw_m5 28 rfl) rfl
theorem q1049 : (Jvm.Cond.instanceMethod ({ cls := "LightPlateModel", name := "<init>", desc := "(I)V" } : Jvm.MethodName)) ∈ lw_all := lw_g (lw_at lw_m5 30 rfl) rfl
theorem q1050 : (Jvm.Cond.code ({ cls := "LightPlateModel", name := "<init>", desc := "(I)V" } : Jvm.MethodName) prog_19_method_1_code (4 : Nat) (Option.none : Option Jvm.ClassFile.FieldType)) ∈ lw_all := lw_g (lw_at lw_m5 31 rfl) rfl
theorem q1051 : (Jvm.Cond.methodLink "LightPlateModel" (1 : Nat) ({ cls := "java/lang/Object", name := "<init>", desc := "()V" } : Jvm.MethodName)) ∈ lw_all := lw_g (lw_at lw_m5 32 rfl) rfl
theorem q1052 : (Jvm.Cond.methodLink "LightPlateModel" (120 : Nat) ({ cls := "LightPlateModel", name := "fit", desc := "(I)I" } : Jvm.MethodName)) ∈ lw_all := lw_g (lw_at lw_m5 33 rfl) rfl
theorem q1053 : (Jvm.Cond.static ({ cls := "LightPlateModel", name := "fit", desc := "(I)I" } : Jvm.MethodName)) ∈ lw_all := lw_g (lw_at lw_m5 34 rfl) rfl
theorem q1054 : (Jvm.Cond.code ({ cls := "LightPlateModel", name := "fit", desc := "(I)I" } : Jvm.MethodName) prog_19_method_3_code (2 : Nat) (Option.some Jvm.ClassFile.FieldType.int)) ∈ lw_all := lw_g (lw_at lw_m5 35 rfl) rfl
theorem q1055 : (Jvm.Cond.fieldLink "LightPlateModel" (117 : Nat) "LightPlateModel" "n" "I") ∈ lw_all := lw_g (lw_at lw_m5 36 rfl) rfl
theorem q1056 : (Jvm.Cond.fieldLink "LightPlateModel" (7 : Nat) "LightPlateModel" "c" "[I") ∈ lw_all := lw_g (lw_at lw_m5 37 rfl) rfl
theorem q1057 : (Jvm.Cond.fieldLink "LightPlateModel" (13 : Nat) "LightPlateModel" "s" "[I") ∈ lw_all := lw_g (lw_at lw_m5 38 rfl) rfl
theorem q1058 : (Jvm.Cond.fieldLink "LightPlateModel" (16 : Nat) "LightPlateModel" "setting" "[I") ∈ lw_all := lw_g (lw_at lw_m5 39 rfl) rfl
theorem q1059 : (Jvm.Cond.fieldLink "LightPlateModel" (19 : Nat) "LightPlateModel" "stuck" "[I") ∈ lw_all := lw_g (lw_at lw_m5 40 rfl) rfl
theorem q1060 : (Jvm.Cond.fieldLink "LightPlateModel" (22 : Nat) "LightPlateModel" "user" "[I") ∈ lw_all := lw_g (lw_at lw_m5 41 rfl) rfl
theorem q1061 : (Jvm.Cond.fieldLink "LightPlateModel" (25 : Nat) "LightPlateModel" "offset" "[I") ∈ lw_all := lw_g (lw_at lw_m5 42 rfl) rfl
theorem q1062 : (Jvm.Cond.fieldLink "LightPlateModel" (28 : Nat) "LightPlateModel" "creep" "I") ∈ lw_all := lw_g (lw_at lw_m5 43 rfl) rfl
theorem q1063 : (Jvm.Cond.fieldLink "LightPlateModel" (32 : Nat) "LightPlateModel" "by" "[I") ∈ lw_all := lw_g (lw_at lw_m5 44 rfl) rfl
theorem q1064 : (Jvm.Cond.fieldLink "LightPlateModel" (35 : Nat) "LightPlateModel" "offsets" "[I") ∈ lw_all := lw_g (lw_at lw_m5 45 rfl) rfl
theorem q1065 : (Jvm.Cond.fieldLink "LightPlateModel" (38 : Nat) "LightPlateModel" "light" "[I") ∈ lw_all := lw_g (lw_at lw_m5 46 rfl) rfl
theorem q1066 : (Jvm.Cond.fieldLink "LightPlateModel" (41 : Nat) "LightPlateModel" "told" "[I") ∈ lw_all := lw_g (lw_at lw_m5 47 rfl) rfl
theorem q1067 : (Jvm.Cond.fieldLink "LightPlateModel" (44 : Nat) "LightPlateModel" "split" "[I") ∈ lw_all := lw_g (lw_at lw_m5 48 rfl) rfl
theorem q1068 : (Jvm.Cond.fieldLink "LightPlateModel" (47 : Nat) "LightPlateModel" "stepLane" "[I") ∈ lw_all := lw_g (lw_at lw_m5 49 rfl) rfl
theorem q1069 : (Jvm.Cond.fieldLink "LightPlateModel" (50 : Nat) "LightPlateModel" "stepTurn" "[I") ∈ lw_all := lw_g (lw_at lw_m5 50 rfl) rfl
theorem q1070 : (Jvm.Cond.fieldLink "LightPlateModel" (53 : Nat) "LightPlateModel" "sign" "[I") ∈ lw_all := lw_g (lw_at lw_m5 51 rfl) rfl
theorem q1071 : (Jvm.Cond.fieldLink "LightPlateModel" (176 : Nat) "LightPlateModel" "steps" "I") ∈ lw_all := lw_g (lw_at lw_m5 52 rfl) rfl
theorem q1072 : (Jvm.Cond.fieldLink "LightPlateModel" (179 : Nat) "LightPlateModel" "wasSplit" "Z") ∈ lw_all := lw_g (lw_at lw_m5 53 rfl) rfl
theorem q1073 : (Jvm.Cond.fieldLink "LightPlateModel" (183 : Nat) "LightPlateModel" "hasLack" "Z") ∈ lw_all := lw_g (lw_at lw_m5 54 rfl) rfl
theorem q1074 : (Jvm.Cond.fieldLink "LightPlateModel" (56 : Nat) "LightPlateModel" "workLane" "[I") ∈ lw_all := lw_g (lw_at lw_m5 55 rfl) rfl
theorem q1075 : (Jvm.Cond.fieldLink "LightPlateModel" (59 : Nat) "LightPlateModel" "workTurn" "[I") ∈ lw_all := lw_g (lw_at lw_m5 56 rfl) rfl
theorem q1076 : (Jvm.Cond.fieldLink "LightPlateModel" (191 : Nat) "LightPlateModel" "works" "I") ∈ lw_all := lw_g (lw_at lw_m5 57 rfl) rfl
theorem q1077 : (Jvm.Cond.fieldLink "LightPlateModel" (62 : Nat) "LightPlateModel" "can" "[Z") ∈ lw_all := lw_g (lw_at lw_m5 58 rfl) rfl
theorem q1078 : (Jvm.Cond.fieldLink "LightPlateModel" (66 : Nat) "LightPlateModel" "tape" "[I") ∈ lw_all := lw_g (lw_at lw_m5 59 rfl) rfl
theorem q1079 : (Jvm.Cond.fieldLink "LightPlateModel" (69 : Nat) "LightPlateModel" "list" "[I") ∈ lw_all := lw_g (lw_at lw_m5 60 rfl) rfl
theorem q1080 : (Jvm.Cond.fieldLink "LightPlateModel" (72 : Nat) "LightPlateModel" "listSize" "[I") ∈ lw_all := lw_g (lw_at lw_m5 61 rfl) rfl
theorem q1081 : (Jvm.Cond.fieldLink "LightPlateModel" (75 : Nat) "LightPlateModel" "times" "[I") ∈ lw_all := lw_g (lw_at lw_m5 62 rfl) rfl
theorem q1082 : (Jvm.Cond.fieldLink "LightPlateModel" (78 : Nat) "LightPlateModel" "nameList" "[I") ∈ lw_all := lw_g (lw_at lw_m5 63 rfl) rfl
theorem q1083 : (Jvm.Cond.fieldLink "LightPlateModel" (81 : Nat) "LightPlateModel" "nameSize" "[I") ∈ lw_all := lw_g (lw_at lw_m5 64 rfl) rfl
theorem q1084 : (Jvm.Cond.fieldLink "LightPlateModel" (84 : Nat) "LightPlateModel" "isTold" "[Z") ∈ lw_all := lw_g (lw_at lw_m5 65 rfl) rfl
theorem q1085 : (Jvm.Cond.fieldLink "LightPlateModel" (211 : Nat) "LightPlateModel" "taped" "I") ∈ lw_all := lw_g (lw_at lw_m5 66 rfl) rfl
theorem q1086 : (Jvm.Cond.fieldLink "LightPlateModel" (216 : Nat) "LightPlateModel" "at" "I") ∈ lw_all := lw_g (lw_at lw_m5 67 rfl) rfl
theorem q1087 : (Jvm.Cond.fieldLink "LightPlateModel" (229 : Nat) "LightPlateModel" "deep" "I") ∈ lw_all := lw_g (lw_at lw_m5 68 rfl) rfl
theorem q1088 : (Jvm.Cond.fieldLink "LightPlateModel" (246 : Nat) "LightPlateModel" "noName" "I") ∈ lw_all := lw_g (lw_at lw_m5 69 rfl) rfl
theorem q1089 : (Jvm.Cond.fieldLink "LightPlateModel" (226 : Nat) "LightPlateModel" "number" "I") ∈ lw_all := lw_g (lw_at lw_m5 70 rfl) rfl
theorem q1090 : (Jvm.Cond.fieldLink "LightPlateModel" (87 : Nat) "LightPlateModel" "runIn" "[I") ∈ lw_all := lw_g (lw_at lw_m5 71 rfl) rfl
theorem q1091 : (Jvm.Cond.fieldLink "LightPlateModel" (90 : Nat) "LightPlateModel" "runOut" "[I") ∈ lw_all := lw_g (lw_at lw_m5 72 rfl) rfl
theorem q1092 : (Jvm.Cond.fieldLink "LightPlateModel" (93 : Nat) "LightPlateModel" "runSetting" "[I") ∈ lw_all := lw_g (lw_at lw_m5 73 rfl) rfl
theorem q1093 : (Jvm.Cond.fieldLink "LightPlateModel" (96 : Nat) "LightPlateModel" "foundCell" "[I") ∈ lw_all := lw_g (lw_at lw_m5 74 rfl) rfl
theorem q1094 : (Jvm.Cond.fieldLink "LightPlateModel" (99 : Nat) "LightPlateModel" "foundAs" "[I") ∈ lw_all := lw_g (lw_at lw_m5 75 rfl) rfl
theorem q1095 : (Jvm.Cond.fieldLink "LightPlateModel" (102 : Nat) "LightPlateModel" "foundFrom" "[I") ∈ lw_all := lw_g (lw_at lw_m5 76 rfl) rfl
theorem q1096 : (Jvm.Cond.fieldLink "LightPlateModel" (265 : Nat) "LightPlateModel" "runs" "I") ∈ lw_all := lw_g (lw_at lw_m5 77 rfl) rfl
theorem q1097 : (Jvm.Cond.fieldLink "LightPlateModel" (139 : Nat) "LightPlateModel" "entries" "I") ∈ lw_all := lw_g (lw_at lw_m5 78 rfl) rfl
theorem q1098 : (Jvm.Cond.fieldLink "LightPlateModel" (271 : Nat) "LightPlateModel" "finds" "I") ∈ lw_all := lw_g (lw_at lw_m5 79 rfl) rfl
theorem q1099 : (Jvm.Cond.fieldLink "LightPlateModel" (105 : Nat) "LightPlateModel" "maybe" "[I") ∈ lw_all := lw_g (lw_at lw_m5 80 rfl) rfl
theorem q1100 : (Jvm.Cond.fieldLink "LightPlateModel" (108 : Nat) "LightPlateModel" "comes" "[I") ∈ lw_all := lw_g (lw_at lw_m5 81 rfl) rfl
theorem q1101 : (Jvm.Cond.fieldLink "LightPlateModel" (111 : Nat) "LightPlateModel" "isHeld" "[Z") ∈ lw_all := lw_g (lw_at lw_m5 82 rfl) rfl
theorem q1102 : (Jvm.Cond.fieldLink "LightPlateModel" (280 : Nat) "LightPlateModel" "maybes" "I") ∈ lw_all := lw_g (lw_at lw_m5 83 rfl) rfl
theorem q1103 : (Jvm.Cond.fieldLink "LightPlateModel" (283 : Nat) "LightPlateModel" "hypotheses" "I") ∈ lw_all := lw_g (lw_at lw_m5 84 rfl) rfl
theorem q1104 : (Jvm.Cond.fieldLink "LightPlateModel" (289 : Nat) "LightPlateModel" "probed" "I") ∈ lw_all := lw_g (lw_at lw_m5 85 rfl) rfl
theorem q1105 : (Jvm.Cond.fieldLink "LightPlateModel" (286 : Nat) "LightPlateModel" "isProbing" "Z") ∈ lw_all := lw_g (lw_at lw_m5 86 rfl) rfl
theorem q1106 : (Jvm.Cond.fieldLink "LightPlateModel" (114 : Nat) "LightPlateModel" "group" "[I") ∈ lw_all := lw_g (lw_at lw_m5 87 rfl) rfl
theorem q1107 : (Jvm.Cond.laysFinal "LightPlateModel" "LightPlateModel" "n" "I") ∈ lw_all := lw_g (lw_at lw_m5 88 rfl) rfl
theorem q1108 : (Jvm.Cond.soleField "LightPlateModel" "n") ∈ lw_all := lw_g (lw_at lw_m5 89 rfl) rfl
theorem q1109 : (Jvm.Cond.laysFinal "LightPlateModel" "LightPlateModel" "c" "[I") ∈ lw_all := lw_g (lw_at lw_m5 90 rfl) rfl
theorem q1110 : (Jvm.Cond.soleField "LightPlateModel" "c") ∈ lw_all := lw_g (lw_at lw_m5 91 rfl) rfl
theorem q1111 : (Jvm.Cond.laysFinal "LightPlateModel" "LightPlateModel" "s" "[I") ∈ lw_all := lw_g (lw_at lw_m5 92 rfl) rfl
theorem q1112 : (Jvm.Cond.soleField "LightPlateModel" "s") ∈ lw_all := lw_g (lw_at lw_m5 93 rfl) rfl
theorem q1113 : (Jvm.Cond.laysFinal "LightPlateModel" "LightPlateModel" "setting" "[I") ∈ lw_all := lw_g (lw_at lw_m5 94 rfl) rfl
theorem q1114 : (Jvm.Cond.soleField "LightPlateModel" "setting") ∈ lw_all := lw_g (lw_at lw_m5 95 rfl) rfl
theorem q1115 : (Jvm.Cond.laysFinal "LightPlateModel" "LightPlateModel" "stuck" "[I") ∈ lw_all := lw_g (lw_at lw_m5 96 rfl) rfl
theorem q1116 : (Jvm.Cond.soleField "LightPlateModel" "stuck") ∈ lw_all := lw_g (lw_at lw_m5 97 rfl) rfl
theorem q1117 : (Jvm.Cond.laysFinal "LightPlateModel" "LightPlateModel" "user" "[I") ∈ lw_all := lw_g (lw_at lw_m5 98 rfl) rfl
theorem q1118 : (Jvm.Cond.soleField "LightPlateModel" "user") ∈ lw_all := lw_g (lw_at lw_m5 99 rfl) rfl
theorem q1119 : (Jvm.Cond.laysFinal "LightPlateModel" "LightPlateModel" "offset" "[I") ∈ lw_all := lw_g (lw_at lw_m5 100 rfl) rfl
theorem q1120 : (Jvm.Cond.soleField "LightPlateModel" "offset") ∈ lw_all := lw_g (lw_at lw_m5 101 rfl) rfl
theorem q1121 : (Jvm.Cond.lays "LightPlateModel" "LightPlateModel" "creep" "I") ∈ lw_all := lw_g (lw_at lw_m5 102 rfl) rfl
theorem q1122 : (Jvm.Cond.soleField "LightPlateModel" "creep") ∈ lw_all := lw_g (lw_at lw_m5 103 rfl) rfl
theorem q1123 : (Jvm.Cond.laysFinal "LightPlateModel" "LightPlateModel" "by" "[I") ∈ lw_all := lw_g (lw_at lw_m5 104 rfl) rfl
theorem q1124 : (Jvm.Cond.soleField "LightPlateModel" "by") ∈ lw_all := lw_g (lw_at lw_m5 105 rfl) rfl
theorem q1125 : (Jvm.Cond.laysFinal "LightPlateModel" "LightPlateModel" "offsets" "[I") ∈ lw_all := lw_g (lw_at lw_m5 106 rfl) rfl
theorem q1126 : (Jvm.Cond.soleField "LightPlateModel" "offsets") ∈ lw_all := lw_g (lw_at lw_m5 107 rfl) rfl
theorem q1127 : (Jvm.Cond.laysFinal "LightPlateModel" "LightPlateModel" "light" "[I") ∈ lw_all := lw_g (lw_at lw_m5 108 rfl) rfl
theorem q1128 : (Jvm.Cond.soleField "LightPlateModel" "light") ∈ lw_all := lw_g (lw_at lw_m5 109 rfl) rfl
theorem q1129 : (Jvm.Cond.laysFinal "LightPlateModel" "LightPlateModel" "told" "[I") ∈ lw_all := lw_g (lw_at lw_m5 110 rfl) rfl
theorem q1130 : (Jvm.Cond.soleField "LightPlateModel" "told") ∈ lw_all := lw_g (lw_at lw_m5 111 rfl) rfl
theorem q1131 : (Jvm.Cond.laysFinal "LightPlateModel" "LightPlateModel" "split" "[I") ∈ lw_all := lw_g (lw_at lw_m5 112 rfl) rfl
theorem q1132 : (Jvm.Cond.soleField "LightPlateModel" "split") ∈ lw_all := lw_g (lw_at lw_m5 113 rfl) rfl
theorem q1133 : (Jvm.Cond.laysFinal "LightPlateModel" "LightPlateModel" "stepLane" "[I") ∈ lw_all := lw_g (lw_at lw_m5 114 rfl) rfl
theorem q1134 : (Jvm.Cond.soleField "LightPlateModel" "stepLane") ∈ lw_all := lw_g (lw_at lw_m5 115 rfl) rfl
theorem q1135 : (Jvm.Cond.laysFinal "LightPlateModel" "LightPlateModel" "stepTurn" "[I") ∈ lw_all := lw_g (lw_at lw_m5 116 rfl) rfl
theorem q1136 : (Jvm.Cond.soleField "LightPlateModel" "stepTurn") ∈ lw_all := lw_g (lw_at lw_m5 117 rfl) rfl
theorem q1137 : (Jvm.Cond.laysFinal "LightPlateModel" "LightPlateModel" "sign" "[I") ∈ lw_all := lw_g (lw_at lw_m5 118 rfl) rfl
theorem q1138 : (Jvm.Cond.soleField "LightPlateModel" "sign") ∈ lw_all := lw_g (lw_at lw_m5 119 rfl) rfl
theorem q1139 : (Jvm.Cond.lays "LightPlateModel" "LightPlateModel" "steps" "I") ∈ lw_all := lw_g (lw_at lw_m5 120 rfl) rfl
theorem q1140 : (Jvm.Cond.soleField "LightPlateModel" "steps") ∈ lw_all := lw_g (lw_at lw_m5 121 rfl) rfl
theorem q1141 : (Jvm.Cond.lays "LightPlateModel" "LightPlateModel" "wasSplit" "Z") ∈ lw_all := lw_g (lw_at lw_m5 122 rfl) rfl
theorem q1142 : (Jvm.Cond.soleField "LightPlateModel" "wasSplit") ∈ lw_all := lw_g (lw_at lw_m5 123 rfl) rfl
theorem q1143 : (Jvm.Cond.lays "LightPlateModel" "LightPlateModel" "hasLack" "Z") ∈ lw_all := lw_g (lw_at lw_m5 124 rfl) rfl
theorem q1144 : (Jvm.Cond.soleField "LightPlateModel" "hasLack") ∈ lw_all := lw_g (lw_at lw_m5 125 rfl) rfl
theorem q1145 : (Jvm.Cond.laysFinal "LightPlateModel" "LightPlateModel" "workLane" "[I") ∈ lw_all := lw_g (lw_at lw_m5 126 rfl) rfl
theorem q1146 : (Jvm.Cond.soleField "LightPlateModel" "workLane") ∈ lw_all := lw_g (lw_at lw_m5 127 rfl) rfl
theorem q1147 : (Jvm.Cond.laysFinal "LightPlateModel" "LightPlateModel" "workTurn" "[I") ∈ lw_all := lw_g (lw_at lw_m5 128 rfl) rfl
theorem q1148 : (Jvm.Cond.soleField "LightPlateModel" "workTurn") ∈ lw_all := lw_g (lw_at lw_m5 129 rfl) rfl
theorem q1149 : (Jvm.Cond.lays "LightPlateModel" "LightPlateModel" "works" "I") ∈ lw_all := lw_g (lw_at lw_m5 130 rfl) rfl
theorem q1150 : (Jvm.Cond.soleField "LightPlateModel" "works") ∈ lw_all := lw_g (lw_at lw_m5 131 rfl) rfl
theorem q1151 : (Jvm.Cond.laysFinal "LightPlateModel" "LightPlateModel" "can" "[Z") ∈ lw_all := lw_g (lw_at lw_m5 132 rfl) rfl
theorem q1152 : (Jvm.Cond.soleField "LightPlateModel" "can") ∈ lw_all := lw_g (lw_at lw_m5 133 rfl) rfl
theorem q1153 : (Jvm.Cond.laysFinal "LightPlateModel" "LightPlateModel" "tape" "[I") ∈ lw_all := lw_g (lw_at lw_m5 134 rfl) rfl
theorem q1154 : (Jvm.Cond.soleField "LightPlateModel" "tape") ∈ lw_all := lw_g (lw_at lw_m5 135 rfl) rfl
theorem q1155 : (Jvm.Cond.laysFinal "LightPlateModel" "LightPlateModel" "list" "[I") ∈ lw_all := lw_g (lw_at lw_m5 136 rfl) rfl
theorem q1156 : (Jvm.Cond.soleField "LightPlateModel" "list") ∈ lw_all := lw_g (lw_at lw_m5 137 rfl) rfl
theorem q1157 : (Jvm.Cond.laysFinal "LightPlateModel" "LightPlateModel" "listSize" "[I") ∈ lw_all := lw_g (lw_at lw_m5 138 rfl) rfl
theorem q1158 : (Jvm.Cond.soleField "LightPlateModel" "listSize") ∈ lw_all := lw_g (lw_at lw_m5 139 rfl) rfl
theorem q1159 : (Jvm.Cond.laysFinal "LightPlateModel" "LightPlateModel" "times" "[I") ∈ lw_all := lw_g (lw_at lw_m5 140 rfl) rfl
theorem q1160 : (Jvm.Cond.soleField "LightPlateModel" "times") ∈ lw_all := lw_g (lw_at lw_m5 141 rfl) rfl
theorem q1161 : (Jvm.Cond.laysFinal "LightPlateModel" "LightPlateModel" "nameList" "[I") ∈ lw_all := lw_g (lw_at lw_m5 142 rfl) rfl
theorem q1162 : (Jvm.Cond.soleField "LightPlateModel" "nameList") ∈ lw_all := lw_g (lw_at lw_m5 143 rfl) rfl
theorem q1163 : (Jvm.Cond.laysFinal "LightPlateModel" "LightPlateModel" "nameSize" "[I") ∈ lw_all := lw_g (lw_at lw_m5 144 rfl) rfl
theorem q1164 : (Jvm.Cond.soleField "LightPlateModel" "nameSize") ∈ lw_all := lw_g (lw_at lw_m5 145 rfl) rfl
theorem q1165 : (Jvm.Cond.laysFinal "LightPlateModel" "LightPlateModel" "isTold" "[Z") ∈ lw_all := lw_g (lw_at lw_m5 146 rfl) rfl
theorem q1166 : (Jvm.Cond.soleField "LightPlateModel" "isTold") ∈ lw_all := lw_g (lw_at lw_m5 147 rfl) rfl
theorem q1167 : (Jvm.Cond.lays "LightPlateModel" "LightPlateModel" "taped" "I") ∈ lw_all := lw_g (lw_at lw_m5 148 rfl) rfl
theorem q1168 : (Jvm.Cond.soleField "LightPlateModel" "taped") ∈ lw_all := lw_g (lw_at lw_m5 149 rfl) rfl
theorem q1169 : (Jvm.Cond.lays "LightPlateModel" "LightPlateModel" "at" "I") ∈ lw_all := lw_g (lw_at lw_m5 150 rfl) rfl
theorem q1170 : (Jvm.Cond.soleField "LightPlateModel" "at") ∈ lw_all := lw_g (lw_at lw_m5 151 rfl) rfl
theorem q1171 : (Jvm.Cond.lays "LightPlateModel" "LightPlateModel" "deep" "I") ∈ lw_all := lw_g (lw_at lw_m5 152 rfl) rfl
theorem q1172 : (Jvm.Cond.soleField "LightPlateModel" "deep") ∈ lw_all := lw_g (lw_at lw_m5 153 rfl) rfl
theorem q1173 : (Jvm.Cond.lays "LightPlateModel" "LightPlateModel" "noName" "I") ∈ lw_all := lw_g (lw_at lw_m5 154 rfl) rfl
theorem q1174 : (Jvm.Cond.soleField "LightPlateModel" "noName") ∈ lw_all := lw_g (lw_at lw_m5 155 rfl) rfl
theorem q1175 : (Jvm.Cond.lays "LightPlateModel" "LightPlateModel" "number" "I") ∈ lw_all := lw_g (lw_at lw_m5 156 rfl) rfl
theorem q1176 : (Jvm.Cond.soleField "LightPlateModel" "number") ∈ lw_all := lw_g (lw_at lw_m5 157 rfl) rfl
theorem q1177 : (Jvm.Cond.laysFinal "LightPlateModel" "LightPlateModel" "runIn" "[I") ∈ lw_all := lw_g (lw_at lw_m5 158 rfl) rfl
theorem q1178 : (Jvm.Cond.soleField "LightPlateModel" "runIn") ∈ lw_all := lw_g (lw_at lw_m5 159 rfl) rfl
theorem q1179 : (Jvm.Cond.laysFinal "LightPlateModel" "LightPlateModel" "runOut" "[I") ∈ lw_all := lw_g (lw_at lw_m5 160 rfl) rfl
theorem q1180 : (Jvm.Cond.soleField "LightPlateModel" "runOut") ∈ lw_all := lw_g (lw_at lw_m5 161 rfl) rfl
theorem q1181 : (Jvm.Cond.laysFinal "LightPlateModel" "LightPlateModel" "runSetting" "[I") ∈ lw_all := lw_g (lw_at lw_m5 162 rfl) rfl
theorem q1182 : (Jvm.Cond.soleField "LightPlateModel" "runSetting") ∈ lw_all := lw_g (lw_at lw_m5 163 rfl) rfl
theorem q1183 : (Jvm.Cond.laysFinal "LightPlateModel" "LightPlateModel" "foundCell" "[I") ∈ lw_all := lw_g (lw_at lw_m5 164 rfl) rfl
theorem q1184 : (Jvm.Cond.soleField "LightPlateModel" "foundCell") ∈ lw_all := lw_g (lw_at lw_m5 165 rfl) rfl
theorem q1185 : (Jvm.Cond.laysFinal "LightPlateModel" "LightPlateModel" "foundAs" "[I") ∈ lw_all := lw_g (lw_at lw_m5 166 rfl) rfl
theorem q1186 : (Jvm.Cond.soleField "LightPlateModel" "foundAs") ∈ lw_all := lw_g (lw_at lw_m5 167 rfl) rfl
theorem q1187 : (Jvm.Cond.laysFinal "LightPlateModel" "LightPlateModel" "foundFrom" "[I") ∈ lw_all := lw_g (lw_at lw_m5 168 rfl) rfl
theorem q1188 : (Jvm.Cond.soleField "LightPlateModel" "foundFrom") ∈ lw_all := lw_g (lw_at lw_m5 169 rfl) rfl
theorem q1189 : (Jvm.Cond.lays "LightPlateModel" "LightPlateModel" "runs" "I") ∈ lw_all := lw_g (lw_at lw_m5 170 rfl) rfl
theorem q1190 : (Jvm.Cond.soleField "LightPlateModel" "runs") ∈ lw_all := lw_g (lw_at lw_m5 171 rfl) rfl
theorem q1191 : (Jvm.Cond.lays "LightPlateModel" "LightPlateModel" "entries" "I") ∈ lw_all := lw_g (lw_at lw_m5 172 rfl) rfl
theorem q1192 : (Jvm.Cond.soleField "LightPlateModel" "entries") ∈ lw_all := lw_g (lw_at lw_m5 173 rfl) rfl
theorem q1193 : (Jvm.Cond.lays "LightPlateModel" "LightPlateModel" "finds" "I") ∈ lw_all := lw_g (lw_at lw_m5 174 rfl) rfl
theorem q1194 : (Jvm.Cond.soleField "LightPlateModel" "finds") ∈ lw_all := lw_g (lw_at lw_m5 175 rfl) rfl
theorem q1195 : (Jvm.Cond.laysFinal "LightPlateModel" "LightPlateModel" "maybe" "[I") ∈ lw_all := lw_g (lw_at lw_m5 176 rfl) rfl
theorem q1196 : (Jvm.Cond.soleField "LightPlateModel" "maybe") ∈ lw_all := lw_g (lw_at lw_m5 177 rfl) rfl
theorem q1197 : (Jvm.Cond.laysFinal "LightPlateModel" "LightPlateModel" "comes" "[I") ∈ lw_all := lw_g (lw_at lw_m5 178 rfl) rfl
theorem q1198 : (Jvm.Cond.soleField "LightPlateModel" "comes") ∈ lw_all := lw_g (lw_at lw_m5 179 rfl) rfl
theorem q1199 : (Jvm.Cond.laysFinal "LightPlateModel" "LightPlateModel" "isHeld" "[Z") ∈ lw_all := lw_g (lw_at lw_m5 180 rfl) rfl
theorem q1200 : (Jvm.Cond.soleField "LightPlateModel" "isHeld") ∈ lw_all := lw_g (lw_at lw_m5 181 rfl) rfl
theorem q1201 : (Jvm.Cond.lays "LightPlateModel" "LightPlateModel" "maybes" "I") ∈ lw_all := lw_g (lw_at lw_m5 182 rfl) rfl
theorem q1202 : (Jvm.Cond.soleField "LightPlateModel" "maybes") ∈ lw_all := lw_g (lw_at lw_m5 183 rfl) rfl
theorem q1203 : (Jvm.Cond.lays "LightPlateModel" "LightPlateModel" "hypotheses" "I") ∈ lw_all := lw_g (lw_at lw_m5 184 rfl) rfl
theorem q1204 : (Jvm.Cond.soleField "LightPlateModel" "hypotheses") ∈ lw_all := lw_g (lw_at lw_m5 185 rfl) rfl
theorem q1205 : (Jvm.Cond.lays "LightPlateModel" "LightPlateModel" "probed" "I") ∈ lw_all := lw_g (lw_at lw_m5 186 rfl) rfl
theorem q1206 : (Jvm.Cond.soleField "LightPlateModel" "probed") ∈ lw_all := lw_g (lw_at lw_m5 187 rfl) rfl
theorem q1207 : (Jvm.Cond.lays "LightPlateModel" "LightPlateModel" "isProbing" "Z") ∈ lw_all := lw_g (lw_at lw_m5 188 rfl) rfl
theorem q1208 : (Jvm.Cond.soleField "LightPlateModel" "isProbing") ∈ lw_all := lw_g (lw_at lw_m5 189 rfl) rfl
theorem q1209 : (Jvm.Cond.laysFinal "LightPlateModel" "LightPlateModel" "group" "[I") ∈ lw_all := lw_g (lw_at lw_m5 190 rfl) rfl
theorem q1210 : (Jvm.Cond.soleField "LightPlateModel" "group") ∈ lw_all := lw_g (lw_at lw_m5 191 rfl) rfl
theorem q1211 : (Jvm.Cond.superclass "LightPlateModel" "java/lang/Object") ∈ lw_all := lw_g (lw_at lw_m5 192 rfl) rfl
theorem q1213 : (Jvm.Cond.instanceMethod ({ cls := "LightPlateModel", name := "turn", desc := "(II)I" } : Jvm.MethodName)) ∈ lw_all := lw_g (lw_at lw_m5 194 rfl) rfl
theorem q1214 : (Jvm.Cond.selects "LightPlateModel" ({ cls := "LightPlateModel", name := "turn", desc := "(II)I" } : Jvm.MethodName) ({ cls := "LightPlateModel", name := "turn", desc := "(II)I" } : Jvm.MethodName)) ∈ lw_all := lw_g (lw_at lw_m5 195 rfl) rfl
theorem q1215 : (Jvm.Cond.code ({ cls := "LightPlateModel", name := "turn", desc := "(II)I" } : Jvm.MethodName) prog_19_method_7_code (3 : Nat) (Option.some Jvm.ClassFile.FieldType.int)) ∈ lw_all := lw_g (lw_at lw_m5 196 rfl) rfl
theorem q1216 : (Jvm.Cond.methodLink "LightPlateModel" (130 : Nat) ({ cls := "LightPlateModel", name := "fitTurn", desc := "(I)I" } : Jvm.MethodName)) ∈ lw_all := lw_g (lw_at lw_m5 197 rfl) rfl
theorem q1217 : (Jvm.Cond.static ({ cls := "LightPlateModel", name := "fitTurn", desc := "(I)I" } : Jvm.MethodName)) ∈ lw_all := lw_g (lw_at lw_m5 198 rfl) rfl
theorem q1218 : (Jvm.Cond.code ({ cls := "LightPlateModel", name := "fitTurn", desc := "(I)I" } : Jvm.MethodName) prog_19_method_4_code (2 : Nat) (Option.some Jvm.ClassFile.FieldType.int)) ∈ lw_all := lw_g (lw_at lw_m5 199 rfl) rfl
theorem q1220 : (Jvm.Cond.instanceMethod ({ cls := "LightPlateModel", name := "set", desc := "(III)I" } : Jvm.MethodName)) ∈ lw_all := lw_g (lw_at lw_m5 201 rfl) rfl
theorem q1221 : (Jvm.Cond.selects "LightPlateModel" ({ cls := "LightPlateModel", name := "set", desc := "(III)I" } : Jvm.MethodName) ({ cls := "LightPlateModel", name := "set", desc := "(III)I" } : Jvm.MethodName)) ∈ lw_all := lw_g (lw_at lw_m5 202 rfl) rfl
theorem q1222 : (Jvm.Cond.code ({ cls := "LightPlateModel", name := "set", desc := "(III)I" } : Jvm.MethodName) prog_19_method_8_code (5 : Nat) (Option.some Jvm.ClassFile.FieldType.int)) ∈ lw_all := lw_g (lw_at lw_m5 203 rfl) rfl
theorem q1223 : (Jvm.Cond.methodLink "LightPlateModel" (133 : Nat) ({ cls := "LightPlateModel", name := "isCell", desc := "(II)Z" } : Jvm.MethodName)) ∈ lw_all := lw_g (lw_at lw_m5 204 rfl) rfl
theorem q1224 : (Jvm.Cond.privateMethod ({ cls := "LightPlateModel", name := "isCell", desc := "(II)Z" } : Jvm.MethodName)) ∈ lw_tbl := lw_at lw_m5 205 rfl
theorem q1225 : (Jvm.Cond.instanceMethod ({ cls := "LightPlateModel", name := "isCell", desc := "(II)Z" } : Jvm.MethodName)) ∈ lw_all := lw_g (lw_at lw_m5 206 rfl) rfl
theorem q1226 : (Jvm.Cond.code ({ cls := "LightPlateModel", name := "isCell", desc := "(II)Z" } : Jvm.MethodName) prog_19_method_6_code (3 : Nat) (Option.some Jvm.ClassFile.FieldType.boolean)) ∈ lw_all := lw_g (lw_at lw_m5 207 rfl) rfl
theorem q1227 : (Jvm.Cond.constantLong "LightPlateModel" (124 : Nat) (11 : Int64)) ∈ lw_all := lw_g (lw_at lw_m5 208 rfl) rfl
theorem q1228 : (Jvm.Cond.methodLink "LightPlateModel" (126 : Nat) ({ cls := "LightPlateModel", name := "isIn", desc := "(JJJ)Z" } : Jvm.MethodName)) ∈ lw_all := lw_g (lw_at lw_m5 209 rfl) rfl
theorem q1229 : (Jvm.Cond.static ({ cls := "LightPlateModel", name := "isIn", desc := "(JJJ)Z" } : Jvm.MethodName)) ∈ lw_all := lw_g (lw_at lw_m5 210 rfl) rfl
theorem q1230 : (Jvm.Cond.code ({ cls := "LightPlateModel", name := "isIn", desc := "(JJJ)Z" } : Jvm.MethodName) prog_19_method_2_code (6 : Nat) (Option.some Jvm.ClassFile.FieldType.boolean)) ∈ lw_all := lw_g (lw_at lw_m5 211 rfl) rfl
theorem q1231 : (Jvm.Cond.constantLong "LightPlateModel" (137 : Nat) (95 : Int64)) ∈ lw_all := lw_g (lw_at lw_m5 212 rfl) rfl
theorem q1233 : (Jvm.Cond.instanceMethod ({ cls := "LightPlateModel", name := "dies", desc := "(III)I" } : Jvm.MethodName)) ∈ lw_all := lw_g (lw_at lw_m5 214 rfl) rfl
theorem q1234 : (Jvm.Cond.selects "LightPlateModel" ({ cls := "LightPlateModel", name := "dies", desc := "(III)I" } : Jvm.MethodName) ({ cls := "LightPlateModel", name := "dies", desc := "(III)I" } : Jvm.MethodName)) ∈ lw_all := lw_g (lw_at lw_m5 215 rfl) rfl
theorem q1235 : (Jvm.Cond.code ({ cls := "LightPlateModel", name := "dies", desc := "(III)I" } : Jvm.MethodName) prog_19_method_9_code (5 : Nat) (Option.some Jvm.ClassFile.FieldType.int)) ∈ lw_all := lw_g (lw_at lw_m5 216 rfl) rfl
theorem q1237 : (Jvm.Cond.instanceMethod ({ cls := "LightPlateModel", name := "mend", desc := "(II)I" } : Jvm.MethodName)) ∈ lw_all := lw_g (lw_at lw_m5 218 rfl) rfl
theorem q1238 : (Jvm.Cond.selects "LightPlateModel" ({ cls := "LightPlateModel", name := "mend", desc := "(II)I" } : Jvm.MethodName) ({ cls := "LightPlateModel", name := "mend", desc := "(II)I" } : Jvm.MethodName)) ∈ lw_all := lw_g (lw_at lw_m5 219 rfl) rfl
theorem q1239 : (Jvm.Cond.code ({ cls := "LightPlateModel", name := "mend", desc := "(II)I" } : Jvm.MethodName) prog_19_method_10_code (4 : Nat) (Option.some Jvm.ClassFile.FieldType.int)) ∈ lw_all := lw_g (lw_at lw_m5 220 rfl) rfl
theorem q1241 : (Jvm.Cond.instanceMethod ({ cls := "LightPlateModel", name := "cell", desc := "(III)I" } : Jvm.MethodName)) ∈ lw_all := lw_g (lw_at lw_m5 222 rfl) rfl
theorem q1242 : (Jvm.Cond.selects "LightPlateModel" ({ cls := "LightPlateModel", name := "cell", desc := "(III)I" } : Jvm.MethodName) ({ cls := "LightPlateModel", name := "cell", desc := "(III)I" } : Jvm.MethodName)) ∈ lw_all := lw_g (lw_at lw_m5 223 rfl) rfl
theorem q1243 : (Jvm.Cond.code ({ cls := "LightPlateModel", name := "cell", desc := "(III)I" } : Jvm.MethodName) prog_19_method_18_code (5 : Nat) (Option.some Jvm.ClassFile.FieldType.int)) ∈ lw_all := lw_g (lw_at lw_m5 224 rfl) rfl
theorem q1244 : (Jvm.Cond.methodLink "LightPlateModel" (156 : Nat) ({ cls := "LightPlateModel", name := "asNow", desc := "()V" } : Jvm.MethodName)) ∈ lw_all := lw_g (lw_at lw_m5 225 rfl) rfl
theorem q1245 : (Jvm.Cond.privateMethod ({ cls := "LightPlateModel", name := "asNow", desc := "()V" } : Jvm.MethodName)) ∈ lw_tbl := lw_at lw_m5 226 rfl
theorem q1246 : (Jvm.Cond.instanceMethod ({ cls := "LightPlateModel", name := "asNow", desc := "()V" } : Jvm.MethodName)) ∈ lw_all := lw_g (lw_at lw_m5 227 rfl) rfl
theorem q1247 : (Jvm.Cond.code ({ cls := "LightPlateModel", name := "asNow", desc := "()V" } : Jvm.MethodName) prog_19_method_17_code (2 : Nat) (Option.none : Option Jvm.ClassFile.FieldType)) ∈ lw_all := lw_g (lw_at lw_m5 228 rfl) rfl
theorem q1248 : (Jvm.Cond.methodLink "LightPlateModel" (145 : Nat) ({ cls := "LightPlateModel", name := "heat", desc := "(II)I" } : Jvm.MethodName)) ∈ lw_all := lw_g (lw_at lw_m5 229 rfl) rfl
theorem q1249 : (Jvm.Cond.privateMethod ({ cls := "LightPlateModel", name := "heat", desc := "(II)I" } : Jvm.MethodName)) ∈ lw_tbl := lw_at lw_m5 230 rfl
theorem q1250 : (Jvm.Cond.instanceMethod ({ cls := "LightPlateModel", name := "heat", desc := "(II)I" } : Jvm.MethodName)) ∈ lw_all := lw_g (lw_at lw_m5 231 rfl) rfl
theorem q1251 : (Jvm.Cond.code ({ cls := "LightPlateModel", name := "heat", desc := "(II)I" } : Jvm.MethodName) prog_19_method_12_code (4 : Nat) (Option.some Jvm.ClassFile.FieldType.int)) ∈ lw_all := lw_g (lw_at lw_m5 232 rfl) rfl
theorem q1252 : (Jvm.Cond.methodLink "LightPlateModel" (142 : Nat) ({ cls := "LightPlateModel", name := "turnOf", desc := "(I)I" } : Jvm.MethodName)) ∈ lw_all := lw_g (lw_at lw_m5 233 rfl) rfl
theorem q1253 : (Jvm.Cond.privateMethod ({ cls := "LightPlateModel", name := "turnOf", desc := "(I)I" } : Jvm.MethodName)) ∈ lw_tbl := lw_at lw_m5 234 rfl
theorem q1254 : (Jvm.Cond.instanceMethod ({ cls := "LightPlateModel", name := "turnOf", desc := "(I)I" } : Jvm.MethodName)) ∈ lw_all := lw_g (lw_at lw_m5 235 rfl) rfl
theorem q1255 : (Jvm.Cond.code ({ cls := "LightPlateModel", name := "turnOf", desc := "(I)I" } : Jvm.MethodName) prog_19_method_11_code (2 : Nat) (Option.some Jvm.ClassFile.FieldType.int)) ∈ lw_all := lw_g (lw_at lw_m5 236 rfl) rfl
theorem q1256 : (Jvm.Cond.methodLink "LightPlateModel" (149 : Nat) ({ cls := "LightPlateModel", name := "trueTurn", desc := "(II)I" } : Jvm.MethodName)) ∈ lw_all := lw_g (lw_at lw_m5 237 rfl) rfl
theorem q1257 : (Jvm.Cond.privateMethod ({ cls := "LightPlateModel", name := "trueTurn", desc := "(II)I" } : Jvm.MethodName)) ∈ lw_tbl := lw_at lw_m5 238 rfl
theorem q1258 : (Jvm.Cond.instanceMethod ({ cls := "LightPlateModel", name := "trueTurn", desc := "(II)I" } : Jvm.MethodName)) ∈ lw_all := lw_g (lw_at lw_m5 239 rfl) rfl
theorem q1259 : (Jvm.Cond.code ({ cls := "LightPlateModel", name := "trueTurn", desc := "(II)I" } : Jvm.MethodName) prog_19_method_13_code (4 : Nat) (Option.some Jvm.ClassFile.FieldType.int)) ∈ lw_all := lw_g (lw_at lw_m6 0 rfl) rfl
theorem q1261 : (Jvm.Cond.instanceMethod ({ cls := "LightPlateModel", name := "table", desc := "(II)I" } : Jvm.MethodName)) ∈ lw_all := lw_g (lw_at lw_m6 2 rfl) rfl
theorem q1262 : (Jvm.Cond.selects "LightPlateModel" ({ cls := "LightPlateModel", name := "table", desc := "(II)I" } : Jvm.MethodName) ({ cls := "LightPlateModel", name := "table", desc := "(II)I" } : Jvm.MethodName)) ∈ lw_all := lw_g (lw_at lw_m6 3 rfl) rfl
theorem q1263 : (Jvm.Cond.code ({ cls := "LightPlateModel", name := "table", desc := "(II)I" } : Jvm.MethodName) prog_19_method_19_code (3 : Nat) (Option.some Jvm.ClassFile.FieldType.int)) ∈ lw_all := lw_g (lw_at lw_m6 4 rfl) rfl
theorem q1264 : (Jvm.Cond.methodLink "LightPlateModel" (159 : Nat) ({ cls := "LightPlateModel", name := "isLane", desc := "(I)Z" } : Jvm.MethodName)) ∈ lw_all := lw_g (lw_at lw_m6 5 rfl) rfl
theorem q1265 : (Jvm.Cond.privateMethod ({ cls := "LightPlateModel", name := "isLane", desc := "(I)Z" } : Jvm.MethodName)) ∈ lw_tbl := lw_at lw_m6 6 rfl
theorem q1266 : (Jvm.Cond.instanceMethod ({ cls := "LightPlateModel", name := "isLane", desc := "(I)Z" } : Jvm.MethodName)) ∈ lw_all := lw_g (lw_at lw_m6 7 rfl) rfl
theorem q1267 : (Jvm.Cond.code ({ cls := "LightPlateModel", name := "isLane", desc := "(I)Z" } : Jvm.MethodName) prog_19_method_5_code (2 : Nat) (Option.some Jvm.ClassFile.FieldType.boolean)) ∈ lw_all := lw_g (lw_at lw_m6 8 rfl) rfl
theorem q1268 : (Jvm.Cond.methodLink "LightPlateModel" (163 : Nat) ({ cls := "LightPlateModel", name := "enters", desc := "(I)V" } : Jvm.MethodName)) ∈ lw_all := lw_g (lw_at lw_m6 9 rfl) rfl
theorem q1269 : (Jvm.Cond.privateMethod ({ cls := "LightPlateModel", name := "enters", desc := "(I)V" } : Jvm.MethodName)) ∈ lw_tbl := lw_at lw_m6 10 rfl
theorem q1270 : (Jvm.Cond.instanceMethod ({ cls := "LightPlateModel", name := "enters", desc := "(I)V" } : Jvm.MethodName)) ∈ lw_all := lw_g (lw_at lw_m6 11 rfl) rfl
theorem q1271 : (Jvm.Cond.code ({ cls := "LightPlateModel", name := "enters", desc := "(I)V" } : Jvm.MethodName) prog_19_method_16_code (3 : Nat) (Option.none : Option Jvm.ClassFile.FieldType)) ∈ lw_all := lw_g (lw_at lw_m6 12 rfl) rfl
theorem q1272 : (Jvm.Cond.methodLink "LightPlateModel" (167 : Nat) ({ cls := "LightPlateModel", name := "goes", desc := "(Z)V" } : Jvm.MethodName)) ∈ lw_all := lw_g (lw_at lw_m6 13 rfl) rfl
theorem q1273 : (Jvm.Cond.privateMethod ({ cls := "LightPlateModel", name := "goes", desc := "(Z)V" } : Jvm.MethodName)) ∈ lw_tbl := lw_at lw_m6 14 rfl
theorem q1274 : (Jvm.Cond.instanceMethod ({ cls := "LightPlateModel", name := "goes", desc := "(Z)V" } : Jvm.MethodName)) ∈ lw_all := lw_g (lw_at lw_m6 15 rfl) rfl
theorem q1275 : (Jvm.Cond.code ({ cls := "LightPlateModel", name := "goes", desc := "(Z)V" } : Jvm.MethodName) prog_19_method_15_code (4 : Nat) (Option.none : Option Jvm.ClassFile.FieldType)) ∈ lw_all := lw_g (lw_at lw_m6 16 rfl) rfl
theorem q1276 : (Jvm.Cond.methodLink "LightPlateModel" (152 : Nat) ({ cls := "LightPlateModel", name := "turns", desc := "(II)V" } : Jvm.MethodName)) ∈ lw_all := lw_g (lw_at lw_m6 17 rfl) rfl
theorem q1277 : (Jvm.Cond.privateMethod ({ cls := "LightPlateModel", name := "turns", desc := "(II)V" } : Jvm.MethodName)) ∈ lw_tbl := lw_at lw_m6 18 rfl
theorem q1278 : (Jvm.Cond.instanceMethod ({ cls := "LightPlateModel", name := "turns", desc := "(II)V" } : Jvm.MethodName)) ∈ lw_all := lw_g (lw_at lw_m6 19 rfl) rfl
theorem q1279 : (Jvm.Cond.code ({ cls := "LightPlateModel", name := "turns", desc := "(II)V" } : Jvm.MethodName) prog_19_method_14_code (5 : Nat) (Option.none : Option Jvm.ClassFile.FieldType)) ∈ lw_all := lw_g (lw_at lw_m6 20 rfl) rfl
theorem q1281 : (Jvm.Cond.instanceMethod ({ cls := "LightPlateModel", name := "entry", desc := "(III)I" } : Jvm.MethodName)) ∈ lw_all := lw_g (lw_at lw_m6 22 rfl) rfl
theorem q1282 : (Jvm.Cond.selects "LightPlateModel" ({ cls := "LightPlateModel", name := "entry", desc := "(III)I" } : Jvm.MethodName) ({ cls := "LightPlateModel", name := "entry", desc := "(III)I" } : Jvm.MethodName)) ∈ lw_all := lw_g (lw_at lw_m6 23 rfl) rfl
theorem q1283 : (Jvm.Cond.code ({ cls := "LightPlateModel", name := "entry", desc := "(III)I" } : Jvm.MethodName) prog_19_method_20_code (5 : Nat) (Option.some Jvm.ClassFile.FieldType.int)) ∈ lw_all := lw_g (lw_at lw_m6 24 rfl) rfl
theorem q1284 : (Jvm.Cond.constantLong "LightPlateModel" (171 : Nat) (96 : Int64)) ∈ lw_all := lw_g (lw_at lw_m6 25 rfl) rfl
theorem q1286 : (Jvm.Cond.instanceMethod ({ cls := "LightPlateModel", name := "take", desc := "()I" } : Jvm.MethodName)) ∈ lw_all := lw_g (lw_at lw_m6 27 rfl) rfl
theorem q1287 : (Jvm.Cond.selects "LightPlateModel" ({ cls := "LightPlateModel", name := "take", desc := "()I" } : Jvm.MethodName) ({ cls := "LightPlateModel", name := "take", desc := "()I" } : Jvm.MethodName)) ∈ lw_all := lw_g (lw_at lw_m6 28 rfl) rfl
theorem q1288 : (Jvm.Cond.code ({ cls := "LightPlateModel", name := "take", desc := "()I" } : Jvm.MethodName) prog_19_method_21_code (5 : Nat) (Option.some Jvm.ClassFile.FieldType.int)) ∈ lw_all := lw_g (lw_at lw_m6 29 rfl) rfl
theorem q1289 : (Jvm.Cond.methodLink "LightPlateModel" (173 : Nat) ({ cls := "LightPlateModel", name := "table", desc := "(II)I" } : Jvm.MethodName)) ∈ lw_all := lw_g (lw_at lw_m6 30 rfl) rfl
theorem q1291 : (Jvm.Cond.instanceMethod ({ cls := "LightPlateModel", name := "right", desc := "()I" } : Jvm.MethodName)) ∈ lw_all := lw_g (lw_at lw_m6 32 rfl) rfl
theorem q1292 : (Jvm.Cond.selects "LightPlateModel" ({ cls := "LightPlateModel", name := "right", desc := "()I" } : Jvm.MethodName) ({ cls := "LightPlateModel", name := "right", desc := "()I" } : Jvm.MethodName)) ∈ lw_all := lw_g (lw_at lw_m6 33 rfl) rfl
theorem q1293 : (Jvm.Cond.code ({ cls := "LightPlateModel", name := "right", desc := "()I" } : Jvm.MethodName) prog_19_method_22_code (5 : Nat) (Option.some Jvm.ClassFile.FieldType.int)) ∈ lw_all := lw_g (lw_at lw_m6 34 rfl) rfl
theorem q1295 : (Jvm.Cond.instanceMethod ({ cls := "LightPlateModel", name := "split", desc := "()I" } : Jvm.MethodName)) ∈ lw_all := lw_g (lw_at lw_m6 36 rfl) rfl
theorem q1296 : (Jvm.Cond.selects "LightPlateModel" ({ cls := "LightPlateModel", name := "split", desc := "()I" } : Jvm.MethodName) ({ cls := "LightPlateModel", name := "split", desc := "()I" } : Jvm.MethodName)) ∈ lw_all := lw_g (lw_at lw_m6 37 rfl) rfl
theorem q1297 : (Jvm.Cond.code ({ cls := "LightPlateModel", name := "split", desc := "()I" } : Jvm.MethodName) prog_19_method_24_code (7 : Nat) (Option.some Jvm.ClassFile.FieldType.int)) ∈ lw_all := lw_g (lw_at lw_m6 38 rfl) rfl
theorem q1298 : (Jvm.Cond.methodLink "LightPlateModel" (186 : Nat) ({ cls := "LightPlateModel", name := "clears", desc := "(II)I" } : Jvm.MethodName)) ∈ lw_all := lw_g (lw_at lw_m6 39 rfl) rfl
theorem q1299 : (Jvm.Cond.privateMethod ({ cls := "LightPlateModel", name := "clears", desc := "(II)I" } : Jvm.MethodName)) ∈ lw_tbl := lw_at lw_m6 40 rfl
theorem q1300 : (Jvm.Cond.instanceMethod ({ cls := "LightPlateModel", name := "clears", desc := "(II)I" } : Jvm.MethodName)) ∈ lw_all := lw_g (lw_at lw_m6 41 rfl) rfl
theorem q1301 : (Jvm.Cond.code ({ cls := "LightPlateModel", name := "clears", desc := "(II)I" } : Jvm.MethodName) prog_19_method_23_code (4 : Nat) (Option.some Jvm.ClassFile.FieldType.int)) ∈ lw_all := lw_g (lw_at lw_m6 42 rfl) rfl
theorem q1303 : (Jvm.Cond.instanceMethod ({ cls := "LightPlateModel", name := "step", desc := "(II)I" } : Jvm.MethodName)) ∈ lw_all := lw_g (lw_at lw_m6 44 rfl) rfl
theorem q1304 : (Jvm.Cond.selects "LightPlateModel" ({ cls := "LightPlateModel", name := "step", desc := "(II)I" } : Jvm.MethodName) ({ cls := "LightPlateModel", name := "step", desc := "(II)I" } : Jvm.MethodName)) ∈ lw_all := lw_g (lw_at lw_m6 45 rfl) rfl
theorem q1305 : (Jvm.Cond.code ({ cls := "LightPlateModel", name := "step", desc := "(II)I" } : Jvm.MethodName) prog_19_method_25_code (3 : Nat) (Option.some Jvm.ClassFile.FieldType.int)) ∈ lw_all := lw_g (lw_at lw_m6 46 rfl) rfl
theorem q1306 : (Jvm.Cond.constantLong "LightPlateModel" (189 : Nat) (2 : Int64)) ∈ lw_all := lw_g (lw_at lw_m6 47 rfl) rfl
theorem q1308 : (Jvm.Cond.instanceMethod ({ cls := "LightPlateModel", name := "undo", desc := "()I" } : Jvm.MethodName)) ∈ lw_all := lw_g (lw_at lw_m6 49 rfl) rfl
theorem q1309 : (Jvm.Cond.selects "LightPlateModel" ({ cls := "LightPlateModel", name := "undo", desc := "()I" } : Jvm.MethodName) ({ cls := "LightPlateModel", name := "undo", desc := "()I" } : Jvm.MethodName)) ∈ lw_all := lw_g (lw_at lw_m6 50 rfl) rfl
theorem q1310 : (Jvm.Cond.code ({ cls := "LightPlateModel", name := "undo", desc := "()I" } : Jvm.MethodName) prog_19_method_26_code (3 : Nat) (Option.some Jvm.ClassFile.FieldType.int)) ∈ lw_all := lw_g (lw_at lw_m6 51 rfl) rfl
theorem q1312 : (Jvm.Cond.instanceMethod ({ cls := "LightPlateModel", name := "work", desc := "(II)I" } : Jvm.MethodName)) ∈ lw_all := lw_g (lw_at lw_m6 53 rfl) rfl
theorem q1313 : (Jvm.Cond.selects "LightPlateModel" ({ cls := "LightPlateModel", name := "work", desc := "(II)I" } : Jvm.MethodName) ({ cls := "LightPlateModel", name := "work", desc := "(II)I" } : Jvm.MethodName)) ∈ lw_all := lw_g (lw_at lw_m6 54 rfl) rfl
theorem q1314 : (Jvm.Cond.code ({ cls := "LightPlateModel", name := "work", desc := "(II)I" } : Jvm.MethodName) prog_19_method_27_code (3 : Nat) (Option.some Jvm.ClassFile.FieldType.int)) ∈ lw_all := lw_g (lw_at lw_m6 55 rfl) rfl
theorem q1316 : (Jvm.Cond.instanceMethod ({ cls := "LightPlateModel", name := "lay", desc := "()I" } : Jvm.MethodName)) ∈ lw_all := lw_g (lw_at lw_m6 57 rfl) rfl
theorem q1317 : (Jvm.Cond.selects "LightPlateModel" ({ cls := "LightPlateModel", name := "lay", desc := "()I" } : Jvm.MethodName) ({ cls := "LightPlateModel", name := "lay", desc := "()I" } : Jvm.MethodName)) ∈ lw_all := lw_g (lw_at lw_m6 58 rfl) rfl
theorem q1318 : (Jvm.Cond.code ({ cls := "LightPlateModel", name := "lay", desc := "()I" } : Jvm.MethodName) prog_19_method_32_code (10 : Nat) (Option.some Jvm.ClassFile.FieldType.int)) ∈ lw_all := lw_g (lw_at lw_m6 59 rfl) rfl
theorem q1319 : (Jvm.Cond.methodLink "LightPlateModel" (203 : Nat) ({ cls := "LightPlateModel", name := "isBare", desc := "(I)Z" } : Jvm.MethodName)) ∈ lw_all := lw_g (lw_at lw_m6 60 rfl) rfl
theorem q1320 : (Jvm.Cond.privateMethod ({ cls := "LightPlateModel", name := "isBare", desc := "(I)Z" } : Jvm.MethodName)) ∈ lw_tbl := lw_at lw_m6 61 rfl
theorem q1321 : (Jvm.Cond.instanceMethod ({ cls := "LightPlateModel", name := "isBare", desc := "(I)Z" } : Jvm.MethodName)) ∈ lw_all := lw_g (lw_at lw_m6 62 rfl) rfl
theorem q1322 : (Jvm.Cond.code ({ cls := "LightPlateModel", name := "isBare", desc := "(I)Z" } : Jvm.MethodName) prog_19_method_30_code (4 : Nat) (Option.some Jvm.ClassFile.FieldType.boolean)) ∈ lw_all := lw_g (lw_at lw_m6 63 rfl) rfl
theorem q1323 : (Jvm.Cond.methodLink "LightPlateModel" (206 : Nat) ({ cls := "LightPlateModel", name := "fillCan", desc := "(I)V" } : Jvm.MethodName)) ∈ lw_all := lw_g (lw_at lw_m6 64 rfl) rfl
theorem q1324 : (Jvm.Cond.privateMethod ({ cls := "LightPlateModel", name := "fillCan", desc := "(I)V" } : Jvm.MethodName)) ∈ lw_tbl := lw_at lw_m6 65 rfl
theorem q1325 : (Jvm.Cond.instanceMethod ({ cls := "LightPlateModel", name := "fillCan", desc := "(I)V" } : Jvm.MethodName)) ∈ lw_all := lw_g (lw_at lw_m6 66 rfl) rfl
theorem q1326 : (Jvm.Cond.code ({ cls := "LightPlateModel", name := "fillCan", desc := "(I)V" } : Jvm.MethodName) prog_19_method_31_code (9 : Nat) (Option.none : Option Jvm.ClassFile.FieldType)) ∈ lw_all := lw_g (lw_at lw_m6 67 rfl) rfl
theorem q1327 : (Jvm.Cond.methodLink "LightPlateModel" (199 : Nat) ({ cls := "LightPlateModel", name := "mayDo", desc := "(III)Z" } : Jvm.MethodName)) ∈ lw_all := lw_g (lw_at lw_m6 68 rfl) rfl
theorem q1328 : (Jvm.Cond.privateMethod ({ cls := "LightPlateModel", name := "mayDo", desc := "(III)Z" } : Jvm.MethodName)) ∈ lw_tbl := lw_at lw_m6 69 rfl
theorem q1329 : (Jvm.Cond.instanceMethod ({ cls := "LightPlateModel", name := "mayDo", desc := "(III)Z" } : Jvm.MethodName)) ∈ lw_all := lw_g (lw_at lw_m6 70 rfl) rfl
theorem q1330 : (Jvm.Cond.code ({ cls := "LightPlateModel", name := "mayDo", desc := "(III)Z" } : Jvm.MethodName) prog_19_method_29_code (7 : Nat) (Option.some Jvm.ClassFile.FieldType.boolean)) ∈ lw_all := lw_g (lw_at lw_m6 71 rfl) rfl
theorem q1331 : (Jvm.Cond.methodLink "LightPlateModel" (196 : Nat) ({ cls := "LightPlateModel", name := "haveLane", desc := "(II)Z" } : Jvm.MethodName)) ∈ lw_all := lw_g (lw_at lw_m6 72 rfl) rfl
theorem q1332 : (Jvm.Cond.privateMethod ({ cls := "LightPlateModel", name := "haveLane", desc := "(II)Z" } : Jvm.MethodName)) ∈ lw_tbl := lw_at lw_m6 73 rfl
theorem q1333 : (Jvm.Cond.instanceMethod ({ cls := "LightPlateModel", name := "haveLane", desc := "(II)Z" } : Jvm.MethodName)) ∈ lw_all := lw_g (lw_at lw_m6 74 rfl) rfl
theorem q1334 : (Jvm.Cond.code ({ cls := "LightPlateModel", name := "haveLane", desc := "(II)Z" } : Jvm.MethodName) prog_19_method_28_code (3 : Nat) (Option.some Jvm.ClassFile.FieldType.boolean)) ∈ lw_all := lw_g (lw_at lw_m6 75 rfl) rfl
theorem q1335 : (Jvm.Cond.constantLong "LightPlateModel" (194 : Nat) (-1 : Int64)) ∈ lw_all := lw_g (lw_at lw_m6 76 rfl) rfl
theorem q1337 : (Jvm.Cond.instanceMethod ({ cls := "LightPlateModel", name := "feed", desc := "(JI)I" } : Jvm.MethodName)) ∈ lw_all := lw_g (lw_at lw_m6 78 rfl) rfl
theorem q1338 : (Jvm.Cond.selects "LightPlateModel" ({ cls := "LightPlateModel", name := "feed", desc := "(JI)I" } : Jvm.MethodName) ({ cls := "LightPlateModel", name := "feed", desc := "(JI)I" } : Jvm.MethodName)) ∈ lw_all := lw_g (lw_at lw_m6 79 rfl) rfl
theorem q1339 : (Jvm.Cond.code ({ cls := "LightPlateModel", name := "feed", desc := "(JI)I" } : Jvm.MethodName) prog_19_method_33_code (5 : Nat) (Option.some Jvm.ClassFile.FieldType.int)) ∈ lw_all := lw_g (lw_at lw_m6 80 rfl) rfl
theorem q1340 : (Jvm.Cond.constantLong "LightPlateModel" (209 : Nat) (8 : Int64)) ∈ lw_all := lw_g (lw_at lw_m6 81 rfl) rfl
theorem q1341 : (Jvm.Cond.constantLong "LightPlateModel" (214 : Nat) (255 : Int64)) ∈ lw_all := lw_g (lw_at lw_m6 82 rfl) rfl
theorem q1343 : (Jvm.Cond.instanceMethod ({ cls := "LightPlateModel", name := "program", desc := "()I" } : Jvm.MethodName)) ∈ lw_all := lw_g (lw_at lw_m6 84 rfl) rfl
theorem q1344 : (Jvm.Cond.selects "LightPlateModel" ({ cls := "LightPlateModel", name := "program", desc := "()I" } : Jvm.MethodName) ({ cls := "LightPlateModel", name := "program", desc := "()I" } : Jvm.MethodName)) ∈ lw_all := lw_g (lw_at lw_m6 85 rfl) rfl
theorem q1345 : (Jvm.Cond.code ({ cls := "LightPlateModel", name := "program", desc := "()I" } : Jvm.MethodName) prog_19_method_44_code (3 : Nat) (Option.some Jvm.ClassFile.FieldType.int)) ∈ lw_all := lw_g (lw_at lw_m6 86 rfl) rfl
theorem q1346 : (Jvm.Cond.methodLink "LightPlateModel" (256 : Nat) ({ cls := "LightPlateModel", name := "parses", desc := "()Z" } : Jvm.MethodName)) ∈ lw_all := lw_g (lw_at lw_m6 87 rfl) rfl
theorem q1347 : (Jvm.Cond.privateMethod ({ cls := "LightPlateModel", name := "parses", desc := "()Z" } : Jvm.MethodName)) ∈ lw_tbl := lw_at lw_m6 88 rfl
theorem q1348 : (Jvm.Cond.instanceMethod ({ cls := "LightPlateModel", name := "parses", desc := "()Z" } : Jvm.MethodName)) ∈ lw_all := lw_g (lw_at lw_m6 89 rfl) rfl
theorem q1349 : (Jvm.Cond.code ({ cls := "LightPlateModel", name := "parses", desc := "()Z" } : Jvm.MethodName) prog_19_method_43_code (2 : Nat) (Option.some Jvm.ClassFile.FieldType.boolean)) ∈ lw_all := lw_g (lw_at lw_m6 90 rfl) rfl
theorem q1350 : (Jvm.Cond.methodLink "LightPlateModel" (249 : Nat) ({ cls := "LightPlateModel", name := "statement", desc := "()Z" } : Jvm.MethodName)) ∈ lw_all := lw_g (lw_at lw_m6 91 rfl) rfl
theorem q1351 : (Jvm.Cond.privateMethod ({ cls := "LightPlateModel", name := "statement", desc := "()Z" } : Jvm.MethodName)) ∈ lw_tbl := lw_at lw_m6 92 rfl
theorem q1352 : (Jvm.Cond.instanceMethod ({ cls := "LightPlateModel", name := "statement", desc := "()Z" } : Jvm.MethodName)) ∈ lw_all := lw_g (lw_at lw_m6 93 rfl) rfl
theorem q1353 : (Jvm.Cond.code ({ cls := "LightPlateModel", name := "statement", desc := "()Z" } : Jvm.MethodName) prog_19_method_41_code (3 : Nat) (Option.some Jvm.ClassFile.FieldType.boolean)) ∈ lw_all := lw_g (lw_at lw_m6 94 rfl) rfl
theorem q1354 : (Jvm.Cond.methodLink "LightPlateModel" (219 : Nat) ({ cls := "LightPlateModel", name := "signAt", desc := "()I" } : Jvm.MethodName)) ∈ lw_all := lw_g (lw_at lw_m6 95 rfl) rfl
theorem q1355 : (Jvm.Cond.privateMethod ({ cls := "LightPlateModel", name := "signAt", desc := "()I" } : Jvm.MethodName)) ∈ lw_tbl := lw_at lw_m6 96 rfl
theorem q1356 : (Jvm.Cond.instanceMethod ({ cls := "LightPlateModel", name := "signAt", desc := "()I" } : Jvm.MethodName)) ∈ lw_all := lw_g (lw_at lw_m6 97 rfl) rfl
theorem q1357 : (Jvm.Cond.code ({ cls := "LightPlateModel", name := "signAt", desc := "()I" } : Jvm.MethodName) prog_19_method_34_code (1 : Nat) (Option.some Jvm.ClassFile.FieldType.int)) ∈ lw_all := lw_g (lw_at lw_m6 98 rfl) rfl
theorem q1358 : (Jvm.Cond.methodLink "LightPlateModel" (235 : Nat) ({ cls := "LightPlateModel", name := "number", desc := "(I)Z" } : Jvm.MethodName)) ∈ lw_all := lw_g (lw_at lw_m6 99 rfl) rfl
theorem q1359 : (Jvm.Cond.privateMethod ({ cls := "LightPlateModel", name := "number", desc := "(I)Z" } : Jvm.MethodName)) ∈ lw_tbl := lw_at lw_m6 100 rfl
theorem q1360 : (Jvm.Cond.instanceMethod ({ cls := "LightPlateModel", name := "number", desc := "(I)Z" } : Jvm.MethodName)) ∈ lw_all := lw_g (lw_at lw_m6 101 rfl) rfl
theorem q1361 : (Jvm.Cond.code ({ cls := "LightPlateModel", name := "number", desc := "(I)Z" } : Jvm.MethodName) prog_19_method_36_code (2 : Nat) (Option.some Jvm.ClassFile.FieldType.boolean)) ∈ lw_all := lw_g (lw_at lw_m6 102 rfl) rfl
theorem q1362 : (Jvm.Cond.methodLink "LightPlateModel" (223 : Nat) ({ cls := "LightPlateModel", name := "isDigit", desc := "(I)Z" } : Jvm.MethodName)) ∈ lw_all := lw_g (lw_at lw_m6 103 rfl) rfl
theorem q1363 : (Jvm.Cond.static ({ cls := "LightPlateModel", name := "isDigit", desc := "(I)Z" } : Jvm.MethodName)) ∈ lw_all := lw_g (lw_at lw_m6 104 rfl) rfl
theorem q1364 : (Jvm.Cond.code ({ cls := "LightPlateModel", name := "isDigit", desc := "(I)Z" } : Jvm.MethodName) prog_19_method_35_code (1 : Nat) (Option.some Jvm.ClassFile.FieldType.boolean)) ∈ lw_all := lw_g (lw_at lw_m6 105 rfl) rfl
theorem q1365 : (Jvm.Cond.methodLink "LightPlateModel" (232 : Nat) ({ cls := "LightPlateModel", name := "adds", desc := "(I)V" } : Jvm.MethodName)) ∈ lw_all := lw_g (lw_at lw_m6 106 rfl) rfl
theorem q1366 : (Jvm.Cond.privateMethod ({ cls := "LightPlateModel", name := "adds", desc := "(I)V" } : Jvm.MethodName)) ∈ lw_tbl := lw_at lw_m6 107 rfl
theorem q1367 : (Jvm.Cond.instanceMethod ({ cls := "LightPlateModel", name := "adds", desc := "(I)V" } : Jvm.MethodName)) ∈ lw_all := lw_g (lw_at lw_m6 108 rfl) rfl
theorem q1368 : (Jvm.Cond.code ({ cls := "LightPlateModel", name := "adds", desc := "(I)V" } : Jvm.MethodName) prog_19_method_37_code (2 : Nat) (Option.none : Option Jvm.ClassFile.FieldType)) ∈ lw_all := lw_g (lw_at lw_m6 109 rfl) rfl
theorem q1369 : (Jvm.Cond.methodLink "LightPlateModel" (237 : Nat) ({ cls := "LightPlateModel", name := "isName", desc := "(I)Z" } : Jvm.MethodName)) ∈ lw_all := lw_g (lw_at lw_m6 110 rfl) rfl
theorem q1370 : (Jvm.Cond.privateMethod ({ cls := "LightPlateModel", name := "isName", desc := "(I)Z" } : Jvm.MethodName)) ∈ lw_tbl := lw_at lw_m6 111 rfl
theorem q1371 : (Jvm.Cond.instanceMethod ({ cls := "LightPlateModel", name := "isName", desc := "(I)Z" } : Jvm.MethodName)) ∈ lw_all := lw_g (lw_at lw_m6 112 rfl) rfl
theorem q1372 : (Jvm.Cond.code ({ cls := "LightPlateModel", name := "isName", desc := "(I)Z" } : Jvm.MethodName) prog_19_method_40_code (2 : Nat) (Option.some Jvm.ClassFile.FieldType.boolean)) ∈ lw_all := lw_g (lw_at lw_m6 113 rfl) rfl
theorem q1373 : (Jvm.Cond.methodLink "LightPlateModel" (240 : Nat) ({ cls := "LightPlateModel", name := "uses", desc := "(I)V" } : Jvm.MethodName)) ∈ lw_all := lw_g (lw_at lw_m6 114 rfl) rfl
theorem q1374 : (Jvm.Cond.privateMethod ({ cls := "LightPlateModel", name := "uses", desc := "(I)V" } : Jvm.MethodName)) ∈ lw_tbl := lw_at lw_m6 115 rfl
theorem q1375 : (Jvm.Cond.instanceMethod ({ cls := "LightPlateModel", name := "uses", desc := "(I)V" } : Jvm.MethodName)) ∈ lw_all := lw_g (lw_at lw_m6 116 rfl) rfl
theorem q1376 : (Jvm.Cond.code ({ cls := "LightPlateModel", name := "uses", desc := "(I)V" } : Jvm.MethodName) prog_19_method_42_code (3 : Nat) (Option.none : Option Jvm.ClassFile.FieldType)) ∈ lw_all := lw_g (lw_at lw_m6 117 rfl) rfl
theorem q1377 : (Jvm.Cond.methodLink "LightPlateModel" (243 : Nat) ({ cls := "LightPlateModel", name := "opens", desc := "(I)V" } : Jvm.MethodName)) ∈ lw_all := lw_g (lw_at lw_m6 118 rfl) rfl
theorem q1378 : (Jvm.Cond.privateMethod ({ cls := "LightPlateModel", name := "opens", desc := "(I)V" } : Jvm.MethodName)) ∈ lw_tbl := lw_at lw_m6 119 rfl
theorem q1379 : (Jvm.Cond.instanceMethod ({ cls := "LightPlateModel", name := "opens", desc := "(I)V" } : Jvm.MethodName)) ∈ lw_all := lw_g (lw_at lw_m6 120 rfl) rfl
theorem q1380 : (Jvm.Cond.code ({ cls := "LightPlateModel", name := "opens", desc := "(I)V" } : Jvm.MethodName) prog_19_method_38_code (2 : Nat) (Option.none : Option Jvm.ClassFile.FieldType)) ∈ lw_all := lw_g (lw_at lw_m6 121 rfl) rfl
theorem q1381 : (Jvm.Cond.methodLink "LightPlateModel" (253 : Nat) ({ cls := "LightPlateModel", name := "closes", desc := "()V" } : Jvm.MethodName)) ∈ lw_all := lw_g (lw_at lw_m6 122 rfl) rfl
theorem q1382 : (Jvm.Cond.privateMethod ({ cls := "LightPlateModel", name := "closes", desc := "()V" } : Jvm.MethodName)) ∈ lw_tbl := lw_at lw_m6 123 rfl
theorem q1383 : (Jvm.Cond.instanceMethod ({ cls := "LightPlateModel", name := "closes", desc := "()V" } : Jvm.MethodName)) ∈ lw_all := lw_g (lw_at lw_m6 124 rfl) rfl
theorem q1384 : (Jvm.Cond.code ({ cls := "LightPlateModel", name := "closes", desc := "()V" } : Jvm.MethodName) prog_19_method_39_code (5 : Nat) (Option.none : Option Jvm.ClassFile.FieldType)) ∈ lw_all := lw_g (lw_at lw_m6 125 rfl) rfl
theorem q1386 : (Jvm.Cond.instanceMethod ({ cls := "LightPlateModel", name := "creep", desc := "(I)I" } : Jvm.MethodName)) ∈ lw_all := lw_g (lw_at lw_m6 127 rfl) rfl
theorem q1387 : (Jvm.Cond.selects "LightPlateModel" ({ cls := "LightPlateModel", name := "creep", desc := "(I)I" } : Jvm.MethodName) ({ cls := "LightPlateModel", name := "creep", desc := "(I)I" } : Jvm.MethodName)) ∈ lw_all := lw_g (lw_at lw_m6 128 rfl) rfl
theorem q1388 : (Jvm.Cond.code ({ cls := "LightPlateModel", name := "creep", desc := "(I)I" } : Jvm.MethodName) prog_19_method_45_code (3 : Nat) (Option.some Jvm.ClassFile.FieldType.int)) ∈ lw_all := lw_g (lw_at lw_m6 129 rfl) rfl
theorem q1389 : (Jvm.Cond.constantLong "LightPlateModel" (259 : Nat) (99 : Int64)) ∈ lw_all := lw_g (lw_at lw_m6 130 rfl) rfl
theorem q1391 : (Jvm.Cond.instanceMethod ({ cls := "LightPlateModel", name := "offset", desc := "(III)I" } : Jvm.MethodName)) ∈ lw_all := lw_g (lw_at lw_m6 132 rfl) rfl
theorem q1392 : (Jvm.Cond.selects "LightPlateModel" ({ cls := "LightPlateModel", name := "offset", desc := "(III)I" } : Jvm.MethodName) ({ cls := "LightPlateModel", name := "offset", desc := "(III)I" } : Jvm.MethodName)) ∈ lw_all := lw_g (lw_at lw_m6 133 rfl) rfl
theorem q1393 : (Jvm.Cond.code ({ cls := "LightPlateModel", name := "offset", desc := "(III)I" } : Jvm.MethodName) prog_19_method_46_code (5 : Nat) (Option.some Jvm.ClassFile.FieldType.int)) ∈ lw_all := lw_g (lw_at lw_m6 134 rfl) rfl
theorem q1394 : (Jvm.Cond.constantLong "LightPlateModel" (261 : Nat) (-8 : Int64)) ∈ lw_all := lw_g (lw_at lw_m6 135 rfl) rfl
theorem q1396 : (Jvm.Cond.instanceMethod ({ cls := "LightPlateModel", name := "run", desc := "(J)I" } : Jvm.MethodName)) ∈ lw_all := lw_g (lw_at lw_m6 137 rfl) rfl
theorem q1397 : (Jvm.Cond.selects "LightPlateModel" ({ cls := "LightPlateModel", name := "run", desc := "(J)I" } : Jvm.MethodName) ({ cls := "LightPlateModel", name := "run", desc := "(J)I" } : Jvm.MethodName)) ∈ lw_all := lw_g (lw_at lw_m6 138 rfl) rfl
theorem q1398 : (Jvm.Cond.code ({ cls := "LightPlateModel", name := "run", desc := "(J)I" } : Jvm.MethodName) prog_19_method_47_code (6 : Nat) (Option.some Jvm.ClassFile.FieldType.int)) ∈ lw_all := lw_g (lw_at lw_m6 139 rfl) rfl
theorem q1399 : (Jvm.Cond.constantLong "LightPlateModel" (263 : Nat) (97 : Int64)) ∈ lw_all := lw_g (lw_at lw_m6 140 rfl) rfl
theorem q1401 : (Jvm.Cond.instanceMethod ({ cls := "LightPlateModel", name := "out", desc := "(II)I" } : Jvm.MethodName)) ∈ lw_all := lw_g (lw_at lw_m6 142 rfl) rfl
theorem q1402 : (Jvm.Cond.selects "LightPlateModel" ({ cls := "LightPlateModel", name := "out", desc := "(II)I" } : Jvm.MethodName) ({ cls := "LightPlateModel", name := "out", desc := "(II)I" } : Jvm.MethodName)) ∈ lw_all := lw_g (lw_at lw_m6 143 rfl) rfl
theorem q1403 : (Jvm.Cond.code ({ cls := "LightPlateModel", name := "out", desc := "(II)I" } : Jvm.MethodName) prog_19_method_49_code (3 : Nat) (Option.some Jvm.ClassFile.FieldType.int)) ∈ lw_all := lw_g (lw_at lw_m6 144 rfl) rfl
theorem q1404 : (Jvm.Cond.methodLink "LightPlateModel" (268 : Nat) ({ cls := "LightPlateModel", name := "isRun", desc := "(I)Z" } : Jvm.MethodName)) ∈ lw_all := lw_g (lw_at lw_m6 145 rfl) rfl
theorem q1405 : (Jvm.Cond.privateMethod ({ cls := "LightPlateModel", name := "isRun", desc := "(I)Z" } : Jvm.MethodName)) ∈ lw_tbl := lw_at lw_m6 146 rfl
theorem q1406 : (Jvm.Cond.instanceMethod ({ cls := "LightPlateModel", name := "isRun", desc := "(I)Z" } : Jvm.MethodName)) ∈ lw_all := lw_g (lw_at lw_m6 147 rfl) rfl
theorem q1407 : (Jvm.Cond.code ({ cls := "LightPlateModel", name := "isRun", desc := "(I)Z" } : Jvm.MethodName) prog_19_method_48_code (2 : Nat) (Option.some Jvm.ClassFile.FieldType.boolean)) ∈ lw_all := lw_g (lw_at lw_m6 148 rfl) rfl
theorem q1409 : (Jvm.Cond.instanceMethod ({ cls := "LightPlateModel", name := "reworked", desc := "(II)I" } : Jvm.MethodName)) ∈ lw_all := lw_g (lw_at lw_m6 150 rfl) rfl
theorem q1410 : (Jvm.Cond.selects "LightPlateModel" ({ cls := "LightPlateModel", name := "reworked", desc := "(II)I" } : Jvm.MethodName) ({ cls := "LightPlateModel", name := "reworked", desc := "(II)I" } : Jvm.MethodName)) ∈ lw_all := lw_g (lw_at lw_m6 151 rfl) rfl
theorem q1411 : (Jvm.Cond.code ({ cls := "LightPlateModel", name := "reworked", desc := "(II)I" } : Jvm.MethodName) prog_19_method_52_code (3 : Nat) (Option.some Jvm.ClassFile.FieldType.int)) ∈ lw_all := lw_g (lw_at lw_m6 152 rfl) rfl
theorem q1412 : (Jvm.Cond.methodLink "LightPlateModel" (277 : Nat) ({ cls := "LightPlateModel", name := "reworks", desc := "(I)V" } : Jvm.MethodName)) ∈ lw_all := lw_g (lw_at lw_m6 153 rfl) rfl
theorem q1413 : (Jvm.Cond.privateMethod ({ cls := "LightPlateModel", name := "reworks", desc := "(I)V" } : Jvm.MethodName)) ∈ lw_tbl := lw_at lw_m6 154 rfl
theorem q1414 : (Jvm.Cond.instanceMethod ({ cls := "LightPlateModel", name := "reworks", desc := "(I)V" } : Jvm.MethodName)) ∈ lw_all := lw_g (lw_at lw_m6 155 rfl) rfl
theorem q1415 : (Jvm.Cond.code ({ cls := "LightPlateModel", name := "reworks", desc := "(I)V" } : Jvm.MethodName) prog_19_method_51_code (3 : Nat) (Option.none : Option Jvm.ClassFile.FieldType)) ∈ lw_all := lw_g (lw_at lw_m6 156 rfl) rfl
theorem q1416 : (Jvm.Cond.methodLink "LightPlateModel" (274 : Nat) ({ cls := "LightPlateModel", name := "known", desc := "(II)I" } : Jvm.MethodName)) ∈ lw_all := lw_g (lw_at lw_m6 157 rfl) rfl
theorem q1417 : (Jvm.Cond.privateMethod ({ cls := "LightPlateModel", name := "known", desc := "(II)I" } : Jvm.MethodName)) ∈ lw_tbl := lw_at lw_m6 158 rfl
theorem q1418 : (Jvm.Cond.instanceMethod ({ cls := "LightPlateModel", name := "known", desc := "(II)I" } : Jvm.MethodName)) ∈ lw_all := lw_g (lw_at lw_m6 159 rfl) rfl
theorem q1419 : (Jvm.Cond.code ({ cls := "LightPlateModel", name := "known", desc := "(II)I" } : Jvm.MethodName) prog_19_method_50_code (5 : Nat) (Option.some Jvm.ClassFile.FieldType.int)) ∈ lw_all := lw_g (lw_at lw_m6 160 rfl) rfl
theorem q1421 : (Jvm.Cond.instanceMethod ({ cls := "LightPlateModel", name := "since", desc := "()I" } : Jvm.MethodName)) ∈ lw_all := lw_g (lw_at lw_m6 162 rfl) rfl
theorem q1422 : (Jvm.Cond.selects "LightPlateModel" ({ cls := "LightPlateModel", name := "since", desc := "()I" } : Jvm.MethodName) ({ cls := "LightPlateModel", name := "since", desc := "()I" } : Jvm.MethodName)) ∈ lw_all := lw_g (lw_at lw_m6 163 rfl) rfl
theorem q1423 : (Jvm.Cond.code ({ cls := "LightPlateModel", name := "since", desc := "()I" } : Jvm.MethodName) prog_19_method_53_code (3 : Nat) (Option.some Jvm.ClassFile.FieldType.int)) ∈ lw_all := lw_g (lw_at lw_m6 164 rfl) rfl
theorem q1425 : (Jvm.Cond.instanceMethod ({ cls := "LightPlateModel", name := "found", desc := "(IIII)I" } : Jvm.MethodName)) ∈ lw_all := lw_g (lw_at lw_m6 166 rfl) rfl
theorem q1426 : (Jvm.Cond.selects "LightPlateModel" ({ cls := "LightPlateModel", name := "found", desc := "(IIII)I" } : Jvm.MethodName) ({ cls := "LightPlateModel", name := "found", desc := "(IIII)I" } : Jvm.MethodName)) ∈ lw_all := lw_g (lw_at lw_m6 167 rfl) rfl
theorem q1427 : (Jvm.Cond.code ({ cls := "LightPlateModel", name := "found", desc := "(IIII)I" } : Jvm.MethodName) prog_19_method_54_code (5 : Nat) (Option.some Jvm.ClassFile.FieldType.int)) ∈ lw_all := lw_g (lw_at lw_m6 168 rfl) rfl
theorem q1429 : (Jvm.Cond.instanceMethod ({ cls := "LightPlateModel", name := "probing", desc := "()I" } : Jvm.MethodName)) ∈ lw_all := lw_g (lw_at lw_m6 170 rfl) rfl
theorem q1430 : (Jvm.Cond.selects "LightPlateModel" ({ cls := "LightPlateModel", name := "probing", desc := "()I" } : Jvm.MethodName) ({ cls := "LightPlateModel", name := "probing", desc := "()I" } : Jvm.MethodName)) ∈ lw_all := lw_g (lw_at lw_m6 171 rfl) rfl
theorem q1431 : (Jvm.Cond.code ({ cls := "LightPlateModel", name := "probing", desc := "()I" } : Jvm.MethodName) prog_19_method_55_code (2 : Nat) (Option.some Jvm.ClassFile.FieldType.int)) ∈ lw_all := lw_g (lw_at lw_m6 172 rfl) rfl
theorem q1433 : (Jvm.Cond.instanceMethod ({ cls := "LightPlateModel", name := "probe", desc := "(II)I" } : Jvm.MethodName)) ∈ lw_all := lw_g (lw_at lw_m6 174 rfl) rfl
theorem q1434 : (Jvm.Cond.selects "LightPlateModel" ({ cls := "LightPlateModel", name := "probe", desc := "(II)I" } : Jvm.MethodName) ({ cls := "LightPlateModel", name := "probe", desc := "(II)I" } : Jvm.MethodName)) ∈ lw_all := lw_g (lw_at lw_m6 175 rfl) rfl
theorem q1435 : (Jvm.Cond.code ({ cls := "LightPlateModel", name := "probe", desc := "(II)I" } : Jvm.MethodName) prog_19_method_58_code (5 : Nat) (Option.some Jvm.ClassFile.FieldType.int)) ∈ lw_all := lw_g (lw_at lw_m6 176 rfl) rfl
theorem q1436 : (Jvm.Cond.methodLink "LightPlateModel" (295 : Nat) ({ cls := "LightPlateModel", name := "comesTo", desc := "(III)I" } : Jvm.MethodName)) ∈ lw_all := lw_g (lw_at lw_m6 177 rfl) rfl
theorem q1437 : (Jvm.Cond.privateMethod ({ cls := "LightPlateModel", name := "comesTo", desc := "(III)I" } : Jvm.MethodName)) ∈ lw_tbl := lw_at lw_m6 178 rfl
theorem q1438 : (Jvm.Cond.instanceMethod ({ cls := "LightPlateModel", name := "comesTo", desc := "(III)I" } : Jvm.MethodName)) ∈ lw_all := lw_g (lw_at lw_m6 179 rfl) rfl
theorem q1439 : (Jvm.Cond.code ({ cls := "LightPlateModel", name := "comesTo", desc := "(III)I" } : Jvm.MethodName) prog_19_method_57_code (5 : Nat) (Option.some Jvm.ClassFile.FieldType.int)) ∈ lw_all := lw_g (lw_at lw_m6 180 rfl) rfl
theorem q1440 : (Jvm.Cond.methodLink "LightPlateModel" (292 : Nat) ({ cls := "LightPlateModel", name := "more", desc := "(I)I" } : Jvm.MethodName)) ∈ lw_all := lw_g (lw_at lw_m6 181 rfl) rfl
theorem q1441 : (Jvm.Cond.static ({ cls := "LightPlateModel", name := "more", desc := "(I)I" } : Jvm.MethodName)) ∈ lw_all := lw_g (lw_at lw_m6 182 rfl) rfl
theorem q1442 : (Jvm.Cond.code ({ cls := "LightPlateModel", name := "more", desc := "(I)I" } : Jvm.MethodName) prog_19_method_56_code (1 : Nat) (Option.some Jvm.ClassFile.FieldType.int)) ∈ lw_all := lw_g (lw_at lw_m6 183 rfl) rfl
theorem q1444 : (Jvm.Cond.instanceMethod ({ cls := "LightPlateModel", name := "held", desc := "(I)I" } : Jvm.MethodName)) ∈ lw_all := lw_g (lw_at lw_m6 185 rfl) rfl
theorem q1445 : (Jvm.Cond.selects "LightPlateModel" ({ cls := "LightPlateModel", name := "held", desc := "(I)I" } : Jvm.MethodName) ({ cls := "LightPlateModel", name := "held", desc := "(I)I" } : Jvm.MethodName)) ∈ lw_all := lw_g (lw_at lw_m6 186 rfl) rfl
theorem q1446 : (Jvm.Cond.code ({ cls := "LightPlateModel", name := "held", desc := "(I)I" } : Jvm.MethodName) prog_19_method_59_code (4 : Nat) (Option.some Jvm.ClassFile.FieldType.int)) ∈ lw_all := lw_g (lw_at lw_m6 187 rfl) rfl
theorem q1448 : (Jvm.Cond.instanceMethod ({ cls := "LightPlateModel", name := "next", desc := "()I" } : Jvm.MethodName)) ∈ lw_all := lw_g (lw_at lw_m6 189 rfl) rfl
theorem q1449 : (Jvm.Cond.selects "LightPlateModel" ({ cls := "LightPlateModel", name := "next", desc := "()I" } : Jvm.MethodName) ({ cls := "LightPlateModel", name := "next", desc := "()I" } : Jvm.MethodName)) ∈ lw_all := lw_g (lw_at lw_m6 190 rfl) rfl
theorem q1450 : (Jvm.Cond.code ({ cls := "LightPlateModel", name := "next", desc := "()I" } : Jvm.MethodName) prog_19_method_60_code (8 : Nat) (Option.some Jvm.ClassFile.FieldType.int)) ∈ lw_all := lw_g (lw_at lw_m6 191 rfl) rfl
theorem q1451 : (Jvm.Cond.methodLink "LightPlateModel" (299 : Nat) ({ cls := "LightPlateModel", name := "held", desc := "(I)I" } : Jvm.MethodName)) ∈ lw_all := lw_g (lw_at lw_m6 192 rfl) rfl
theorem q1453 : (Jvm.Cond.instanceMethod ({ cls := "LightPlateModel", name := "claim", desc := "(III)I" } : Jvm.MethodName)) ∈ lw_all := lw_g (lw_at lw_m6 194 rfl) rfl
theorem q1454 : (Jvm.Cond.selects "LightPlateModel" ({ cls := "LightPlateModel", name := "claim", desc := "(III)I" } : Jvm.MethodName) ({ cls := "LightPlateModel", name := "claim", desc := "(III)I" } : Jvm.MethodName)) ∈ lw_all := lw_g (lw_at lw_m6 195 rfl) rfl
theorem q1455 : (Jvm.Cond.code ({ cls := "LightPlateModel", name := "claim", desc := "(III)I" } : Jvm.MethodName) prog_19_method_61_code (5 : Nat) (Option.some Jvm.ClassFile.FieldType.int)) ∈ lw_all := lw_g (lw_at lw_m6 196 rfl) rfl
theorem q1457 : (Jvm.Cond.instanceMethod ({ cls := "LightPlateModel", name := "meeting", desc := "()I" } : Jvm.MethodName)) ∈ lw_all := lw_g (lw_at lw_m6 198 rfl) rfl
theorem q1458 : (Jvm.Cond.selects "LightPlateModel" ({ cls := "LightPlateModel", name := "meeting", desc := "()I" } : Jvm.MethodName) ({ cls := "LightPlateModel", name := "meeting", desc := "()I" } : Jvm.MethodName)) ∈ lw_all := lw_g (lw_at lw_m6 199 rfl) rfl
theorem q1459 : (Jvm.Cond.code ({ cls := "LightPlateModel", name := "meeting", desc := "()I" } : Jvm.MethodName) prog_19_method_63_code (2 : Nat) (Option.some Jvm.ClassFile.FieldType.int)) ∈ lw_all := lw_g (lw_at lw_m6 200 rfl) rfl
theorem q1460 : (Jvm.Cond.methodLink "LightPlateModel" (302 : Nat) ({ cls := "LightPlateModel", name := "meets", desc := "(I)I" } : Jvm.MethodName)) ∈ lw_all := lw_g (lw_at lw_m6 201 rfl) rfl
theorem q1461 : (Jvm.Cond.privateMethod ({ cls := "LightPlateModel", name := "meets", desc := "(I)I" } : Jvm.MethodName)) ∈ lw_tbl := lw_at lw_m6 202 rfl
theorem q1462 : (Jvm.Cond.instanceMethod ({ cls := "LightPlateModel", name := "meets", desc := "(I)I" } : Jvm.MethodName)) ∈ lw_all := lw_g (lw_at lw_m6 203 rfl) rfl
theorem q1463 : (Jvm.Cond.code ({ cls := "LightPlateModel", name := "meets", desc := "(I)I" } : Jvm.MethodName) prog_19_method_62_code (6 : Nat) (Option.some Jvm.ClassFile.FieldType.int)) ∈ lw_all := lw_g (lw_at lw_m6 204 rfl) rfl
theorem q1465 : (Jvm.Cond.instanceMethod ({ cls := "LightPlateModel", name := "count", desc := "(I)I" } : Jvm.MethodName)) ∈ lw_all := lw_g (lw_at lw_m6 206 rfl) rfl
theorem q1466 : (Jvm.Cond.selects "LightPlateModel" ({ cls := "LightPlateModel", name := "count", desc := "(I)I" } : Jvm.MethodName) ({ cls := "LightPlateModel", name := "count", desc := "(I)I" } : Jvm.MethodName)) ∈ lw_all := lw_g (lw_at lw_m6 207 rfl) rfl
theorem q1467 : (Jvm.Cond.code ({ cls := "LightPlateModel", name := "count", desc := "(I)I" } : Jvm.MethodName) prog_19_method_65_code (4 : Nat) (Option.some Jvm.ClassFile.FieldType.int)) ∈ lw_all := lw_g (lw_at lw_m6 208 rfl) rfl
theorem q1468 : (Jvm.Cond.methodLink "LightPlateModel" (305 : Nat) ({ cls := "LightPlateModel", name := "layersUsed", desc := "()I" } : Jvm.MethodName)) ∈ lw_all := lw_g (lw_at lw_m6 209 rfl) rfl
theorem q1469 : (Jvm.Cond.privateMethod ({ cls := "LightPlateModel", name := "layersUsed", desc := "()I" } : Jvm.MethodName)) ∈ lw_tbl := lw_at lw_m6 210 rfl
theorem q1470 : (Jvm.Cond.instanceMethod ({ cls := "LightPlateModel", name := "layersUsed", desc := "()I" } : Jvm.MethodName)) ∈ lw_all := lw_g (lw_at lw_m6 211 rfl) rfl
theorem q1471 : (Jvm.Cond.code ({ cls := "LightPlateModel", name := "layersUsed", desc := "()I" } : Jvm.MethodName) prog_19_method_64_code (5 : Nat) (Option.some Jvm.ClassFile.FieldType.int)) ∈ lw_all := lw_g (lw_at lw_m6 212 rfl) rfl
theorem q1495 : (Jvm.Cond.castable "LightPlateModel" "java/lang/Object") ∈ lw_tbl := lw_at lw_m6 236 rfl
theorem in_X9 : ∀ w ∈ wsX90, w ∈ lw_all := lw_in wsX90 [1107, 1109, 1111, 1113, 1115, 1117, 1119, 1121, 1123, 1125, 1127, 1129, 1131, 1133, 1135, 1137, 1139, 1141, 1143, 1145, 1147, 1149, 1151, 1153, 1155, 1157, 1159, 1161, 1163, 1165, 1167, 1169, 1171, 1173, 1175, 1177, 1179, 1181, 1183, 1185, 1187, 1189, 1191, 1193, 1195, 1197, 1199, 1201, 1203, 1205, 1207, 1209] (by decide +kernel) (by decide +kernel)
